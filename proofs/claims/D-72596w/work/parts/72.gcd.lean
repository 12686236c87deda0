section Gcd
variable {l : Launch} {B : Bs} {σ : Mem}
theorem rem_i (x y : Int64) (h : ¬ y = 0) : (x - x / y * y).toInt = x.toInt.tmod y.toInt := by
  have hy : y.toInt ≠ 0 := fun z => h (Int64.toInt_inj.mp (by rw [z]; rfl))
  rw [Int64.toInt_sub, Int64.toInt_mul, Int64.toInt_div, Int.bmod_mul_bmod, Int.sub_bmod_bmod]
  have e : x.toInt - x.toInt.tdiv y.toInt * y.toInt = x.toInt.tmod y.toInt := by
    have := Int.mul_tdiv_add_tmod x.toInt y.toInt
    rw [Int.mul_comm] at this
    omega
  rw [e]
  have h1 := Int.natAbs_tmod x.toInt y.toInt
  have h2 : x.toInt.natAbs % y.toInt.natAbs < y.toInt.natAbs := Nat.mod_lt _ (by omega)
  have h3 := y.toInt_lt
  have h4 := y.le_toInt
  exact Int.bmod_eq_of_le (by omega) (by omega)
theorem rem_lt (x y : Int64) (h : ¬ y = 0) : (x - x / y * y).toInt.natAbs < y.toInt.natAbs := by
  have hy : y.toInt ≠ 0 := fun z => h (Int64.toInt_inj.mp (by rw [z]; rfl))
  rw [rem_i x y h, Int.natAbs_tmod]
  exact Nat.mod_lt _ (by omega)
def gcL : Nat → Int64 → Int64 → Int64
  | 0, x, _ => x
  | m + 1, x, y => if y = 0 then x else gcL m y (x - x / y * y)
theorem gcL_nz : ∀ (m : Nat) (x y : Int64), y.toInt.natAbs < m → (¬ x = 0 ∨ ¬ y = 0) → ¬ gcL m x y = 0
  | 0, _, _, h, _ => by omega
  | m + 1, x, y, h, hz => by
    unfold gcL
    split
    · rename_i e
      exact hz.resolve_right (fun q => q e)
    · rename_i e
      exact gcL_nz m y _ (by have := rem_lt x y e; omega) (Or.inl e)
def gcd2 (a b : Int64) : Int64 := gcL (b.toInt.natAbs + 1) (if a < 0 then -a else a) b
theorem gcd2_nz {a b : Int64} (h : ¬ b = 0) : ¬ gcd2 a b = 0 := gcL_nz _ _ _ (by omega) (Or.inr h)
theorem cX_common (a b : Int64) : MT l B 1 0 0 yX0_common cX0_common 10 (some .long) [.long a, .long b] σ (pL fun r σ' => r = gcd2 a b ∧ σ' = σ) := by
  refine MT.of (by decide) (Nat.le_of_ble_eq_true rfl) (fun g hg hr => ?_)
  refine y_lload_n hg dX0_common_0 rfl ?_
  refine y_cSl hg (cJ_abs _) iJ0_abs q872 rfl rfl (by simp [Value.category]) (Nat.le_refl _) (Nat.le_refl _) (by decide) dX0_common_1 (fun r σ1 hp => ?_)
  obtain ⟨rfl, rfl⟩ := hp
  refine y_lstore hg dX0_common_4 (by decide) (lv1 := [(0, _), (2, _), (4, _)]) rfl ?_
  refine y_lload_n hg dX0_common_6 rfl ?_
  refine y_lstore hg dX0_common_7 (by decide) (lv1 := [(0, _), (2, _), (4, _), (6, _)]) rfl ?_
  have LOOP : ∀ (m : Nat) (x y : Int64), y.toInt.natAbs < m → gcL m x y = gcd2 a b → YY g 10 σ1 0 0 9 [(0, .long a), (2, .long b), (4, .long x), (6, .long y)] [] := by
    intro m
    induction m with
    | zero => intro x y h; omega
    | succ m ih =>
      intro x y h hg2
      unfold gcL at hg2
      refine y_lload hg dX0_common_9 rfl ?_
      refine y_lconst (v := 0) hg dX0_common_11 rfl ?_
      refine y_lc_eq hg 34 dX0_common_12 dX0_common_13 (by decide) (fun hc => ?_) (fun hc => ?_)
      · rw [if_pos hc] at hg2
        refine y_lload hg dX0_common_34 rfl ?_
        refine y_lret hg hr ⟨_, rfl, ?_⟩ dX0_common_36 (Nat.le_refl _) (Nat.le_refl _)
        exact ⟨hg2, rfl⟩
      · rw [if_neg hc] at hg2
        refine y_lload hg dX0_common_16 rfl ?_
        refine y_lload hg dX0_common_18 rfl ?_
        refine y_lrem hg dX0_common_20 hc ?_
        refine y_lstore hg dX0_common_21 (by decide) (lv1 := [(0, _), (2, _), (4, _), (6, _), (8, _)]) rfl ?_
        refine y_lload hg dX0_common_23 rfl ?_
        refine y_lstore hg dX0_common_25 (by decide) (lv1 := [(0, _), (2, _), (4, _), (6, _), (8, _)]) rfl ?_
        refine y_lload hg dX0_common_27 rfl ?_
        refine y_lstore hg dX0_common_29 (by decide) (lv1 := [(0, _), (2, _), (4, _), (6, _), (8, _)]) rfl ?_
        refine y_goto hg 9 dX0_common_31 (by decide) ?_
        refine y_sub [0, 1, 2, 3] rfl (ih _ _ ?_ hg2)
        have := rem_lt x y hc
        omega
  exact LOOP _ _ _ (by omega) rfl
def frac (a b : Int64) (u : Int32) : Int64 := if u = 0 then b / gcd2 a b else a / gcd2 a b
theorem cM_fraction (a b : Int64) (u : Int32) (hb : ¬ b = 0) : MT l B 1 0 0 yX3_fraction cX3_fraction 11 (some .long) [.long a, .long b, .int u] σ (pL fun r σ' => r = frac a b u ∧ σ' = σ) := by
  have hz := gcd2_nz (a := a) hb
  refine MT.of (by decide) (Nat.le_of_ble_eq_true rfl) (fun g hg hr => ?_)
  have LOOP : ∀ (m : Nat) (x y : Int64), y.toInt.natAbs < m → gcL m x y = gcd2 a b → YY g 11 σ 0 0 17 [(0, .long a), (2, .long b), (4, .int u), (5, .long x), (7, .long y)] [] := by
    intro m
    induction m with
    | zero => intro x y h; omega
    | succ m ih =>
      intro x y h hg2
      unfold gcL at hg2
      refine y_lload hg dX3_fraction_17 rfl ?_
      refine y_lconst (v := 0) hg dX3_fraction_19 rfl ?_
      refine y_lc_eq hg 42 dX3_fraction_20 dX3_fraction_21 (by decide) (fun hc => ?_) (fun hc => ?_)
      · rw [if_pos hc] at hg2
        subst hg2
        refine y_iload hg dX3_fraction_42 rfl ?_
        refine y_if_eq hg 54 dX3_fraction_44 (by decide) (fun hu => ?_) (fun hu => ?_)
        · refine y_lload_n hg dX3_fraction_54 rfl ?_
          refine y_lload hg dX3_fraction_55 rfl ?_
          refine y_ldiv hg dX3_fraction_57 hz ?_
          refine y_lret hg hr ⟨_, rfl, ?_⟩ dX3_fraction_58 (Nat.le_refl _) (Nat.le_refl _)
          exact ⟨by unfold frac; rw [if_pos hu], rfl⟩
        · refine y_lload_n hg dX3_fraction_47 rfl ?_
          refine y_lload hg dX3_fraction_48 rfl ?_
          refine y_ldiv hg dX3_fraction_50 hz ?_
          refine y_goto hg 58 dX3_fraction_51 (by decide) ?_
          refine y_lret hg hr ⟨_, rfl, ?_⟩ dX3_fraction_58 (Nat.le_refl _) (Nat.le_refl _)
          exact ⟨by unfold frac; rw [if_neg hu], rfl⟩
      · rw [if_neg hc] at hg2
        refine y_lload hg dX3_fraction_24 rfl ?_
        refine y_lload hg dX3_fraction_26 rfl ?_
        refine y_lrem hg dX3_fraction_28 hc ?_
        refine y_lstore hg dX3_fraction_29 (by decide) (lv1 := [(0, _), (2, _), (4, _), (5, _), (7, _), (9, _)]) rfl ?_
        refine y_lload hg dX3_fraction_31 rfl ?_
        refine y_lstore hg dX3_fraction_33 (by decide) (lv1 := [(0, _), (2, _), (4, _), (5, _), (7, _), (9, _)]) rfl ?_
        refine y_lload hg dX3_fraction_35 rfl ?_
        refine y_lstore hg dX3_fraction_37 (by decide) (lv1 := [(0, _), (2, _), (4, _), (5, _), (7, _), (9, _)]) rfl ?_
        refine y_goto hg 17 dX3_fraction_39 (by decide) ?_
        refine y_sub [0, 1, 2, 3, 4] rfl (ih _ _ ?_ hg2)
        have := rem_lt x y hc
        omega
  have J : ∀ x : Int64, x = (if a < 0 then -a else a) → YY g 11 σ 0 0 12 [(0, .long a), (2, .long b), (4, .int u)] [.long x] := by
    intro x hx
    subst hx
    refine y_lstore hg dX3_fraction_12 (by decide) (lv1 := [(0, _), (2, _), (4, _), (5, _)]) rfl ?_
    refine y_lload_n hg dX3_fraction_14 rfl ?_
    refine y_lstore hg dX3_fraction_15 (by decide) (lv1 := [(0, _), (2, _), (4, _), (5, _), (7, _)]) rfl ?_
    exact LOOP _ _ _ (by omega) rfl
  refine y_lload_n hg dX3_fraction_0 rfl ?_
  refine y_lconst (v := 0) hg dX3_fraction_1 rfl ?_
  refine y_lc_ge hg 11 dX3_fraction_2 dX3_fraction_3 (by decide) (fun hc => ?_) (fun hc => ?_)
  · refine y_lload_n hg dX3_fraction_11 rfl ?_
    exact J _ (by rw [if_neg (Int64.not_lt.mpr hc)])
  · refine y_lload_n hg dX3_fraction_6 rfl ?_
    refine y_lneg hg dX3_fraction_7 ?_
    refine y_goto hg 12 dX3_fraction_8 (by decide) ?_
    exact J _ (by rw [if_pos (Int64.not_le.mp hc)])
end Gcd

