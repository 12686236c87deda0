section Leaf2
variable {l : Launch} {B : Bs} {σ : Mem}
/-- a setting as one row: letters, barred, ranks, begins, ends, follows -/
def rowOf (σ : Mem) (k j : Nat) : Int32 := if j < 8 then σ.2.2.1 (k + 1) j else if j = 8 then σ.2.2.1 k 1 else if j < 19 then σ.2.2.1 (k + 2) (j - 9) else if j = 19 then σ.2.2.1 k 3 else if j = 20 then σ.2.2.1 k 4 else σ.2.2.1 (k + 3) (j - 21)
theorem ro_bag {k x : Nat} (h : x < 8) : rowOf σ k x = σ.2.2.1 (k + 1) x := by simp [rowOf, h]
theorem ro_barred {k : Nat} : rowOf σ k 8 = σ.2.2.1 k 1 := by simp [rowOf]
theorem ro_ranks {k w : Nat} (h : w < 10) : rowOf σ k (9 + w) = σ.2.2.1 (k + 2) w := by
  unfold rowOf
  rw [if_neg (by omega), if_neg (by omega), if_pos (by omega), Nat.add_sub_cancel_left]
theorem ro_begins {k : Nat} : rowOf σ k 19 = σ.2.2.1 k 3 := by simp [rowOf]
theorem ro_ends {k : Nat} : rowOf σ k 20 = σ.2.2.1 k 4 := by simp [rowOf]
theorem ro_follows {k q : Nat} : rowOf σ k (21 + q) = σ.2.2.1 (k + 3) q := by
  unfold rowOf
  rw [if_neg (by omega), if_neg (by omega), if_neg (by omega), if_neg (by omega), if_neg (by omega), Nat.add_sub_cancel_left]
/-- the places of a setting -/
def SP (k : Nat) : Nat → Nat → Prop := fun a _ => k ≤ a ∧ a ≤ k + 3
/-- the places of a word -/
def WP (k : Nat) : Nat → Nat → Prop := fun a _ => k ≤ a ∧ a ≤ k + 2
theorem cX_scopy {k o : Nat} (hT : IsS B σ k) (hO : IsS B σ o) (hd : k + 3 < o ∨ o + 3 < k) : MT l B 1 0 0 yX1_copy cX1_copy 2 none [.ref (B.1 + k), .ref (B.1 + o)] σ (pV fun σ' => FrR (SP k) σ σ' ∧ ∀ j, rowOf σ' k j = if j < 25 then rowOf σ o j else rowOf σ k j) := by
  refine MT.of (by decide) (Nat.le_of_ble_eq_true rfl) (fun g hg hr => ?_)
  refine y_aload_n hg dX1_copy_0 rfl ?_
  refine y_getr (j := 0) hg cf1 (hO.o) (by decide) rfl (hO.r_bag) q118 dX1_copy_1 ?_
  refine y_iconst (v := nI 0) hg dX1_copy_4 rfl ?_
  refine y_aload_n hg dX1_copy_5 rfl ?_
  refine y_getr (j := 0) hg cf1 (hT.o) (by decide) rfl (hT.r_bag) q118 dX1_copy_6 ?_
  refine y_iconst (v := nI 0) hg dX1_copy_9 rfl ?_
  refine y_bipush (v := nI 8) hg dX1_copy_10 rfl ?_
  refine y_acopy hg 8 (hO.k_bag) (hT.k_bag) rfl (by omega) (by omega) q305 (by decide) (by decide) dX1_copy_12 ?_
  refine y_aload_n hg dX1_copy_15 rfl ?_
  refine y_aload_n hg dX1_copy_16 rfl ?_
  refine y_geti (j := 1) hg cf1 (hO.o) (by decide) rfl q120 dX1_copy_17 ?_
  refine y_puti (j := 1) hg cf1 (hT.o) (by decide) rfl rfl q120 dX1_copy_20 ?_
  refine y_aload_n hg dX1_copy_23 rfl ?_
  refine y_getr (j := 2) hg cf1 (hO.o) (by decide) rfl (hO.r_ranks) q122 dX1_copy_24 ?_
  refine y_iconst (v := nI 0) hg dX1_copy_27 rfl ?_
  refine y_aload_n hg dX1_copy_28 rfl ?_
  refine y_getr (j := 2) hg cf1 (hT.o) (by decide) rfl (hT.r_ranks) q122 dX1_copy_29 ?_
  refine y_iconst (v := nI 0) hg dX1_copy_32 rfl ?_
  refine y_bipush (v := nI 10) hg dX1_copy_33 rfl ?_
  refine y_acopy hg 10 (hO.k_ranks) (hT.k_ranks) rfl (by omega) (by omega) q305 (by decide) (by decide) dX1_copy_35 ?_
  refine y_aload_n hg dX1_copy_38 rfl ?_
  refine y_aload_n hg dX1_copy_39 rfl ?_
  refine y_geti (j := 3) hg cf1 (hO.o) (by decide) rfl q124 dX1_copy_40 ?_
  refine y_puti (j := 3) hg cf1 (hT.o) (by decide) rfl rfl q124 dX1_copy_43 ?_
  refine y_aload_n hg dX1_copy_46 rfl ?_
  refine y_aload_n hg dX1_copy_47 rfl ?_
  refine y_geti (j := 4) hg cf1 (hO.o) (by decide) rfl q126 dX1_copy_48 ?_
  refine y_puti (j := 4) hg cf1 (hT.o) (by decide) rfl rfl q126 dX1_copy_51 ?_
  refine y_aload_n hg dX1_copy_54 rfl ?_
  refine y_getr (j := 5) hg cf1 (hO.o) (by decide) rfl (hO.r_follows) q128 dX1_copy_55 ?_
  refine y_iconst (v := nI 0) hg dX1_copy_58 rfl ?_
  refine y_aload_n hg dX1_copy_59 rfl ?_
  refine y_getr (j := 5) hg cf1 (hT.o) (by decide) rfl (hT.r_follows) q128 dX1_copy_60 ?_
  refine y_iconst (v := nI 0) hg dX1_copy_63 rfl ?_
  refine y_iconst (v := nI 4) hg dX1_copy_64 rfl ?_
  refine y_acopy hg 4 (hO.k_follows) (hT.k_follows) rfl (by omega) (by omega) q305 (by decide) (by decide) dX1_copy_65 ?_
  refine y_vret hg hr ⟨rfl, ?_⟩ dX1_copy_68 (Nat.le_refl _) (Nat.le_refl _)
  refine ⟨?_, fun j => ?_⟩
  · exact FrR.stRow (FrR.stI (FrR.stI (FrR.stRow (FrR.stI (FrR.stRow FrR.rf (fun j h => absurd (show SP k (k + 1) j from ⟨by omega, by omega⟩) h)) (show SP k k 1 from ⟨by omega, by omega⟩)) (fun j h => absurd (show SP k (k + 2) j from ⟨by omega, by omega⟩) h)) (show SP k k 3 from ⟨by omega, by omega⟩)) (show SP k k 4 from ⟨by omega, by omega⟩)) (fun j h => absurd (show SP k (k + 3) j from ⟨by omega, by omega⟩) h)
  · have n00 : ¬ o = k := by omega
    have n01 : ¬ o = k + 1 := by omega
    have n02 : ¬ o = k + 2 := by omega
    have n03 : ¬ o = k + 3 := by omega
    have n10 : ¬ o + 1 = k := by omega
    have n11 : ¬ o + 1 = k + 1 := by omega
    have n12 : ¬ o + 1 = k + 2 := by omega
    have n13 : ¬ o + 1 = k + 3 := by omega
    have n20 : ¬ o + 2 = k := by omega
    have n21 : ¬ o + 2 = k + 1 := by omega
    have n22 : ¬ o + 2 = k + 2 := by omega
    have n23 : ¬ o + 2 = k + 3 := by omega
    have n30 : ¬ o + 3 = k := by omega
    have n31 : ¬ o + 3 = k + 1 := by omega
    have n32 : ¬ o + 3 = k + 2 := by omega
    have n33 : ¬ o + 3 = k + 3 := by omega
    generalize hτ : rowI _ (k + 3) _ = τ
    have h1 : ∀ x, τ.2.2.1 (k + 1) x = if x < 8 then σ.2.2.1 (o + 1) x else σ.2.2.1 (k + 1) x := by intro x; subst hτ; simp [rowI, setI, up1, up2, n00, n01, n02, n03, n10, n11, n12, n13, n20, n21, n22, n23, n30, n31, n32, n33]
    have h2 : τ.2.2.1 k 1 = σ.2.2.1 o 1 := by subst hτ; simp [rowI, setI, up1, up2, n00, n01, n02, n03, n10, n11, n12, n13, n20, n21, n22, n23, n30, n31, n32, n33]
    have h3 : ∀ x, τ.2.2.1 (k + 2) x = if x < 10 then σ.2.2.1 (o + 2) x else σ.2.2.1 (k + 2) x := by intro x; subst hτ; simp [rowI, setI, up1, up2, n00, n01, n02, n03, n10, n11, n12, n13, n20, n21, n22, n23, n30, n31, n32, n33]
    have h4 : τ.2.2.1 k 3 = σ.2.2.1 o 3 := by subst hτ; simp [rowI, setI, up1, up2, n00, n01, n02, n03, n10, n11, n12, n13, n20, n21, n22, n23, n30, n31, n32, n33]
    have h5 : τ.2.2.1 k 4 = σ.2.2.1 o 4 := by subst hτ; simp [rowI, setI, up1, up2, n00, n01, n02, n03, n10, n11, n12, n13, n20, n21, n22, n23, n30, n31, n32, n33]
    have h6 : ∀ x, τ.2.2.1 (k + 3) x = if x < 4 then σ.2.2.1 (o + 3) x else σ.2.2.1 (k + 3) x := by intro x; subst hτ; simp [rowI, setI, up1, up2, n00, n01, n02, n03, n10, n11, n12, n13, n20, n21, n22, n23, n30, n31, n32, n33]
    simp only [rowOf, h1, h2, h3, h4, h5, h6]
    by_cases q1 : j < 8
    · simp [q1, show j < 25 by omega]
    by_cases q2 : j = 8
    · simp [q2]
    by_cases q3 : j < 19
    · simp [q1, q2, q3, show j < 25 by omega, show j - 9 < 10 by omega]
    by_cases q4 : j = 19
    · simp [q4]
    by_cases q5 : j = 20
    · simp [q5]
    by_cases q6 : j < 25
    · simp [q1, q2, q3, q4, q5, q6, show j - 21 < 4 by omega]
    · simp [q1, q2, q3, q4, q5, q6, show ¬ j - 21 < 4 by omega]
end Leaf2

