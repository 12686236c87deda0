section Leaf
variable {l : Launch} {B : Bs} {σ : Mem}
/-- what isIn answers -/
def inL (v a b : Int64) : Bool := decide (a ≤ v) && decide (v ≤ b)
theorem cX_isIn (v a b : Int64) : MT l B 0 0 0 yX0_isIn cX0_isIn 6 (some .boolean) [.long v, .long a, .long b] σ (pI fun r σ' => r = b2 (inL v a b) ∧ σ' = σ) := by
  refine MT.of (by decide) (Nat.le_of_ble_eq_true rfl) (fun g hg hr => ?_)
  refine y_lload_n hg dX0_isIn_0 rfl ?_
  refine y_lload_n hg dX0_isIn_1 rfl ?_
  refine y_lc_lt hg 17 dX0_isIn_2 dX0_isIn_3 (by decide) (fun hc => ?_) (fun hc => ?_)
  · refine y_iconst (v := nI 0) hg dX0_isIn_17 rfl ?_
    refine y_zret hg hr rfl ⟨_, rfl, ?_⟩ dX0_isIn_18 (Nat.le_refl _) (Nat.le_refl _)
    exact ⟨by rw [inL, decide_eq_false (Int64.not_le.mpr hc)]; rfl, rfl⟩
  refine y_lload_n hg dX0_isIn_6 rfl ?_
  refine y_lload hg dX0_isIn_7 rfl ?_
  refine y_lc_gt hg 17 dX0_isIn_9 dX0_isIn_10 (by decide) (fun hc2 => ?_) (fun hc2 => ?_)
  · refine y_iconst (v := nI 0) hg dX0_isIn_17 rfl ?_
    refine y_zret hg hr rfl ⟨_, rfl, ?_⟩ dX0_isIn_18 (Nat.le_refl _) (Nat.le_refl _)
    exact ⟨by rw [inL, decide_eq_false (Int64.not_le.mpr hc2), Bool.and_false]; rfl, rfl⟩
  refine y_iconst (v := nI 1) hg dX0_isIn_13 rfl ?_
  refine y_goto hg 18 dX0_isIn_14 (by decide) ?_
  refine y_zret hg hr rfl ⟨_, rfl, ?_⟩ dX0_isIn_18 (Nat.le_refl _) (Nat.le_refl _)
  exact ⟨by rw [inL, decide_eq_true (Int64.not_lt.mp hc), decide_eq_true (Int64.not_lt.mp hc2)]; rfl, rfl⟩
theorem cM_in (v a b : Int64) : MT l B 0 0 0 yX3_in cX3_in 6 (some .boolean) [.long v, .long a, .long b] σ (pI fun r σ' => r = b2 (inL v a b) ∧ σ' = σ) := by
  refine MT.of (by decide) (Nat.le_of_ble_eq_true rfl) (fun g hg hr => ?_)
  refine y_lload_n hg dX3_in_0 rfl ?_
  refine y_lload_n hg dX3_in_1 rfl ?_
  refine y_lc_lt hg 17 dX3_in_2 dX3_in_3 (by decide) (fun hc => ?_) (fun hc => ?_)
  · refine y_iconst (v := nI 0) hg dX3_in_17 rfl ?_
    refine y_zret hg hr rfl ⟨_, rfl, ?_⟩ dX3_in_18 (Nat.le_refl _) (Nat.le_refl _)
    exact ⟨by rw [inL, decide_eq_false (Int64.not_le.mpr hc)]; rfl, rfl⟩
  refine y_lload_n hg dX3_in_6 rfl ?_
  refine y_lload hg dX3_in_7 rfl ?_
  refine y_lc_gt hg 17 dX3_in_9 dX3_in_10 (by decide) (fun hc2 => ?_) (fun hc2 => ?_)
  · refine y_iconst (v := nI 0) hg dX3_in_17 rfl ?_
    refine y_zret hg hr rfl ⟨_, rfl, ?_⟩ dX3_in_18 (Nat.le_refl _) (Nat.le_refl _)
    exact ⟨by rw [inL, decide_eq_false (Int64.not_le.mpr hc2), Bool.and_false]; rfl, rfl⟩
  refine y_iconst (v := nI 1) hg dX3_in_13 rfl ?_
  refine y_goto hg 18 dX3_in_14 (by decide) ?_
  refine y_zret hg hr rfl ⟨_, rfl, ?_⟩ dX3_in_18 (Nat.le_refl _) (Nat.le_refl _)
  exact ⟨by rw [inL, decide_eq_true (Int64.not_lt.mp hc), decide_eq_true (Int64.not_lt.mp hc2)]; rfl, rfl⟩
/-- a bit of a set -/
def hasB (s k : Int32) : Bool := decide ((s >>> (k &&& 31)) &&& nI 1 = nI 1)
theorem cX_has (s k : Int32) : MT l B 0 0 0 yX0_has cX0_has 2 (some .boolean) [.int s, .int k] σ (pI fun r σ' => r = b2 (hasB s k) ∧ σ' = σ) := by
  refine MT.of (by decide) (Nat.le_of_ble_eq_true rfl) (fun g hg hr => ?_)
  refine y_iload_n hg dX0_has_0 rfl ?_
  refine y_iload_n hg dX0_has_1 rfl ?_
  refine y_ishr hg dX0_has_2 ?_
  refine y_iconst (v := nI 1) hg dX0_has_3 rfl ?_
  refine y_iand hg dX0_has_4 ?_
  refine y_iconst (v := nI 1) hg dX0_has_5 rfl ?_
  refine y_icmp_ne hg 13 dX0_has_6 (by decide) (fun hc => ?_) (fun hc => ?_)
  · refine y_iconst (v := nI 0) hg dX0_has_13 rfl ?_
    refine y_zret hg hr rfl ⟨_, rfl, ?_⟩ dX0_has_14 (Nat.le_refl _) (Nat.le_refl _)
    exact ⟨by rw [hasB, decide_eq_false hc]; rfl, rfl⟩
  refine y_iconst (v := nI 1) hg dX0_has_9 rfl ?_
  refine y_goto hg 14 dX0_has_10 (by decide) ?_
  refine y_zret hg hr rfl ⟨_, rfl, ?_⟩ dX0_has_14 (Nat.le_refl _) (Nat.le_refl _)
  exact ⟨by rw [hasB, decide_eq_true hc]; rfl, rfl⟩
theorem cM_has (s k : Int32) : MT l B 0 0 0 yX3_has cX3_has 2 (some .boolean) [.int s, .int k] σ (pI fun r σ' => r = b2 (hasB s k) ∧ σ' = σ) := by
  refine MT.of (by decide) (Nat.le_of_ble_eq_true rfl) (fun g hg hr => ?_)
  refine y_iload_n hg dX3_has_0 rfl ?_
  refine y_iload_n hg dX3_has_1 rfl ?_
  refine y_ishr hg dX3_has_2 ?_
  refine y_iconst (v := nI 1) hg dX3_has_3 rfl ?_
  refine y_iand hg dX3_has_4 ?_
  refine y_iconst (v := nI 1) hg dX3_has_5 rfl ?_
  refine y_icmp_ne hg 13 dX3_has_6 (by decide) (fun hc => ?_) (fun hc => ?_)
  · refine y_iconst (v := nI 0) hg dX3_has_13 rfl ?_
    refine y_zret hg hr rfl ⟨_, rfl, ?_⟩ dX3_has_14 (Nat.le_refl _) (Nat.le_refl _)
    exact ⟨by rw [hasB, decide_eq_false hc]; rfl, rfl⟩
  refine y_iconst (v := nI 1) hg dX3_has_9 rfl ?_
  refine y_goto hg 14 dX3_has_10 (by decide) ?_
  refine y_zret hg hr rfl ⟨_, rfl, ?_⟩ dX3_has_14 (Nat.le_refl _) (Nat.le_refl _)
  exact ⟨by rw [hasB, decide_eq_true hc]; rfl, rfl⟩
theorem cJ_min (x y : Int32) : MT l B 0 0 0 yJ0_min cJ0_min 2 (some .int) [.int x, .int y] σ (pI fun r σ' => r = (if y < x then y else x) ∧ σ' = σ) := by
  refine MT.ofF (by decide +kernel) (Nat.le_of_ble_eq_true rfl) (fun g hg hr => ?_)
  refine y_iload_n hg dJ0_min_0 rfl ?_
  refine y_iload_n hg dJ0_min_1 rfl ?_
  refine y_icmp_gt hg 9 dJ0_min_2 (by decide) (fun hc => ?_) (fun hc => ?_)
  · refine y_iload_n hg dJ0_min_9 rfl ?_
    refine y_iret hg hr ⟨_, rfl, ?_⟩ dJ0_min_10 (Nat.le_refl _) (Nat.le_refl _)
    exact ⟨by rw [if_pos hc], rfl⟩
  refine y_iload_n hg dJ0_min_5 rfl ?_
  refine y_goto hg 10 dJ0_min_6 (by decide) ?_
  refine y_iret hg hr ⟨_, rfl, ?_⟩ dJ0_min_10 (Nat.le_refl _) (Nat.le_refl _)
  exact ⟨by rw [if_neg hc], rfl⟩
theorem cJ_max (x y : Int32) : MT l B 0 0 0 yJ0_max cJ0_max 2 (some .int) [.int x, .int y] σ (pI fun r σ' => r = (if x < y then y else x) ∧ σ' = σ) := by
  refine MT.ofF (by decide +kernel) (Nat.le_of_ble_eq_true rfl) (fun g hg hr => ?_)
  refine y_iload_n hg dJ0_max_0 rfl ?_
  refine y_iload_n hg dJ0_max_1 rfl ?_
  refine y_icmp_lt hg 9 dJ0_max_2 (by decide) (fun hc => ?_) (fun hc => ?_)
  · refine y_iload_n hg dJ0_max_9 rfl ?_
    refine y_iret hg hr ⟨_, rfl, ?_⟩ dJ0_max_10 (Nat.le_refl _) (Nat.le_refl _)
    exact ⟨by rw [if_pos hc], rfl⟩
  refine y_iload_n hg dJ0_max_5 rfl ?_
  refine y_goto hg 10 dJ0_max_6 (by decide) ?_
  refine y_iret hg hr ⟨_, rfl, ?_⟩ dJ0_max_10 (Nat.le_refl _) (Nat.le_refl _)
  exact ⟨by rw [if_neg hc], rfl⟩
theorem cJ_abs (x : Int64) : MT l B 0 0 0 yJ0_abs cJ0_abs 2 (some .long) [.long x] σ (pL fun r σ' => r = (if x < 0 then -x else x) ∧ σ' = σ) := by
  refine MT.ofF (by decide +kernel) (Nat.le_of_ble_eq_true rfl) (fun g hg hr => ?_)
  refine y_lload_n hg dJ0_abs_0 rfl ?_
  refine y_lconst (v := 0) hg dJ0_abs_1 rfl ?_
  refine y_lc_ge hg 11 dJ0_abs_2 dJ0_abs_3 (by decide) (fun hc => ?_) (fun hc => ?_)
  · refine y_lload_n hg dJ0_abs_11 rfl ?_
    refine y_lret hg hr ⟨_, rfl, ?_⟩ dJ0_abs_12 (Nat.le_refl _) (Nat.le_refl _)
    exact ⟨by rw [if_neg (Int64.not_lt.mpr hc)], rfl⟩
  refine y_lload_n hg dJ0_abs_6 rfl ?_
  refine y_lneg hg dJ0_abs_7 ?_
  refine y_goto hg 12 dJ0_abs_8 (by decide) ?_
  refine y_lret hg hr ⟨_, rfl, ?_⟩ dJ0_abs_12 (Nat.le_refl _) (Nat.le_refl _)
  exact ⟨by rw [if_pos (Int64.not_le.mp hc)], rfl⟩
/-- the letters of a setting -/
theorem cX_size {k : Nat} (hT : IsS B σ k) : MT l B 0 0 0 yX1_size cX1_size 3 (some .int) [.ref (B.1 + k)] σ (pI fun r σ' => r = fo (fun x n => n + σ.2.2.1 (k + 1) x) 0 8 ∧ σ' = σ) := by
  refine MT.of (by decide) (Nat.le_of_ble_eq_true rfl) (fun g hg hr => ?_)
  refine y_iconst (v := nI 0) hg dX1_size_0 rfl ?_
  refine y_istore_n hg dX1_size_1 (by decide) (lv1 := [(0, _), (1, _)]) rfl ?_
  refine y_iconst (v := nI 0) hg dX1_size_2 rfl ?_
  refine y_istore_n hg dX1_size_3 (by decide) (lv1 := [(0, _), (1, _), (2, _)]) rfl ?_
  refine (loop_up (G := fun i => YY g 3 σ 0 0 4 [(0, .ref (B.1 + k)), (1, .int (fo (fun x n => n + σ.2.2.1 (k + 1) x) 0 i)), (2, .int (nI i))] []) 8 (fun i hi ih => ?_) ?_ 0 (by decide))
  · refine y_iload_n hg dX1_size_4 rfl ?_
    refine y_bipush (v := nI 8) hg dX1_size_5 rfl ?_
    refine y_icmp_ge hg 25 dX1_size_7 (by decide) (fun hT => absurd hT (ge_c hi (by decide))) (fun _ => ?_)
    refine y_iload_n hg dX1_size_10 rfl ?_
    refine y_aload_n hg dX1_size_11 rfl ?_
    refine y_getr (j := 0) hg cf1 (hT.o) (by decide) rfl (hT.r_bag) q118 dX1_size_12 ?_
    refine y_iload_n hg dX1_size_15 rfl ?_
    refine y_iald hg _ (hT.k_bag) rfl (by omega) dX1_size_16 ?_
    refine y_iadd hg dX1_size_17 ?_
    refine y_istore_n hg dX1_size_18 (by decide) (lv1 := [(0, _), (1, _), (2, _)]) rfl ?_
    refine y_iinc hg dX1_size_19 rfl (inc1 _) (by decide) (lv1 := [(0, _), (1, _), (2, _)]) rfl ?_
    refine y_goto hg 4 dX1_size_22 (by decide) ?_
    exact ih
  · refine y_iload_n hg dX1_size_4 rfl ?_
    refine y_bipush (v := nI 8) hg dX1_size_5 rfl ?_
    refine y_icmp_ge hg 25 dX1_size_7 (by decide) (fun _ => ?_) (fun hF => absurd (le_c (Nat.le_refl 8) (by decide)) hF)
    refine y_iload_n hg dX1_size_25 rfl ?_
    refine y_iret hg hr ⟨_, rfl, ?_⟩ dX1_size_26 (Nat.le_refl _) (Nat.le_refl _)
    exact ⟨rfl, rfl⟩
theorem cM_bagOf {k n : Nat} (hA : KA σ k 0 n) (hn : 8 ≤ n) : MT l B 0 0 0 yX3_bagOf cX3_bagOf 3 (some .int) [.ref (B.1 + k)] σ (pI fun r σ' => r = fo (fun x n => n + σ.2.2.1 k x) 0 8 ∧ σ' = σ) := by
  refine MT.of (by decide) (Nat.le_of_ble_eq_true rfl) (fun g hg hr => ?_)
  refine y_iconst (v := nI 0) hg dX3_bagOf_0 rfl ?_
  refine y_istore_n hg dX3_bagOf_1 (by decide) (lv1 := [(0, _), (1, _)]) rfl ?_
  refine y_iconst (v := nI 0) hg dX3_bagOf_2 rfl ?_
  refine y_istore_n hg dX3_bagOf_3 (by decide) (lv1 := [(0, _), (1, _), (2, _)]) rfl ?_
  refine (loop_up (G := fun i => YY g 3 σ 0 0 4 [(0, .ref (B.1 + k)), (1, .int (fo (fun x n => n + σ.2.2.1 k x) 0 i)), (2, .int (nI i))] []) 8 (fun i hi ih => ?_) ?_ 0 (by decide))
  · refine y_iload_n hg dX3_bagOf_4 rfl ?_
    refine y_bipush (v := nI 8) hg dX3_bagOf_5 rfl ?_
    refine y_icmp_ge hg 22 dX3_bagOf_7 (by decide) (fun hT => absurd hT (ge_c hi (by decide))) (fun _ => ?_)
    refine y_iload_n hg dX3_bagOf_10 rfl ?_
    refine y_aload_n hg dX3_bagOf_11 rfl ?_
    refine y_iload_n hg dX3_bagOf_12 rfl ?_
    refine y_iald hg _ (hA) rfl (by omega) dX3_bagOf_13 ?_
    refine y_iadd hg dX3_bagOf_14 ?_
    refine y_istore_n hg dX3_bagOf_15 (by decide) (lv1 := [(0, _), (1, _), (2, _)]) rfl ?_
    refine y_iinc hg dX3_bagOf_16 rfl (inc1 _) (by decide) (lv1 := [(0, _), (1, _), (2, _)]) rfl ?_
    refine y_goto hg 4 dX3_bagOf_19 (by decide) ?_
    exact ih
  · refine y_iload_n hg dX3_bagOf_4 rfl ?_
    refine y_bipush (v := nI 8) hg dX3_bagOf_5 rfl ?_
    refine y_icmp_ge hg 22 dX3_bagOf_7 (by decide) (fun _ => ?_) (fun hF => absurd (le_c (Nat.le_refl 8) (by decide)) hF)
    refine y_iload_n hg dX3_bagOf_22 rfl ?_
    refine y_iret hg hr ⟨_, rfl, ?_⟩ dX3_bagOf_23 (Nat.le_refl _) (Nat.le_refl _)
    exact ⟨rfl, rfl⟩
/-- how often a word can be made -/
def timesF (h b : Nat → Int32) (x : Nat) (n : Int32) : Int32 := if 0 < h x then (if b x / h x < n then b x / h x else n) else n
theorem cX_times {k kb n : Nat} (hT : IsW B σ k) (hA : KA σ kb 0 n) (hn : 8 ≤ n) : MT l B 1 0 0 yX2_times cX2_times 4 (some .int) [.ref (B.1 + k), .ref (B.1 + kb)] σ (pI fun r σ' => r = fo (timesF (σ.2.2.1 (k + 2)) (σ.2.2.1 kb)) (nI 12) 8 ∧ σ' = σ) := by
  refine MT.of (by decide) (Nat.le_of_ble_eq_true rfl) (fun g hg hr => ?_)
  refine y_bipush (v := nI 12) hg dX2_times_0 rfl ?_
  refine y_istore_n hg dX2_times_2 (by decide) (lv1 := [(0, _), (1, _), (2, _)]) rfl ?_
  refine y_iconst (v := nI 0) hg dX2_times_3 rfl ?_
  refine y_istore_n hg dX2_times_4 (by decide) (lv1 := [(0, _), (1, _), (2, _), (3, _)]) rfl ?_
  refine (loop_up (G := fun i => YY g 4 σ 0 0 5 [(0, .ref (B.1 + k)), (1, .ref (B.1 + kb)), (2, .int (fo (timesF (σ.2.2.1 (k + 2)) (σ.2.2.1 kb)) (nI 12) i)), (3, .int (nI i))] []) 8 (fun i hi ih => ?_) ?_ 0 (by decide))
  · have J : ∀ v : Int32, v = fo (timesF (σ.2.2.1 (k + 2)) (σ.2.2.1 kb)) (nI 12) (i + 1) → YY g 4 σ 0 0 38 [(0, .ref (B.1 + k)), (1, .ref (B.1 + kb)), (2, .int (fo (timesF (σ.2.2.1 (k + 2)) (σ.2.2.1 kb)) (nI 12) i)), (3, .int (nI i))] [.int v] := by
      intro v hv
      subst hv
      refine y_istore_n hg dX2_times_38 (by decide) (lv1 := [(0, _), (1, _), (2, _), (3, _)]) rfl ?_
      refine y_iinc hg dX2_times_39 rfl (inc1 _) (by decide) (lv1 := [(0, _), (1, _), (2, _), (3, _)]) rfl ?_
      refine y_goto hg 5 dX2_times_42 (by decide) ?_
      exact ih
    refine y_iload_n hg dX2_times_5 rfl ?_
    refine y_bipush (v := nI 8) hg dX2_times_6 rfl ?_
    refine y_icmp_ge hg 45 dX2_times_8 (by decide) (fun hT => absurd hT (ge_c hi (by decide))) (fun _ => ?_)
    refine y_aload_n hg dX2_times_11 rfl ?_
    refine y_getr (j := 3) hg cf2 (hT.o) (by decide) rfl (hT.r_has) q159 dX2_times_12 ?_
    refine y_iload_n hg dX2_times_15 rfl ?_
    refine y_iald hg _ (hT.k_has) rfl (by omega) dX2_times_16 ?_
    refine y_if_le hg 37 dX2_times_17 (by decide) (fun hc => ?_) (fun hc => ?_)
    · refine y_iload_n hg dX2_times_37 rfl ?_
      exact J _ (by show _ = timesF _ _ i _; rw [timesF, if_neg (Int32.not_lt.mpr hc)])
    · refine y_iload_n hg dX2_times_20 rfl ?_
      refine y_aload_n hg dX2_times_21 rfl ?_
      refine y_iload_n hg dX2_times_22 rfl ?_
      refine y_iald hg _ (hA) rfl (by omega) dX2_times_23 ?_
      refine y_aload_n hg dX2_times_24 rfl ?_
      refine y_getr (j := 3) hg cf2 (hT.o) (by decide) rfl (hT.r_has) q159 dX2_times_25 ?_
      refine y_iload_n hg dX2_times_28 rfl ?_
      refine y_iald hg _ (hT.k_has) rfl (by omega) dX2_times_29 ?_
      refine y_idiv hg dX2_times_30 (fun e => hc (by rw [e]; decide)) ?_
      refine y_cSi hg (cJ_min _ _) iJ0_min q393 rfl rfl (by simp [Value.category]) (Nat.le_refl _) (Nat.le_refl _) (by decide) dX2_times_31 (fun r σ1 hp => ?_)
      obtain ⟨rfl, rfl⟩ := hp
      refine y_goto hg 38 dX2_times_34 (by decide) ?_
      exact J _ (by show _ = timesF _ _ i _; rw [timesF, if_pos (Int32.not_le.mp hc)])
  · refine y_iload_n hg dX2_times_5 rfl ?_
    refine y_bipush (v := nI 8) hg dX2_times_6 rfl ?_
    refine y_icmp_ge hg 45 dX2_times_8 (by decide) (fun _ => ?_) (fun hF => absurd (le_c (Nat.le_refl 8) (by decide)) hF)
    refine y_iload_n hg dX2_times_45 rfl ?_
    refine y_iret hg hr ⟨_, rfl, ?_⟩ dX2_times_46 (Nat.le_refl _) (Nat.le_refl _)
    exact ⟨rfl, rfl⟩
end Leaf

