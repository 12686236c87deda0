/-! ===== sets as bits ===== -/
theorem bt_1 : ∀ i, i < 32 → bt (nI 1) i = decide (i = 0) := by decide +kernel
theorem hasB_bt {k : Nat} (hk : k < 32) (s : Int32) : hasB s (nI k) = bt s k := by
  unfold hasB
  have e : ∀ i, i < 32 → bt ((s >>> (nI k &&& 31)) &&& nI 1) i = (bt s k && decide (i = 0)) := by
    intro i hi
    rw [b_and, b_sshr k hk s hi, bt_1 i hi]
    by_cases h0 : i = 0
    · subst h0; rw [if_pos (by omega)]; rfl
    · rw [decide_eq_false h0, Bool.and_false, Bool.and_false]
  cases h : bt s k
  · refine decide_eq_false (fun q => ?_)
    have h1 := e 0 (by omega)
    rw [q, h, bt_1 0 (by omega)] at h1
    exact absurd h1 (by decide)
  · refine decide_eq_true (b_ext (fun i hi => ?_))
    rw [e i hi, h, bt_1 i hi]
    rfl
theorem hb_or {k : Nat} (hk : k < 32) (a b : Int32) : hasB (a ||| b) (nI k) = (hasB a (nI k) || hasB b (nI k)) := by rw [hasB_bt hk, hasB_bt hk, hasB_bt hk, b_or]
theorem hb_and {k : Nat} (hk : k < 32) (a b : Int32) : hasB (a &&& b) (nI k) = (hasB a (nI k) && hasB b (nI k)) := by rw [hasB_bt hk, hasB_bt hk, hasB_bt hk, b_and]
theorem hb_xor {k : Nat} (hk : k < 32) (a b : Int32) : hasB (a ^^^ b) (nI k) = (hasB a (nI k) ^^ hasB b (nI k)) := by rw [hasB_bt hk, hasB_bt hk, hasB_bt hk, b_xor]
theorem hb_not {k : Nat} (hk : k < 32) (a : Int32) : hasB (a ^^^ -1) (nI k) = !hasB a (nI k) := by rw [hasB_bt hk, hasB_bt hk, b_xor, b_m1 k hk, Bool.xor_true]
theorem hb_0 {k : Nat} (hk : k < 32) : hasB 0 (nI k) = false := by rw [hasB_bt hk, b_0]
theorem hb_sh {k w : Nat} (hk : k < 32) (hw : w < 32) : hasB (nI 1 <<< (nI w &&& 31)) (nI k) = decide (k = w) := by
  rw [hasB_bt hk, b_shl w hw _ hk]
  by_cases h : w ≤ k
  · rw [decide_eq_true h, bt_1 _ (by omega), Bool.true_and]
    exact decide_eq_decide.mpr (by omega)
  · rw [decide_eq_false h, Bool.false_and]
    exact (decide_eq_false (by omega)).symm
theorem bt_all : ∀ n, n < 11 → ∀ k, k < 32 → bt (nI 1 <<< (nI n &&& 31) - nI 1) k = decide (k < n) := by decide +kernel
theorem hb_all {n k : Nat} (hn : n ≤ 10) (hk : k < 32) : hasB (nI 1 <<< (nI n &&& 31) - nI 1) (nI k) = decide (k < n) := by rw [hasB_bt hk, bt_all n (by omega) k hk]
/-- sets that agree in ten bits, and have no others -/
theorem set_ext {a b : Int32} {m n : Nat} (ha : a = nI m) (hb : b = nI n) (hm : m < 1024) (hn : n < 1024) (h : ∀ k, k < 10 → hasB a (nI k) = hasB b (nI k)) : a = b := by
  refine b_ext (fun i hi => ?_)
  by_cases h10 : i < 10
  · rw [← hasB_bt hi, ← hasB_bt hi]; exact h i h10
  · have hz : ∀ m, m < 1024 → bt (nI m) i = false := by
      intro m hm
      unfold bt
      show (BitVec.ofNat 32 m).getLsbD i = false
      rw [BitVec.getLsbD_ofNat, Nat.testBit_lt_two_pow, Bool.and_false]
      exact Nat.lt_of_lt_of_le hm (Nat.pow_le_pow_right (n := 2) (by omega) (show 10 ≤ i by omega))
    rw [ha, hb, hz m hm, hz n hn]
