section ShareP
theorem so_s (bb : Nat → Bool) (bits n : Nat) : so bb bits (n + 1) = if bb n = true then so bb bits n else if bits.testBit (un bb n) = true then 2 ^ n + so bb bits n else so bb bits n := rfl
theorem un_s (bb : Nat → Bool) (n : Nat) : un bb (n + 1) = if bb n = true then un bb n else un bb n + 1 := rfl
/-- a word of a set, by its bit -/
theorem so_tb {bb : Nat → Bool} {bits : Nat} : ∀ n w, w < n → (so bb bits n).testBit w = (!bb w && bits.testBit (un bb w))
  | 0, w, h => by omega
  | n + 1, w, h => by
    have hlt := so_lt bb bits n
    unfold so
    by_cases e : w = n
    · subst e
      by_cases hb : bb w = true
      · rw [if_pos hb, hb, tb_z hlt]; rfl
      · have hb' : bb w = false := by cases q : bb w with
          | true => exact absurd q hb
          | false => rfl
        rw [if_neg hb, hb', Bool.not_false, Bool.true_and]
        cases q : bits.testBit (un bb w) with
        | true => rw [if_pos rfl, tb_hi hlt]
        | false => rw [if_neg (by decide), tb_z hlt]
    · have ih := so_tb (bb := bb) (bits := bits) n w (by omega)
      by_cases hb : bb n = true
      · rw [if_pos hb]; exact ih
      · rw [if_neg hb]
        split
        · rw [tb_lo (by omega)]; exact ih
        · exact ih
theorem un_mono {bb : Nat → Bool} {w : Nat} (hb : bb w = false) : ∀ n, w < n → un bb w < un bb n
  | 0, h => by omega
  | n + 1, h => by
    rw [un_s]
    by_cases e : w = n
    · subst e; rw [if_neg (by rw [hb]; decide)]; omega
    · have := un_mono hb n (by omega)
      split <;> omega
/-- a set without a word -/
theorem so_wo {bb : Nat → Bool} {a c : Nat} {w : Nat} (hb : bb w = false) (h1 : a.testBit (un bb w) = true) (h2 : c.testBit (un bb w) = false) (h3 : ∀ k, k ≠ un bb w → c.testBit k = a.testBit k) : ∀ n, w < n → so bb c n + 2 ^ w = so bb a n
  | 0, h => by omega
  | n + 1, h => by
    rw [so_s, so_s]
    by_cases e : w = n
    · subst e
      have hb2 : ¬ bb w = true := by rw [hb]; decide
      rw [if_neg hb2, if_neg hb2, h1, h2, if_pos rfl, if_neg (by decide), so_congr w (fun k hk => h3 k (by omega))]
      omega
    · have ih := so_wo hb h1 h2 h3 n (by omega)
      have hm := un_mono hb n (by omega)
      by_cases hbn : bb n = true
      · rw [if_pos hbn, if_pos hbn]; exact ih
      · rw [if_neg hbn, if_neg hbn, h3 (un bb n) (by omega)]
        split <;> omega
theorem pc_so {bb : Nat → Bool} {bits : Nat} : ∀ n, pc (so bb bits n) n = pc bits (un bb n)
  | 0 => rfl
  | n + 1 => by
    have ih := pc_so (bb := bb) (bits := bits) n
    have hlt := so_lt bb bits n
    rw [so_s, un_s]
    by_cases hb : bb n = true
    · rw [if_pos hb, if_pos hb]
      show pc (so bb bits n) n + _ = _
      rw [tb_z hlt, if_neg (by decide), ih]
      rfl
    · rw [if_neg hb, if_neg hb]
      show _ = pc bits (un bb n) + (if bits.testBit (un bb n) = true then 1 else 0)
      cases q : bits.testBit (un bb n) with
      | true =>
        rw [if_pos rfl, if_pos rfl]
        show pc (2 ^ n + so bb bits n) n + (if (2 ^ n + so bb bits n).testBit n = true then 1 else 0) = _
        rw [tb_hi hlt, if_pos rfl, pc_congr n (fun k hk => tb_lo hk), ih]
      | false =>
        rw [if_neg (by decide), if_neg (by decide)]
        show pc (so bb bits n) n + (if (so bb bits n).testBit n = true then 1 else 0) = _
        rw [tb_z hlt, if_neg (by decide), ih]
end ShareP
