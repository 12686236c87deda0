/-! ===== sums over sets ===== -/
section Sums
def suL (t : Nat → Int64) (n : Nat) : Int64 := fo (fun i a => a + t i) 0 n
def suN (t : Nat → Nat) (n : Nat) : Nat := fo (fun i a => a + t i) 0 n
theorem suL_add (t : Nat → Int64) (m : Nat) : ∀ n, suL t (m + n) = suL t m + suL (fun i => t (m + i)) n
  | 0 => (Int64.add_zero _).symm
  | n + 1 => by
    show suL t (m + n) + t (m + n) = suL t m + (suL (fun i => t (m + i)) n + t (m + n))
    rw [suL_add t m n, Int64.add_assoc]
theorem suL_congr {t u : Nat → Int64} (n : Nat) (h : ∀ i, i < n → t i = u i) : suL t n = suL u n := fo_congr n (fun i a hi => by rw [h i hi])
theorem suL_0 : ∀ n, suL (fun _ => 0) n = 0
  | 0 => rfl
  | n + 1 => by show suL (fun _ => 0) n + 0 = 0; rw [suL_0 n]; rfl
theorem suN_add (t : Nat → Nat) (m : Nat) : ∀ n, suN t (m + n) = suN t m + suN (fun i => t (m + i)) n
  | 0 => rfl
  | n + 1 => by
    show suN t (m + n) + t (m + n) = suN t m + (suN (fun i => t (m + i)) n + t (m + n))
    rw [suN_add t m n, Nat.add_assoc]
theorem suN_congr {t u : Nat → Nat} (n : Nat) (h : ∀ i, i < n → t i = u i) : suN t n = suN u n := fo_congr n (fun i a hi => by rw [h i hi])
theorem suN_0 : ∀ n, suN (fun _ => 0) n = 0
  | 0 => rfl
  | n + 1 => by show suN (fun _ => 0) n + 0 = 0; rw [suN_0 n]
/-- the words that are not barred, and sets of them by their bits -/
def un (bb : Nat → Bool) : Nat → Nat
  | 0 => 0
  | n + 1 => if bb n = true then un bb n else un bb n + 1
def so (bb : Nat → Bool) (bits : Nat) : Nat → Nat
  | 0 => 0
  | n + 1 => if bb n = true then so bb bits n else if bits.testBit (un bb n) = true then 2 ^ n + so bb bits n else so bb bits n
def inS (bb : Nat → Bool) (s : Nat) : Nat → Bool
  | 0 => true
  | n + 1 => inS bb s n && !(s.testBit n && bb n)
theorem so_lt (bb : Nat → Bool) (bits : Nat) : ∀ n, so bb bits n < 2 ^ n
  | 0 => by show 0 < 1; omega
  | n + 1 => by
    have := so_lt bb bits n
    unfold so
    rw [Nat.pow_succ]
    split
    · omega
    · split <;> omega
theorem so_congr {bb : Nat → Bool} {a b : Nat} : ∀ n, (∀ k, k < un bb n → a.testBit k = b.testBit k) → so bb a n = so bb b n
  | 0, _ => rfl
  | n + 1, h => by
    unfold so
    unfold un at h
    by_cases e : bb n = true
    · rw [if_pos e, if_pos e]
      rw [if_pos e] at h
      exact so_congr n h
    · rw [if_neg e, if_neg e]
      rw [if_neg e] at h
      rw [so_congr n (fun k hk => h k (by omega)), h (un bb n) (by omega)]
theorem inS_congr {bb : Nat → Bool} {a b : Nat} : ∀ n, (∀ k, k < n → a.testBit k = b.testBit k) → inS bb a n = inS bb b n
  | 0, _ => rfl
  | n + 1, h => by
    unfold inS
    rw [inS_congr n (fun k hk => h k (by omega)), h n (by omega)]
theorem tb_lo {n i k : Nat} (hk : k < n) : (2 ^ n + i).testBit k = i.testBit k := Nat.testBit_two_pow_add_gt hk i
theorem tb_hi {n i : Nat} (hi : i < 2 ^ n) : (2 ^ n + i).testBit n = true := by rw [Nat.testBit_two_pow_add_eq, Nat.testBit_lt_two_pow hi]; rfl
theorem tb_z {n i : Nat} (hi : i < 2 ^ n) : i.testBit n = false := Nat.testBit_lt_two_pow hi
/-- a sum over all sets of words that are not barred, by the sets or by the bits -/
theorem suL_so (bb : Nat → Bool) : ∀ (n : Nat) (t : Nat → Int64), suL (fun s => if inS bb s n = true then t s else 0) (2 ^ n) = suL (fun bits => t (so bb bits n)) (2 ^ un bb n)
  | 0, t => rfl
  | n + 1, t => by
    rw [Nat.pow_succ, Nat.mul_two, suL_add]
    have e1 : suL (fun s => if inS bb s (n + 1) = true then t s else 0) (2 ^ n) = suL (fun s => if inS bb s n = true then t s else 0) (2 ^ n) := suL_congr _ (fun i hi => by
      show (if (inS bb i n && !(i.testBit n && bb n)) = true then t i else 0) = _
      rw [tb_z hi, Bool.false_and, Bool.not_false, Bool.and_true])
    have e2 : ∀ i, i < 2 ^ n → inS bb (2 ^ n + i) (n + 1) = (inS bb i n && !bb n) := fun i hi => by
      show (inS bb (2 ^ n + i) n && !((2 ^ n + i).testBit n && bb n)) = _
      rw [tb_hi hi, Bool.true_and, inS_congr n (fun k hk => tb_lo hk)]
    rw [e1, suL_so bb n t]
    by_cases hb : bb n = true
    · have e3 : suL (fun i => if inS bb (2 ^ n + i) (n + 1) = true then t (2 ^ n + i) else 0) (2 ^ n) = 0 := by
        refine (suL_congr (u := fun _ => 0) _ (fun i hi => ?_)).trans (suL_0 _)
        rw [e2 i hi, hb, Bool.not_true, Bool.and_false]
        rfl
      rw [e3, Int64.add_zero]
      have e4 : un bb (n + 1) = un bb n := by show (if bb n = true then _ else _) = _; rw [if_pos hb]
      rw [e4]
      refine suL_congr _ (fun i hi => ?_)
      have : so bb i (n + 1) = so bb i n := by show (if bb n = true then _ else _) = _; rw [if_pos hb]
      rw [this]
    · have hb' : bb n = false := by cases h : bb n with
        | true => exact absurd h hb
        | false => rfl
      have e3 : suL (fun i => if inS bb (2 ^ n + i) (n + 1) = true then t (2 ^ n + i) else 0) (2 ^ n) = suL (fun s => if inS bb s n = true then t (2 ^ n + s) else 0) (2 ^ n) := suL_congr _ (fun i hi => by
        rw [e2 i hi, hb', Bool.not_false, Bool.and_true])
      rw [e3, suL_so bb n (fun s => t (2 ^ n + s))]
      have e4 : un bb (n + 1) = un bb n + 1 := by show (if bb n = true then _ else _) = _; rw [if_neg hb]
      rw [e4, Nat.pow_succ, Nat.mul_two, suL_add]
      have f1 : suL (fun bits => t (so bb bits (n + 1))) (2 ^ un bb n) = suL (fun bits => t (so bb bits n)) (2 ^ un bb n) := suL_congr _ (fun i hi => by
        have : so bb i (n + 1) = so bb i n := by
          show (if bb n = true then _ else if i.testBit (un bb n) = true then _ else _) = _
          rw [if_neg hb, tb_z hi]
          rfl
        rw [this])
      have f2 : suL (fun i => t (so bb (2 ^ un bb n + i) (n + 1))) (2 ^ un bb n) = suL (fun bits => t (2 ^ n + so bb bits n)) (2 ^ un bb n) := suL_congr _ (fun i hi => by
        have : so bb (2 ^ un bb n + i) (n + 1) = 2 ^ n + so bb i n := by
          show (if bb n = true then _ else if (2 ^ un bb n + i).testBit (un bb n) = true then _ else _) = _
          rw [if_neg hb, tb_hi hi, if_pos rfl, so_congr n (fun k hk => tb_lo hk)]
        rw [this])
      rw [f1, f2]
end Sums
