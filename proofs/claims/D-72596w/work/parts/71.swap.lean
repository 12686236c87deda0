section Swap
/-- sets with a word, by those without it -/
theorem suL_swap : ∀ (n w : Nat) (g : Nat → Int64), w < n → suL (fun s => if s.testBit w = true then g s else 0) (2 ^ n) = suL (fun s => if s.testBit w = true then 0 else g (2 ^ w + s)) (2 ^ n)
  | 0, w, _, h => by omega
  | n + 1, w, g, h => by
    rw [Nat.pow_succ, Nat.mul_two, suL_add, suL_add]
    by_cases e : w = n
    · subst e
      have e1 : suL (fun s => if s.testBit w = true then g s else 0) (2 ^ w) = 0 := (suL_congr (u := fun _ => 0) _ (fun i hi => by rw [tb_z hi]; rfl)).trans (suL_0 _)
      have e2 : suL (fun i => if (2 ^ w + i).testBit w = true then g (2 ^ w + i) else 0) (2 ^ w) = suL (fun i => g (2 ^ w + i)) (2 ^ w) := suL_congr _ (fun i hi => by rw [tb_hi hi]; rfl)
      have e3 : suL (fun s => if s.testBit w = true then 0 else g (2 ^ w + s)) (2 ^ w) = suL (fun i => g (2 ^ w + i)) (2 ^ w) := suL_congr _ (fun i hi => by rw [tb_z hi]; rfl)
      have e4 : suL (fun i => if (2 ^ w + i).testBit w = true then 0 else g (2 ^ w + (2 ^ w + i))) (2 ^ w) = 0 := (suL_congr (u := fun _ => 0) _ (fun i hi => by rw [tb_hi hi]; rfl)).trans (suL_0 _)
      rw [e1, e2, e3, e4, Int64.zero_add, Int64.add_zero]
    · have hw : w < n := by omega
      have e2 : suL (fun i => if (2 ^ n + i).testBit w = true then g (2 ^ n + i) else 0) (2 ^ n) = suL (fun s => if s.testBit w = true then g (2 ^ n + s) else 0) (2 ^ n) := suL_congr _ (fun i hi => by rw [tb_lo hw])
      have e4 : suL (fun i => if (2 ^ n + i).testBit w = true then 0 else g (2 ^ w + (2 ^ n + i))) (2 ^ n) = suL (fun s => if s.testBit w = true then 0 else g (2 ^ n + (2 ^ w + s))) (2 ^ n) := suL_congr _ (fun i hi => by rw [tb_lo hw, show 2 ^ w + (2 ^ n + i) = 2 ^ n + (2 ^ w + i) by omega])
      rw [e2, e4, suL_swap n w g hw, suL_swap n w (fun s => g (2 ^ n + s)) hw]
/-- how many are in a set -/
def pc (s : Nat) : Nat → Nat
  | 0 => 0
  | n + 1 => pc s n + (if s.testBit n = true then 1 else 0)
theorem pc_ok : ∀ s, s < 1024 → bitcF (nI s) = nI (pc s 10) ∧ onesF (nI s) 16 = nI (pc s 10) := by decide +kernel
theorem pc_congr {a b : Nat} : ∀ n, (∀ k, k < n → a.testBit k = b.testBit k) → pc a n = pc b n
  | 0, _ => rfl
  | n + 1, h => by
    unfold pc
    rw [pc_congr n (fun k hk => h k (by omega)), h n (by omega)]
end Swap
