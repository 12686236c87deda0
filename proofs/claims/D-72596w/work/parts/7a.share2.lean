section ShareQ
variable {A : Ab}
theorem or_add : ∀ w, w < 10 → ∀ s, s < 1024 → s.testBit w = false → 2 ^ w + s = s ||| 2 ^ w := by decide +kernel
theorem tb_add {w s k : Nat} (hw : w < 10) (hs : s < 1024) (h : s.testBit w = false) : (2 ^ w + s).testBit k = (s.testBit k || decide (w = k)) := by
  rw [or_add w hw s hs h, Nat.testBit_or, Nat.testBit_two_pow]
theorem pc_add {w s : Nat} (hw : w < 10) (hs : s < 1024) (h : s.testBit w = false) : ∀ n, pc (2 ^ w + s) n = pc s n + (if w < n then 1 else 0)
  | 0 => rfl
  | n + 1 => by
    show pc (2 ^ w + s) n + (if (2 ^ w + s).testBit n = true then 1 else 0) = pc s n + (if s.testBit n = true then 1 else 0) + _
    rw [pc_add hw hs h n, tb_add hw hs h]
    by_cases e : w = n
    · subst e
      rw [h]
      simp
    · rw [decide_eq_false e, Bool.or_false]
      have e3 : (if w < n + 1 then 1 else 0 : Nat) = if w < n then 1 else 0 := by
        by_cases e2 : w < n
        · rw [if_pos e2, if_pos (Nat.lt_succ_of_lt e2)]
        · rw [if_neg e2, if_neg (fun z => by omega)]
      rw [e3]
      exact Nat.add_right_comm _ _ _
theorem inS_add {bb : Nat → Bool} {w s n : Nat} (hw : w < 10) (hs : s < 1024) (h : s.testBit w = false) (hb : bb w = false) : inS bb (2 ^ w + s) n = inS bb s n := by
  have e : inS bb (2 ^ w + s) n = true ↔ inS bb s n = true := by
    rw [inS_iff, inS_iff]
    constructor
    · intro q k hk hsk
      exact q k hk (by rw [tb_add hw hs h, hsk]; rfl)
    · intro q k hk hsk
      rw [tb_add hw hs h, Bool.or_eq_true, decide_eq_true_eq] at hsk
      rcases hsk with z | z
      · exact q k hk z
      · rw [← z]; exact hb
  cases p : inS bb s n with
  | true => exact e.mpr p
  | false =>
    cases p2 : inS bb (2 ^ w + s) n with
    | false => rfl
    | true => rw [e.mp p2] at p; exact absurd p (by decide)
theorem pc_le {bb : Nat → Bool} {s : Nat} : ∀ n, inS bb s n = true → pc s n ≤ un bb n
  | 0, _ => Nat.le_refl _
  | n + 1, h => by
    have h' : (inS bb s n && !(s.testBit n && bb n)) = true := h
    rw [Bool.and_eq_true] at h'
    have ih := pc_le n h'.1
    rw [un_s]
    show pc s n + _ ≤ _
    by_cases hb : bb n = true
    · rw [if_pos hb]
      cases q : s.testBit n with
      | true => rw [q, hb] at h'; exact absurd h'.2 (by decide)
      | false => rw [if_neg (by decide)]; omega
    · rw [if_neg hb]
      split <;> omega
/-- what a word adds to a set that has it, weighed -/
def gS (A : Ab) (w s : Nat) : Int64 := (facF (pc s (nm A) - 1)).toInt64 * (facF (un (bbA A) (nm A) - 1 - (pc s (nm A) - 1))).toInt64 * (lN (tw A s) - lN (tw A (s - 2 ^ w)))
def shM (A : Ab) (w : Nat) : Int64 := suL (fun bits => if (so (bbA A) bits (nm A)).testBit w = true then gS A w (so (bbA A) bits (nm A)) else 0) (2 ^ un (bbA A) (nm A))
def shT (A : Ab) (w s : Nat) : Int64 := if inS (bbA A) s (nm A) = true ∧ s.testBit w = false then gS A w (2 ^ w + s) else 0
def shX (A : Ab) (w : Nat) : Int64 := suL (shT A w) (2 ^ nm A)
theorem sh_eq {w : Nat} (hm : nm A ≤ 10) (hw : w < nm A) (hb : bbA A w = false) : shM A w = shX A w := by
  have h1024 := p1024 hm
  unfold shM shX
  rw [← suL_so (bbA A) (nm A) (fun s => if s.testBit w = true then gS A w s else 0)]
  have e1 : suL (fun s => if inS (bbA A) s (nm A) = true then (if s.testBit w = true then gS A w s else 0) else 0) (2 ^ nm A) = suL (fun s => if s.testBit w = true then (if inS (bbA A) s (nm A) = true then gS A w s else 0) else 0) (2 ^ nm A) := suL_congr _ (fun i hi => by
    by_cases p : inS (bbA A) i (nm A) = true
    · rw [if_pos p, if_pos p]
    · rw [if_neg p, if_neg p, ite_self])
  rw [e1, suL_swap (nm A) w (fun s => if inS (bbA A) s (nm A) = true then gS A w s else 0) hw]
  refine suL_congr _ (fun i hi => ?_)
  unfold shT
  cases q : i.testBit w with
  | true => rw [if_pos rfl, if_neg (fun z => absurd z.2 (by decide))]
  | false =>
    rw [if_neg (by decide), inS_add (by omega) (by omega) q hb]
    by_cases p : inS (bbA A) i (nm A) = true
    · rw [if_pos p, if_pos ⟨p, rfl⟩]
    · rw [if_neg p, if_neg (fun z => p z.1)]
end ShareQ
