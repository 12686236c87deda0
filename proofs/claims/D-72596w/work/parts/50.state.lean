/-! ===== the one state that both have ===== -/
abbrev Ab : Type := Nat → Nat → Int32
def nm (A : Ab) : Nat := (A 1 1).toNatClampNeg
def sz (A : Ab) (w : Nat) : Nat := (A 2 w).toNatClampNeg
/-- a setting's places -/
def rA (k j : Nat) : Nat := if j < 8 then k + 1 else if j = 8 then k else if j < 19 then k + 2 else if j = 19 then k else if j = 20 then k else k + 3
def rB (j : Nat) : Nat := if j < 8 then j else if j = 8 then 1 else if j < 19 then j - 9 else if j = 19 then 3 else if j = 20 then 4 else j - 21
theorem ro_at (σ : Mem) (k j : Nat) : rowOf σ k j = σ.2.2.1 (rA k j) (rB j) := by
  unfold rowOf rA rB
  repeat' split
  all_goals first | rfl | omega
def scX (j : Nat) : Nat := if j = 0 then 17 else if j = 1 then 1 else if j = 2 then 22 else if j = 3 then 23 else if j = 4 then 26 else 28
def scM (j : Nat) : Nat := if j = 0 then 1 else if j = 1 then 2 else if j = 2 then 10 else if j = 3 then 11 else if j = 4 then 15 else 19
/-- where X has it -/
def xA (c j : Nat) : Nat := if c = 0 then 18 else if c = 1 then 0 else if c = 2 then 97 + 6 * j else if c = 3 then 97 + 6 * j else if c = 4 then 97 + 6 * (j / 8) + 2 else if c = 5 then 97 + 6 * (j / 6) + 1 else if c = 6 then 81 else if c = 7 then 83 else if c = 8 then 84 else if c = 9 then 85 else if c = 10 then 87 else if c = 11 then rA 2 j else if c < 26 then rA (25 + 4 * (c - 12)) j else rA (89 + 4 * (c - 26)) j
def xB (c j : Nat) : Nat := if c = 0 then j else if c = 1 then scX j else if c = 2 then 1 else if c = 3 then 2 else if c = 4 then j % 8 else if c = 5 then j % 6 else if c < 11 then j else rB j
/-- where M has it -/
def mA (c j : Nat) : Nat := if c = 0 then 158 else if c = 1 then 157 else if c = 2 then 160 else if c = 3 then 161 else if c = 4 then 162 else if c = 5 then 159 else if c = 6 then 168 else if c = 7 then 169 else if c = 8 then 170 else if c = 9 then 171 else if c = 10 then 167 else if c = 11 then 163 else if c < 26 then 165 else 166
def mB (c j : Nat) : Nat := if c = 1 then scM j else if c < 12 then j else if c < 26 then 25 * (c - 12) + j else 25 * (c - 26) + j
/-- what there is -/
def dm (A : Ab) (c j : Nat) : Prop := (c = 0 ∧ j < 180) ∨ (c = 1 ∧ j < 6) ∨ ((c = 2 ∨ c = 3) ∧ j < nm A) ∨ (c = 4 ∧ j < 8 * nm A) ∨ (c = 5 ∧ j < 6 * nm A ∧ j % 6 < sz A (j / 6)) ∨ (c = 6 ∧ j < 12) ∨ ((c = 7 ∨ c = 8 ∨ c = 9) ∧ j < 6) ∨ (c = 10 ∧ j < 2) ∨ (11 ≤ c ∧ c < 28 ∧ j < 25)
def RX (B : Bs) (A : Ab) (sd : Int64) (σ : Mem) : Prop := LX B σ ∧ (∃ ka kb, LyR B σ ka kb) ∧ (∀ c j, dm A c j → σ.2.2.1 (xA c j) (xB c j) = A c j) ∧ σ.2.2.2.1 0 33 = sd
def RMm (B : Bs) (A : Ab) (sd : Int64) (σ : Mem) : Prop := LM B σ ∧ (∀ c j, dm A c j → σ.2.2.1 (mA c j) (mB c j) = A c j) ∧ σ.2.2.2.1 157 20 = sd
/-- a row of letters, barred words, ranks, beginnings, ends, followers -/
def WFr (n : Nat) (f : Nat → Int32) : Prop := (∀ x, x < 8 → f x = nI (bg f x)) ∧ sm (bg f) 8 ≤ 12 ∧ (∃ b, b < 2 ^ n ∧ f 8 = nI b) ∧ (∀ w, w < 10 → ∃ v, v ≤ 9 ∧ f (9 + w) = nI v) ∧ (∃ b, b < 16 ∧ f 19 = nI b) ∧ (∃ b, b < 16 ∧ f 20 = nI b) ∧ ∀ k, k < 4 → ∃ b, b < 16 ∧ f (21 + k) = nI b
/-- what holds of the state -/
def WFA (A : Ab) : Prop := (A 1 1 = nI (nm A) ∧ nm A ≤ 10) ∧ (∃ n, n ≤ 180 ∧ A 1 0 = nI n) ∧ (∃ n, n ≤ 14 ∧ A 1 2 = nI n) ∧ (∃ n, n < 14 ∧ A 1 3 = nI n) ∧ (∃ n, n ≤ 12 ∧ A 1 4 = nI n) ∧ (∃ n, n ≤ 6 ∧ A 1 5 = nI n) ∧
  (∀ w, w < nm A → (A 2 w = nI (sz A w) ∧ sz A w ≤ 6) ∧ (∃ k, k < 4 ∧ A 3 w = nI k) ∧ (∀ x, x < 8 → ∃ d, d ≤ 6 ∧ A 4 (8 * w + x) = nI d) ∧ (∃ x, x < 8 ∧ ¬ A 4 (8 * w + x) = nI 0) ∧ (∀ k, k < sz A w → ∃ y, y < 8 ∧ A 5 (6 * w + k) = nI y) ∧ ∀ x, x < 8 → ¬ A 4 (8 * w + x) = nI 0 → ∃ k, k < sz A w ∧ A 5 (6 * w + k) = nI x) ∧
  (∀ j, nI j < A 1 4 → j < 12 → ∃ w, w < nm A ∧ A 6 j = nI w) ∧ WFr (nm A) (A 11) ∧
  (∀ i, nI i < A 1 2 → i < 14 → ∀ nx, nx < 14 → A 1 3 = nI nx → WFr (nm A) (A (12 + (nx + 13 - i) % 14))) ∧ (∀ i, i < 2 → ¬ A 10 i = 0 → WFr (nm A) (A (26 + i))) ∧ (∀ j, j < 180 → ∃ t, t < 256 ∧ A 0 j = nI t) ∧ (∀ i, i < 2 → A 10 i = 0 ∨ A 10 i = 1)
/-- X's scratch -/
def XS : Nat → Nat → Prop := fun a j => (a = 0 ∧ (j = 5 ∨ j = 11 ∨ j = 13 ∨ j = 18 ∨ j = 19)) ∨ (6 ≤ a ∧ a ≤ 17) ∨ (20 ≤ a ∧ a ≤ 23) ∨ a = 82 ∨ a = 86 ∨ (97 ≤ a ∧ 3 ≤ (a - 97) % 6)
/-- M's scratch -/
def MS : Nat → Nat → Prop := fun a j => (a = 157 ∧ (j = 21 ∨ j = 26 ∨ j = 27 ∨ j = 28 ∨ j = 31 ∨ j = 32 ∨ j = 41 ∨ j = 42 ∨ j = 43)) ∨ a = 164 ∨ 172 ≤ a
theorem rA_in (k j : Nat) : k ≤ rA k j ∧ rA k j ≤ k + 3 := by
  unfold rA
  repeat' split
  all_goals omega
theorem xA_dm {A : Ab} (hA : nm A ≤ 10) {c j : Nat} (h : dm A c j) : xA c j < 157 ∧ ¬ XS (xA c j) (xB c j) ∧ (xA c j = 0 → c = 1) ∧ (2 ≤ xA c j ∧ xA c j ≤ 5 → c = 11) ∧ (25 ≤ xA c j ∧ xA c j ≤ 80 → 12 ≤ c ∧ c < 26 ∧ (xA c j - 25) / 4 = c - 12) ∧ (89 ≤ xA c j ∧ xA c j ≤ 96 → 26 ≤ c ∧ (xA c j - 89) / 4 = c - 26) ∧ (97 ≤ xA c j → 2 ≤ c ∧ c ≤ 5) ∧ (xA c j = 18 → c = 0) ∧ (xA c j = 81 → c = 6) ∧ (83 ≤ xA c j ∧ xA c j ≤ 85 → c + 76 = xA c j) ∧ (xA c j = 87 → c = 10) := by
  have h1 := rA_in 2 j
  have h2 := rA_in (25 + 4 * (c - 12)) j
  have h3 := rA_in (89 + 4 * (c - 26)) j
  unfold XS xA xB
  rcases h with ⟨rfl, h⟩ | ⟨rfl, h⟩ | ⟨rfl | rfl, h⟩ | ⟨rfl, h⟩ | ⟨rfl, h, h'⟩ | ⟨rfl, h⟩ | ⟨rfl | rfl | rfl, h⟩ | ⟨rfl, h⟩ | ⟨h, h', h''⟩
  · simp
  · simp; unfold scX; repeat' split
    all_goals omega
  · simp; omega
  · simp; omega
  · simp; omega
  · simp; omega
  · simp
  · simp
  · simp
  · simp
  · simp
  · by_cases e1 : c = 11
    · subst e1; simp; omega
    · by_cases e2 : c < 26
      · simp only [show ¬ c = 0 by omega, show ¬ c = 1 by omega, show ¬ c = 2 by omega, show ¬ c = 3 by omega, show ¬ c = 4 by omega, show ¬ c = 5 by omega, show ¬ c = 6 by omega, show ¬ c = 7 by omega, show ¬ c = 8 by omega, show ¬ c = 9 by omega, show ¬ c = 10 by omega, e1, e2, if_false, if_true]
        generalize rA (25 + 4 * (c - 12)) j = q at *
        refine ⟨by omega, by omega, by omega, by omega, fun _ => ⟨by omega, by first | trivial | omega, by omega⟩, by omega, by omega, by omega, by omega, by omega, by omega⟩
      · simp only [show ¬ c = 0 by omega, show ¬ c = 1 by omega, show ¬ c = 2 by omega, show ¬ c = 3 by omega, show ¬ c = 4 by omega, show ¬ c = 5 by omega, show ¬ c = 6 by omega, show ¬ c = 7 by omega, show ¬ c = 8 by omega, show ¬ c = 9 by omega, show ¬ c = 10 by omega, e1, e2, if_false]
        generalize rA (89 + 4 * (c - 26)) j = q at *
        refine ⟨by omega, by omega, by omega, by omega, by omega, by omega, by omega, by omega, by omega, by omega, by omega⟩
theorem mA_dm {A : Ab} {c j : Nat} (h : dm A c j) : 157 ≤ mA c j ∧ mA c j < 172 ∧ ¬ MS (mA c j) (mB c j) := by
  unfold MS mA mB
  rcases h with ⟨rfl, h⟩ | ⟨rfl, h⟩ | ⟨rfl | rfl, h⟩ | ⟨rfl, h⟩ | ⟨rfl, h, h'⟩ | ⟨rfl, h⟩ | ⟨rfl | rfl | rfl, h⟩ | ⟨rfl, h⟩ | ⟨h, h', h''⟩
  · simp
  · simp; unfold scM; repeat' split
    all_goals omega
  · simp
  · simp
  · simp
  · simp
  · simp
  · simp
  · simp
  · simp
  · simp
  · by_cases e1 : c = 11
    · subst e1; simp
    · by_cases e2 : c < 26
      · simp only [show ¬ c = 0 by omega, show ¬ c = 1 by omega, show ¬ c = 2 by omega, show ¬ c = 3 by omega, show ¬ c = 4 by omega, show ¬ c = 5 by omega, show ¬ c = 6 by omega, show ¬ c = 7 by omega, show ¬ c = 8 by omega, show ¬ c = 9 by omega, show ¬ c = 10 by omega, e1, e2, if_false, if_true]
        omega
      · simp only [show ¬ c = 0 by omega, show ¬ c = 1 by omega, show ¬ c = 2 by omega, show ¬ c = 3 by omega, show ¬ c = 4 by omega, show ¬ c = 5 by omega, show ¬ c = 6 by omega, show ¬ c = 7 by omega, show ¬ c = 8 by omega, show ¬ c = 9 by omega, show ¬ c = 10 by omega, e1, e2, if_false]
        omega
theorem RX.scr {B : Bs} {A : Ab} {sd : Int64} {σ σ' : Mem} (h : RX B A sd σ) (hA : nm A ≤ 10) (hf : Fr XS σ σ') (hy : ∃ ka kb, LyR B σ' ka kb) : RX B A sd σ' := by
  obtain ⟨hL, -, h1, h2⟩ := h
  have hn := hL.n
  refine ⟨hL.fr hf, hy, fun c j hd => ?_, (hf.l (by omega) (by unfold XS; omega)).trans h2⟩
  obtain ⟨q1, q2, -⟩ := xA_dm hA hd
  exact (hf.i (by omega) q2).trans (h1 c j hd)
theorem RMm.scr {B : Bs} {A : Ab} {sd : Int64} {σ σ' : Mem} (h : RMm B A sd σ) (hf : FrR MS σ σ') : RMm B A sd σ' := by
  obtain ⟨hM, h1, h2⟩ := h
  have hn := hM.n
  refine ⟨hM.fr hf.1, fun c j hd => ?_, (hf.l (by omega) (by unfold MS; omega)).trans h2⟩
  obtain ⟨q1, q2, q3⟩ := mA_dm hd
  exact (hf.i (by omega) q3).trans (h1 c j hd)
/-- what X does leaves M as it was, and the other way round -/
theorem RMm.byX {B : Bs} {A : Ab} {sd : Int64} {σ σ' : Mem} (h : RMm B A sd σ) (hf : Fr (fun a _ => a < 157) σ σ') : RMm B A sd σ' := by
  obtain ⟨hM, h1, h2⟩ := h
  have hn := hM.n
  refine ⟨hM.fr hf, fun c j hd => ?_, (hf.l (by omega) (by omega)).trans h2⟩
  obtain ⟨q1, q2, q3⟩ := mA_dm hd
  exact (hf.i (by omega) (by omega)).trans (h1 c j hd)
theorem RX.byM {B : Bs} {A : Ab} {sd : Int64} {σ σ' : Mem} (h : RX B A sd σ) (hA : nm A ≤ 10) (hf : FrR (fun a _ => 157 ≤ a) σ σ') : RX B A sd σ' := by
  obtain ⟨hL, ⟨ka, kb, hy⟩, h1, h2⟩ := h
  have hn := hL.n
  refine ⟨hL.fr hf.1, ⟨ka, kb, hy.fr hf⟩, fun c j hd => ?_, (hf.l (by omega) (by omega)).trans h2⟩
  obtain ⟨q1, q2, -⟩ := xA_dm hA hd
  exact (hf.i (by omega) (by omega)).trans (h1 c j hd)
