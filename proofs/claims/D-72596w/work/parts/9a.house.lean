/-! ===== a new house: the state ===== -/
section HouseP
variable {B : Bs} {A : Ab} {sd : Int64} {σ σ' : Mem}
def hsA (A : Ab) (n : Nat) (S : Ab) : Ab := fun c j => if c = 1 then (if j = 1 then nI n else if j = 2 then nI 0 else if j = 4 then nI 0 else A 1 j) else if c = 2 then S 2 j else if c = 3 then S 3 j else if c = 4 then hasF S (j / 8) (j % 8) else if c = 5 then S 5 j else if c = 10 then nI 0 else if c = 11 then S 11 j else A c j
def oHouse (A : Ab) : Int32 × Ab := if (mR0 A).1 = -9 then (nI (mR0 A).2.1, hsA A (mR0 A).2.1 (mR0 A).2.2) else (-3, A)
theorem hct_le {S : Ab} {w x : Nat} : ∀ m, hct S w x m ≤ m
  | 0 => Nat.le_refl _
  | m + 1 => by
    have ih := hct_le (S := S) (w := w) (x := x) m
    show hct S w x m + (if S 5 (6 * w + m) = nI x then 1 else 0) ≤ m + 1
    split <;> omega
theorem hct_mono {S : Ab} {w x : Nat} : ∀ m k, k < m → S 5 (6 * w + k) = nI x → 1 ≤ hct S w x m
  | 0, k, h, _ => by omega
  | m + 1, k, h, e => by
    show 1 ≤ hct S w x m + (if S 5 (6 * w + m) = nI x then 1 else 0)
    by_cases z : k = m
    · subst z; rw [if_pos e]; omega
    · have := hct_mono m k (by omega) e
      omega
theorem hct_ex {S : Ab} {w x : Nat} : ∀ m, hct S w x m ≠ 0 → ∃ k, k < m ∧ S 5 (6 * w + k) = nI x
  | 0, h => absurd rfl h
  | m + 1, h => by
    have h : hct S w x m + (if S 5 (6 * w + m) = nI x then 1 else 0) ≠ 0 := h
    by_cases e : S 5 (6 * w + m) = nI x
    · exact ⟨m, by omega, e⟩
    · rw [if_neg e] at h
      obtain ⟨k, h1, h2⟩ := hct_ex m (by omega)
      exact ⟨k, by omega, h2⟩
theorem hs_nm {n : Nat} {S : Ab} (hn : n ≤ 10) : nm (hsA A n S) = n := by
  show (nI n).toNatClampNeg = n
  exact nI_clamp (by omega)
theorem hs_sz {n : Nat} {S : Ab} (w : Nat) : sz (hsA A n S) w = sz S w := rfl
theorem hs_4 {n : Nat} {S : Ab} {w x : Nat} (hx : x < 8) : hsA A n S 4 (8 * w + x) = hasF S w x := by
  show hasF S ((8 * w + x) / 8) ((8 * w + x) % 8) = _
  rw [show (8 * w + x) / 8 = w by omega, show (8 * w + x) % 8 = x by omega]
theorem WFr.up {n : Nat} {f : Nat → Int32} (h : WFr 0 f) : WFr n f := by
  obtain ⟨h1, h2, ⟨b, hb, e⟩, h4⟩ := h
  exact ⟨h1, h2, ⟨b, by have : b < 1 := hb; have := Nat.pow_pos (n := n) (show 0 < 2 by decide); omega, e⟩, h4⟩
theorem no_lt : ∀ i, i < 14 → ¬ nI i < nI 0 := by decide +kernel
theorem hs_wf {n : Nat} {S : Ab} (hW : WFA A) (hS : WFS n S) : WFA (hsA A n S) := by
  have hn := hS.1
  have en := hs_nm (A := A) (S := S) hn
  obtain ⟨h1, h2, h3, h4, h5, h6, h7, h8, h9, h10, h11, h12, h13⟩ := hW
  unfold WFA
  rw [en]
  refine ⟨⟨rfl, hn⟩, h2, ⟨0, by omega, rfl⟩, h4, ⟨0, by omega, rfl⟩, h6, fun w hw => ?_, fun j hj hj2 => absurd hj (no_lt j (by omega)), hS.2.1.up, fun i hi hi2 => absurd hi (no_lt i hi2), fun i hi z => absurd rfl z, h12, fun i hi => Or.inl rfl⟩
  obtain ⟨⟨w1, w2, w3⟩, w4, w5⟩ := hS.2.2 w hw
  refine ⟨⟨w1, w3⟩, w4, fun x hx => ?_, ?_, w5, fun x hx => ?_⟩
  · rw [hs_4 hx]; exact ⟨hct S w x (sz S w), Nat.le_trans (hct_le _) w3, rfl⟩
  · obtain ⟨y, hy, e⟩ := w5 0 (by omega)
    refine ⟨y, hy, ?_⟩
    rw [hs_4 hy]
    have := hct_mono (sz S w) 0 (by omega) e
    have h2 := hct_le (S := S) (w := w) (x := y) (sz S w)
    exact fun z => by have := nI_inj (by omega) (by omega) z; omega
  · rw [hs_4 hx]
    intro z
    exact (hct_ex (S := S) (sz S w) (fun e => z (by unfold hasF; rw [e])) : ∃ k, k < sz S w ∧ S 5 (6 * w + k) = nI x)
theorem oHouse_wf (hW : WFA A) (h : (mR0 A).1 = -9 → WFS (mR0 A).2.1 (mR0 A).2.2) : WFA (oHouse A).2 := by
  unfold oHouse
  by_cases e : (mR0 A).1 = -9
  · rw [if_pos e]; exact hs_wf hW (h e)
  · rw [if_neg e]; exact hW
/-- X's places of a house -/
def HX : Nat → Nat → Prop := fun a j => (a = 0 ∧ (j = 1 ∨ j = 22 ∨ j = 26)) ∨ (2 ≤ a ∧ a ≤ 5) ∨ a = 87 ∨ (97 ≤ a ∧ a < 157 ∧ (a - 97) % 6 < 3)
/-- one word of X is as it was read -/
def WcX (σ : Mem) (w : Nat) (S : Ab) : Prop := σ.2.2.1 (97 + 6 * w) 1 = S 2 w ∧ σ.2.2.1 (97 + 6 * w) 2 = S 3 w ∧ (∀ k, k < sz S w → σ.2.2.1 (97 + 6 * w + 1) k = S 5 (6 * w + k)) ∧ ∀ x, x < 8 → σ.2.2.1 (97 + 6 * w + 2) x = hasF S w x
theorem RX.house {n : Nat} {S : Ab} (h : RX B A sd σ) (hS : WFS n S) (hf : FrR HX σ σ') (h1 : σ'.2.2.1 0 1 = nI n) (h2 : σ'.2.2.1 0 22 = nI 0) (h4 : σ'.2.2.1 0 26 = nI 0) (h10 : ∀ i, i < 2 → σ'.2.2.1 87 i = nI 0) (h11 : ∀ j, j < 25 → rowOf σ' 2 j = S 11 j) (hw : ∀ w, w < n → WcX σ' w S) : RX B (hsA A n S) sd σ' := by
  have hL := h.1
  have hn := hL.n
  have hn10 := hS.1
  obtain ⟨ka, kb, hy⟩ := h.2.1
  have en := hs_nm (A := A) (S := S) hn10
  refine ⟨hL.fr hf.1, ⟨ka, kb, hy.fr hf⟩, fun c j hd => ?_, (hf.l (by omega) (by unfold HX; omega)).trans h.2.2.2⟩
  unfold dm at hd
  rw [en] at hd
  rcases hd with ⟨rfl, hj⟩ | ⟨rfl, hj⟩ | ⟨hc, hj⟩ | ⟨rfl, hj⟩ | ⟨rfl, hj, hj2⟩ | ⟨rfl, hj⟩ | ⟨hc, hj⟩ | ⟨rfl, hj⟩ | ⟨hc, hc2, hj⟩
  · exact (hf.i (by show 18 < _; omega) (show ¬ HX 18 j by unfold HX; omega)).trans (h.text hj)
  · have hj : j = 0 ∨ j = 1 ∨ j = 2 ∨ j = 3 ∨ j = 4 ∨ j = 5 := by omega
    rcases hj with rfl | rfl | rfl | rfl | rfl | rfl
    · exact (hf.i (by show 0 < _; omega) (show ¬ HX 0 17 by unfold HX; omega)).trans h.len
    · exact h1
    · exact h2
    · exact (hf.i (by show 0 < _; omega) (show ¬ HX 0 23 by unfold HX; omega)).trans h.next
    · exact h4
    · exact (hf.i (by show 0 < _; omega) (show ¬ HX 0 28 by unfold HX; omega)).trans h.seen
  · rcases hc with rfl | rfl
    · exact (hw j hj).1
    · exact (hw j hj).2.1
  · exact (hw (j / 8) (by omega)).2.2.2 (j % 8) (by omega)
  · have := (hw (j / 6) (by omega)).2.2.1 (j % 6) hj2
    rw [show 6 * (j / 6) + j % 6 = j by omega] at this
    exact this
  · exact (hf.i (by show 81 < _; omega) (show ¬ HX 81 j by unfold HX; omega)).trans (h.row6 hj)
  · rcases hc with rfl | rfl | rfl
    · exact (hf.i (by show 83 < _; omega) (show ¬ HX 83 j by unfold HX; omega)).trans (h.sWhat hj)
    · exact (hf.i (by show 84 < _; omega) (show ¬ HX 84 j by unfold HX; omega)).trans (h.sOf hj)
    · exact (hf.i (by show 85 < _; omega) (show ¬ HX 85 j by unfold HX; omega)).trans (h.sWas hj)
  · exact h10 j hj
  · by_cases e : c = 11
    · subst e
      have := h11 j hj
      rw [ro_at] at this
      exact this
    · obtain ⟨r1, r2⟩ := xA_row (j := j) hc hc2
      have e1 := h.g c j (by unfold dm; omega)
      have e2 : hsA A n S c j = A c j := by
        unfold hsA
        rw [if_neg (by omega), if_neg (by omega), if_neg (by omega), if_neg (by omega), if_neg (by omega), if_neg (by omega), if_neg e]
      rw [e2, ← e1, r1, r2]
      have hr := rA_in (kS c) j
      have hk : 25 ≤ kS c ∧ kS c ≤ 93 ∧ ¬ (84 ≤ kS c ∧ kS c ≤ 87) := by
        unfold kS
        rw [if_neg e]
        split <;> omega
      exact hf.i (by omega) (by unfold HX; omega)
/-- M's places of a house -/
def HM : Nat → Nat → Prop := fun a j => (a = 157 ∧ (j = 2 ∨ j = 10 ∨ j = 15)) ∨ (159 ≤ a ∧ a ≤ 163) ∨ a = 167
theorem RMm.house {n : Nat} {S : Ab} (h : RMm B A sd σ) (hS : WFS n S) (hf : FrR HM σ σ') (h1 : σ'.2.2.1 157 2 = nI n) (h2 : σ'.2.2.1 157 10 = nI 0) (h4 : σ'.2.2.1 157 15 = nI 0) (h10 : ∀ i, i < 2 → σ'.2.2.1 167 i = nI 0) (h11 : ∀ j, j < 25 → σ'.2.2.1 163 j = S 11 j) (hw : ∀ w, w < n → σ'.2.2.1 160 w = S 2 w ∧ σ'.2.2.1 161 w = S 3 w ∧ (∀ k, k < sz S w → σ'.2.2.1 159 (6 * w + k) = S 5 (6 * w + k)) ∧ ∀ x, x < 8 → σ'.2.2.1 162 (8 * w + x) = hasF S w x) : RMm B (hsA A n S) sd σ' := by
  have hM := h.1
  have hn := hM.n
  have hn10 := hS.1
  have en := hs_nm (A := A) (S := S) hn10
  refine ⟨hM.fr hf.1, fun c j hd => ?_, (hf.l (by omega) (by unfold HM; omega)).trans h.2.2⟩
  unfold dm at hd
  rw [en] at hd
  rcases hd with ⟨rfl, hj⟩ | ⟨rfl, hj⟩ | ⟨hc, hj⟩ | ⟨rfl, hj⟩ | ⟨rfl, hj, hj2⟩ | ⟨rfl, hj⟩ | ⟨hc, hj⟩ | ⟨rfl, hj⟩ | ⟨hc, hc2, hj⟩
  · exact (hf.i (by show 158 < _; omega) (show ¬ HM 158 j by unfold HM; omega)).trans (h.text hj)
  · have hj : j = 0 ∨ j = 1 ∨ j = 2 ∨ j = 3 ∨ j = 4 ∨ j = 5 := by omega
    rcases hj with rfl | rfl | rfl | rfl | rfl | rfl
    · exact (hf.i (by show 157 < _; omega) (show ¬ HM 157 1 by unfold HM; omega)).trans h.len
    · exact h1
    · exact h2
    · exact (hf.i (by show 157 < _; omega) (show ¬ HM 157 11 by unfold HM; omega)).trans h.next
    · exact h4
    · exact (hf.i (by show 157 < _; omega) (show ¬ HM 157 19 by unfold HM; omega)).trans h.seen
  · rcases hc with rfl | rfl
    · exact (hw j hj).1
    · exact (hw j hj).2.1
  · have := (hw (j / 8) (by omega)).2.2.2 (j % 8) (by omega)
    rw [show 8 * (j / 8) + j % 8 = j by omega] at this
    exact this
  · have := (hw (j / 6) (by omega)).2.2.1 (j % 6) hj2
    rw [show 6 * (j / 6) + j % 6 = j by omega] at this
    exact this
  · exact (hf.i (by show 168 < _; omega) (show ¬ HM 168 j by unfold HM; omega)).trans (h.row6 hj)
  · rcases hc with rfl | rfl | rfl
    · exact (hf.i (by show 169 < _; omega) (show ¬ HM 169 j by unfold HM; omega)).trans (h.sWhat hj)
    · exact (hf.i (by show 170 < _; omega) (show ¬ HM 170 j by unfold HM; omega)).trans (h.sOf hj)
    · exact (hf.i (by show 171 < _; omega) (show ¬ HM 171 j by unfold HM; omega)).trans (h.sWas hj)
  · exact h10 j hj
  · by_cases e : c = 11
    · subst e; exact h11 j hj
    · have e1 := h.g c j (by unfold dm; omega)
      have e2 : hsA A n S c j = A c j := by
        unfold hsA
        rw [if_neg (by omega), if_neg (by omega), if_neg (by omega), if_neg (by omega), if_neg (by omega), if_neg (by omega), if_neg e]
      rw [e2, ← e1]
      have hk : mA c j = 165 ∨ mA c j = 166 := by
        unfold mA
        rw [if_neg (by omega), if_neg (by omega), if_neg (by omega), if_neg (by omega), if_neg (by omega), if_neg (by omega), if_neg (by omega), if_neg (by omega), if_neg (by omega), if_neg (by omega), if_neg (by omega), if_neg e]
        split <;> omega
      exact hf.i (by omega) (by unfold HM; omega)
end HouseP
