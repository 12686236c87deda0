/-! ===== changes of the state ===== -/
theorem rA_k (k j : Nat) : rA k j = k + rA 0 j := by
  unfold rA
  repeat' split
  all_goals omega
theorem r_inj0 : ∀ j, j < 25 → ∀ j', j' < 25 → rA 0 j = rA 0 j' → rB j = rB j' → j = j' := by decide +kernel
theorem r_inj {k j j' : Nat} (h : j < 25) (h' : j' < 25) (e1 : rA k j = rA k j') (e2 : rB j = rB j') : j = j' := by
  rw [rA_k k j, rA_k k j'] at e1
  exact r_inj0 j h j' h' (by omega) e2
/-- where the row of a setting lies in X -/
def kS (c : Nat) : Nat := if c = 11 then 2 else if c < 26 then 25 + 4 * (c - 12) else 89 + 4 * (c - 26)
theorem xA_row {c j : Nat} (h : 11 ≤ c) (h2 : c < 28) : xA c j = rA (kS c) j ∧ xB c j = rB j := by
  unfold xA xB kS
  simp only [show ¬ c = 0 by omega, show ¬ c = 1 by omega, show ¬ c = 2 by omega, show ¬ c = 3 by omega, show ¬ c = 4 by omega, show ¬ c = 5 by omega, show ¬ c = 6 by omega, show ¬ c = 7 by omega, show ¬ c = 8 by omega, show ¬ c = 9 by omega, show ¬ c = 10 by omega, show ¬ c < 11 by omega, if_false]
  by_cases e : c = 11
  · simp [e]
  · by_cases e2 : c < 26
    · simp [e, e2]
    · simp [e, e2]
theorem sc_i : ∀ j, j < 6 → ∀ j', j' < 6 → (scX j = scX j' → j = j') ∧ (scM j = scM j' → j = j') := by decide +kernel
theorem xinj {A : Ab} (hA : nm A ≤ 10) {c j c' j' : Nat} (h : dm A c j) (h' : dm A c' j') (e1 : xA c j = xA c' j') (e2 : xB c j = xB c' j') : c = c' ∧ j = j' := by
  have q := xA_dm hA h
  have q' := xA_dm hA h'
  have hc : 11 ≤ c → c = c' := by
    intro hc
    obtain ⟨-, -, -, a1, a2, a3, -⟩ := q'
    have hc28 : c < 28 := by unfold dm at h; omega
    have r1 := (xA_row (j := j) hc hc28).1
    have r2 := rA_in (kS c) j
    have hk : kS c = if c = 11 then 2 else if c < 26 then 25 + 4 * (c - 12) else 89 + 4 * (c - 26) := rfl
    rw [r1] at e1
    rw [← e1] at a1 a2 a3
    generalize rA (kS c) j = z at *
    by_cases e : c = 11
    · rw [if_pos e] at hk
      have := a1 (by omega)
      omega
    · rw [if_neg e] at hk
      by_cases e3 : c < 26
      · rw [if_pos e3] at hk
        have := a2 (by omega)
        omega
      · rw [if_neg e3] at hk
        have := a3 (by omega)
        have hc28' : c' < 28 := by unfold dm at h'; omega
        omega
  by_cases h11 : 11 ≤ c
  · have ec := hc h11
    subst ec
    have hc28 : c < 28 := by unfold dm at h; omega
    obtain ⟨r1, r2⟩ := xA_row (j := j) h11 hc28
    obtain ⟨r1', r2'⟩ := xA_row (j := j') h11 hc28
    refine ⟨rfl, r_inj (k := kS c) ?_ ?_ (r1.symm.trans (e1.trans r1')) (r2.symm.trans (e2.trans r2'))⟩
    · unfold dm at h; omega
    · unfold dm at h'; omega
  · have hlt : c < 11 := by omega
    have hlt' : c' < 11 := by
      rcases Nat.lt_or_ge c' 11 with z | z
      · exact z
      · exfalso
        have q3 := q
        obtain ⟨-, -, -, a1, a2, a3, -⟩ := q
        have hc28 : c' < 28 := by unfold dm at h'; omega
        have r1 := (xA_row (j := j') z hc28).1
        have r2 := rA_in (kS c') j'
        have hk : kS c' = if c' = 11 then 2 else if c' < 26 then 25 + 4 * (c' - 12) else 89 + 4 * (c' - 26) := rfl
        rw [r1] at e1
        rw [e1] at a1 a2 a3
        generalize rA (kS c') j' = z at *
        by_cases e : c' = 11
        · rw [if_pos e] at hk
          have := a1 (by omega)
          omega
        · rw [if_neg e] at hk
          by_cases e3 : c' < 26
          · rw [if_pos e3] at hk
            have := a2 (by omega)
            omega
          · rw [if_neg e3] at hk
            have := a3 (by omega)
            omega
    obtain ⟨-, -, b0, -, -, -, b97, b18, b81, b83, b87⟩ := q'
    rw [← e1] at b0 b97 b18 b81 b83 b87
    clear q hc
    rcases h with ⟨rfl, h⟩ | ⟨rfl, h⟩ | ⟨h2, h⟩ | ⟨rfl, h⟩ | ⟨rfl, h, hh⟩ | ⟨rfl, h⟩ | ⟨rfl | rfl | rfl, h⟩ | ⟨rfl, h⟩ | ⟨h, hh, hhh⟩
    · have := b18 rfl
      subst this
      exact ⟨rfl, by simpa [xB] using e2⟩
    · have := b0 rfl
      subst this
      have h6 : j' < 6 := by unfold dm at h'; omega
      refine ⟨rfl, ?_⟩
      have e3 : scX j = scX j' := by simpa [xB] using e2
      exact (sc_i j h j' h6).1 e3
    · have e4 : xA c j = 97 + 6 * j := by rcases h2 with rfl | rfl <;> simp [xA]
      have e5 : xB c j = c - 1 := by rcases h2 with rfl | rfl <;> simp [xB]
      have := b97 (by omega)
      rw [e4] at e1
      rw [e5] at e2
      have t2 : c' = 2 ∨ c' = 3 ∨ c' = 4 ∨ c' = 5 := by omega
      rcases t2 with rfl | rfl | rfl | rfl
      · have : 97 + 6 * j = 97 + 6 * j' := by simpa [xA] using e1
        have : c - 1 = 1 := by simpa [xB] using e2
        omega
      · have : 97 + 6 * j = 97 + 6 * j' := by simpa [xA] using e1
        have : c - 1 = 2 := by simpa [xB] using e2
        omega
      · have : 97 + 6 * j = 97 + 6 * (j' / 8) + 2 := by rw [e1]; rfl
        omega
      · have : 97 + 6 * j = 97 + 6 * (j' / 6) + 1 := by rw [e1]; rfl
        omega
    · have e4 : xA 4 j = 97 + 6 * (j / 8) + 2 := rfl
      have e5 : xB 4 j = j % 8 := rfl
      have := b97 (by omega)
      rw [e4] at e1
      rw [e5] at e2
      have t2 : c' = 2 ∨ c' = 3 ∨ c' = 4 ∨ c' = 5 := by omega
      rcases t2 with rfl | rfl | rfl | rfl
      · have : 97 + 6 * (j / 8) + 2 = 97 + 6 * j' := by rw [e1]; rfl
        omega
      · have : 97 + 6 * (j / 8) + 2 = 97 + 6 * j' := by rw [e1]; rfl
        omega
      · have : 97 + 6 * (j / 8) + 2 = 97 + 6 * (j' / 8) + 2 := by rw [e1]; rfl
        have : j % 8 = j' % 8 := by rw [e2]; rfl
        omega
      · have : 97 + 6 * (j / 8) + 2 = 97 + 6 * (j' / 6) + 1 := by rw [e1]; rfl
        omega
    · have e4 : xA 5 j = 97 + 6 * (j / 6) + 1 := rfl
      have e5 : xB 5 j = j % 6 := rfl
      have := b97 (by omega)
      rw [e4] at e1
      rw [e5] at e2
      have t2 : c' = 2 ∨ c' = 3 ∨ c' = 4 ∨ c' = 5 := by omega
      rcases t2 with rfl | rfl | rfl | rfl
      · have : 97 + 6 * (j / 6) + 1 = 97 + 6 * j' := by rw [e1]; rfl
        omega
      · have : 97 + 6 * (j / 6) + 1 = 97 + 6 * j' := by rw [e1]; rfl
        omega
      · have : 97 + 6 * (j / 6) + 1 = 97 + 6 * (j' / 8) + 2 := by rw [e1]; rfl
        omega
      · have : 97 + 6 * (j / 6) + 1 = 97 + 6 * (j' / 6) + 1 := by rw [e1]; rfl
        have : j % 6 = j' % 6 := by rw [e2]; rfl
        omega
    · have := b81 rfl
      subst this
      exact ⟨rfl, by simpa [xB] using e2⟩
    · have e4 : xA 7 j = 83 := rfl
      have := b83 ⟨by omega, by omega⟩
      have : c' = 7 := by omega
      subst this
      exact ⟨rfl, by simpa [xB] using e2⟩
    · have e4 : xA 8 j = 84 := rfl
      have := b83 ⟨by omega, by omega⟩
      have : c' = 8 := by omega
      subst this
      exact ⟨rfl, by simpa [xB] using e2⟩
    · have e4 : xA 9 j = 85 := rfl
      have := b83 ⟨by omega, by omega⟩
      have : c' = 9 := by omega
      subst this
      exact ⟨rfl, by simpa [xB] using e2⟩
    · have := b87 rfl
      subst this
      exact ⟨rfl, by simpa [xB] using e2⟩
    · omega
theorem dm_up {A : Ab} {c0 j0 : Nat} {v : Int32} (h1 : ¬ (c0 = 1 ∧ j0 = 1)) (h2 : c0 ≠ 2) : nm (up2 A c0 j0 v) = nm A ∧ ∀ c j, dm (up2 A c0 j0 v) c j ↔ dm A c j := by
  have e1 : nm (up2 A c0 j0 v) = nm A := by unfold nm; rw [up2_n (by omega)]
  have e2 : ∀ w, sz (up2 A c0 j0 v) w = sz A w := fun w => by unfold sz; rw [up2_n (by omega)]
  refine ⟨e1, fun c j => ?_⟩
  unfold dm
  rw [e1, e2]
theorem RX.up {B : Bs} {A : Ab} {sd : Int64} {σ : Mem} {c0 j0 : Nat} {v : Int32} (h : RX B A sd σ) (hA : nm A ≤ 10) (hd : dm A c0 j0) (h1 : ¬ (c0 = 1 ∧ j0 = 1)) (h2 : c0 ≠ 2) : RX B (up2 A c0 j0 v) sd (setI σ (xA c0 j0) (xB c0 j0) v) := by
  obtain ⟨hL, hy, h3, h4⟩ := h
  refine ⟨hL, hy, fun c j hc => ?_, h4⟩
  have hc := ((dm_up h1 h2).2 c j).mp hc
  by_cases e : c = c0 ∧ j = j0
  · rw [e.1, e.2, gI_s, up2_s]
  · rw [gI_n (fun q => e (xinj hA hc hd q.1 q.2)), up2_n e]
    exact h3 c j hc
/-- a setting of X has become a row -/
theorem RX.row {B : Bs} {A : Ab} {sd : Int64} {σ σ' : Mem} {c0 : Nat} {f : Nat → Int32} (h : RX B A sd σ) (hA : nm A ≤ 10) (hc0 : 11 ≤ c0 ∧ c0 < 28) (hf : FrR (SP (kS c0)) σ σ') (hr : ∀ j, j < 25 → rowOf σ' (kS c0) j = f j) : RX B (up1 A c0 f) sd σ' := by
  obtain ⟨hL, ⟨ka, kb, hy⟩, h3, h4⟩ := h
  have hn := hL.n
  have en : nm (up1 A c0 f) = nm A := by unfold nm; rw [up1_n (by omega)]
  have es : ∀ w, sz (up1 A c0 f) w = sz A w := fun w => by unfold sz; rw [up1_n (by omega)]
  have hk0 : 2 ≤ kS c0 := by unfold kS; repeat' split
                             all_goals omega
  refine ⟨hL.frR hf, ⟨ka, kb, hy.fr hf⟩, fun c j hc => ?_, (hf.l (by omega) (by unfold SP; omega)).trans h4⟩
  have hc : dm A c j := by unfold dm at hc ⊢; rw [en, es] at hc; exact hc
  by_cases e : c = c0
  · subst e
    obtain ⟨r1, r2⟩ := xA_row (j := j) hc0.1 hc0.2
    rw [up1_s, r1, r2, ← ro_at]
    exact hr j (by unfold dm at hc; omega)
  · rw [up1_n e]
    have q := xA_dm hA hc
    refine (hf.i (by omega) (fun z => ?_)).trans (h3 c j hc)
    unfold SP kS at z
    obtain ⟨-, -, -, a1, a2, a3, -⟩ := q
    by_cases e1 : c0 = 11
    · rw [if_pos e1] at z
      have := a1 (by omega)
      omega
    · rw [if_neg e1] at z
      by_cases e2 : c0 < 26
      · rw [if_pos e2] at z
        have := a2 (by omega)
        omega
      · rw [if_neg e2] at z
        have := a3 (by omega)
        have : c < 28 := by unfold dm at hc; omega
        omega
theorem mA_c {c j : Nat} (h : c < 12) : mA c j = mA c 0 := by
  have : c = 0 ∨ c = 1 ∨ c = 2 ∨ c = 3 ∨ c = 4 ∨ c = 5 ∨ c = 6 ∨ c = 7 ∨ c = 8 ∨ c = 9 ∨ c = 10 ∨ c = 11 := by omega
  rcases this with rfl | rfl | rfl | rfl | rfl | rfl | rfl | rfl | rfl | rfl | rfl | rfl <;> rfl
theorem mA_i : ∀ c, c < 12 → (∀ c', c' < 12 → mA c 0 = mA c' 0 → c = c') ∧ mA c 0 ≠ 165 ∧ mA c 0 ≠ 166 := by decide +kernel
theorem mA_r {c j : Nat} (h : 12 ≤ c) : mA c j = (if c < 26 then 165 else 166) ∧ mB c j = (if c < 26 then 25 * (c - 12) + j else 25 * (c - 26) + j) := by
  unfold mA mB
  simp only [show ¬ c = 0 by omega, show ¬ c = 1 by omega, show ¬ c = 2 by omega, show ¬ c = 3 by omega, show ¬ c = 4 by omega, show ¬ c = 5 by omega, show ¬ c = 6 by omega, show ¬ c = 7 by omega, show ¬ c = 8 by omega, show ¬ c = 9 by omega, show ¬ c = 10 by omega, show ¬ c = 11 by omega, show ¬ c < 12 by omega, if_false]
  trivial
theorem minj {A : Ab} {c j c' j' : Nat} (h : dm A c j) (h' : dm A c' j') (e1 : mA c j = mA c' j') (e2 : mB c j = mB c' j') : c = c' ∧ j = j' := by
  by_cases h11 : 12 ≤ c
  · have k1 : c < 28 ∧ j < 25 := by unfold dm at h; omega
    obtain ⟨r1, r2⟩ := mA_r (j := j) h11
    by_cases h11' : 12 ≤ c'
    · have k2 : c' < 28 ∧ j' < 25 := by unfold dm at h'; omega
      obtain ⟨r1', r2'⟩ := mA_r (j := j') h11'
      rw [r1, r1'] at e1
      rw [r2, r2'] at e2
      by_cases z : c < 26 <;> by_cases z' : c' < 26 <;> simp only [z, z', if_true, if_false] at e1 e2 <;> omega
    · exfalso
      rw [r1, mA_c (by omega)] at e1
      have := mA_i c' (by omega)
      split at e1 <;> omega
  · by_cases h11' : 12 ≤ c'
    · exfalso
      obtain ⟨r1', r2'⟩ := mA_r (j := j') h11'
      rw [r1', mA_c (by omega)] at e1
      have := mA_i c (by omega)
      split at e1 <;> omega
    · rw [mA_c (by omega), mA_c (by omega)] at e1
      have ec : c = c' := (mA_i c (by omega)).1 c' (by omega) e1
      subst ec
      refine ⟨rfl, ?_⟩
      unfold mB at e2
      by_cases e : c = 1
      · subst e
        have k1 : j < 6 := by unfold dm at h; omega
        have k2 : j' < 6 := by unfold dm at h'; omega
        have e3 : scM j = scM j' := by simpa using e2
        exact (sc_i j k1 j' k2).2 e3
      · rw [if_neg e, if_neg e, if_pos (by omega), if_pos (by omega)] at e2
        exact e2
theorem RMm.up {B : Bs} {A : Ab} {sd : Int64} {σ : Mem} {c0 j0 : Nat} {v : Int32} (h : RMm B A sd σ) (hd : dm A c0 j0) (h1 : ¬ (c0 = 1 ∧ j0 = 1)) (h2 : c0 ≠ 2) : RMm B (up2 A c0 j0 v) sd (setI σ (mA c0 j0) (mB c0 j0) v) := by
  obtain ⟨hM, h3, h4⟩ := h
  refine ⟨hM, fun c j hc => ?_, h4⟩
  have hc := ((dm_up h1 h2).2 c j).mp hc
  by_cases e : c = c0 ∧ j = j0
  · rw [e.1, e.2, gI_s, up2_s]
  · rw [gI_n (fun q => e (minj hc hd q.1 q.2)), up2_n e]
    exact h3 c j hc
/-- a row of M has become another -/
theorem RMm.row {B : Bs} {A : Ab} {sd : Int64} {σ σ' : Mem} {c0 : Nat} {f : Nat → Int32} {Q : Nat → Nat → Prop} (h : RMm B A sd σ) (hc0 : 11 ≤ c0 ∧ c0 < 28) (hf : FrR Q σ σ') (hq : ∀ a q, Q a q → ∃ j, j < 25 ∧ a = mA c0 j ∧ q = mB c0 j) (hr : ∀ j, j < 25 → σ'.2.2.1 (mA c0 j) (mB c0 j) = f j) : RMm B (up1 A c0 f) sd σ' := by
  obtain ⟨hM, h3, h4⟩ := h
  have hn := hM.n
  have en : nm (up1 A c0 f) = nm A := by unfold nm; rw [up1_n (by omega)]
  have es : ∀ w, sz (up1 A c0 f) w = sz A w := fun w => by unfold sz; rw [up1_n (by omega)]
  have hmc : mA c0 0 ≠ 157 := by unfold mA; repeat' split
                                 all_goals omega
  refine ⟨hM.frR hf, fun c j hc => ?_, (hf.l (by omega) (fun z => ?_)).trans h4⟩
  · have hc : dm A c j := by unfold dm at hc ⊢; rw [en, es] at hc; exact hc
    by_cases e : c = c0
    · subst e
      rw [up1_s]
      exact hr j (by unfold dm at hc; omega)
    · rw [up1_n e]
      have q := mA_dm hc
      refine (hf.i (by omega) (fun z => ?_)).trans (h3 c j hc)
      obtain ⟨i, hi, z1, z2⟩ := hq _ _ z
      have hd0 : dm A c0 i := by unfold dm; omega
      exact e (minj hc hd0 z1 z2).1
  · obtain ⟨i, hi, z1, z2⟩ := hq _ _ z
    exact hmc z1.symm
