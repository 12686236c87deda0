/-! ===== M reads ===== -/
section ReadW
variable {A : Ab}
def WdS (S : Ab) (w : Nat) : Prop := (S 2 w = nI (sz S w) ∧ 1 ≤ sz S w ∧ sz S w ≤ 6) ∧ (∃ k, k < 4 ∧ S 3 w = nI k) ∧ ∀ j, j < sz S w → ∃ y, y < 8 ∧ S 5 (6 * w + j) = nI y
def WFS (n : Nat) (S : Ab) : Prop := n ≤ 10 ∧ WFr 0 (S 11) ∧ ∀ w, w < n → WdS S w
/-- a word that is being read -/
def WdP (S : Ab) (n pl : Nat) : Prop := n < 10 ∧ S 2 n = nI (sz S n) ∧ sz S n ≤ 6 ∧ (∀ j, j < sz S n → ∃ y, y < 8 ∧ S 5 (6 * n + j) = nI y) ∧ (pl = 2 → 1 ≤ sz S n ∧ ∃ k, k < 4 ∧ S 3 n = nI k)
def WFm (p pl fi n : Nat) (S : Ab) : Prop := WFS n S ∧ pl ≤ 2 ∧ (1 ≤ pl → (p = 119 ∧ WdP S n pl) ∨ (p = 43 ∧ pl = 1 ∧ sm (bg (S 11)) 8 < 12) ∨ (p = 94 ∧ pl = 1) ∨ (p = 46 ∧ pl = 1) ∨ (p = 58 ∧ (pl = 2 → fi < 4)))
theorem sz_c {S S' : Ab} {w : Nat} (h : S' 2 w = S 2 w) : sz S' w = sz S w := by unfold sz; rw [h]
theorem WdS.cg {S S' : Ab} {w : Nat} (h : WdS S w) (h2 : S' 2 w = S 2 w) (h3 : S' 3 w = S 3 w) (h5 : ∀ j, j < 6 → S' 5 (6 * w + j) = S 5 (6 * w + j)) : WdS S' w := by
  obtain ⟨⟨a1, a2, a3⟩, b, c⟩ := h
  unfold WdS
  rw [sz_c h2, h2, h3]
  exact ⟨⟨a1, a2, a3⟩, b, fun j hj => by rw [h5 j (by omega)]; exact c j hj⟩
theorem row_u {S : Ab} {j : Nat} {v : Int32} : (up2 S 11 j v) 11 = upf (S 11) j v := up2_f
theorem WFr.or {f : Nat → Int32} (h : WFr 0 f) {j : Nat} (hj : 19 ≤ j) (hj2 : j < 25) {b k : Nat} (hb : b < 16) (e : f j = nI b) (hk : k < 4) : WFr 0 (upf f j (f j ||| nI (2 ^ k))) := by
  refine h.oth (by omega) (by omega) (by omega) (fun _ => ?_)
  rw [e]
  have : ∀ b, b < 16 → ∀ k, k < 4 → b ||| 2 ^ k < 16 := by decide +kernel
  exact ⟨b ||| 2 ^ k, this b hb k hk, or_nI b (2 ^ k)⟩
theorem WFr.b16 {f : Nat → Int32} (h : WFr 0 f) {j : Nat} (hj : 19 ≤ j) (hj2 : j < 25) : ∃ b, b < 16 ∧ f j = nI b := by
  obtain ⟨-, -, -, -, h5, h6, h7⟩ := h
  by_cases e1 : j = 19
  · rw [e1]; exact h5
  · by_cases e2 : j = 20
    · rw [e2]; exact h6
    · have := h7 (j - 21) (by omega)
      rw [show 21 + (j - 21) = j by omega] at this
      exact this
theorem wf_sign {p fi n t : Nat} {S : Ab} (h : WFm p 0 fi n S) (hok : okS n S t = true) : WFm t 1 fi n (stS n S t) := by
  obtain ⟨⟨h1, h2, h3⟩, -, -⟩ := h
  unfold okS at hok
  by_cases t1 : t = 119
  · rw [if_pos t1] at hok
    have hn : n < 10 := of_decide_eq_true hok
    have es : stS n S t = up2 S 2 n (nI 0) := by unfold stS; rw [if_pos t1]
    have e0 : sz (up2 S 2 n (nI 0)) n = 0 := by show (up2 S 2 n (nI 0) 2 n).toNatClampNeg = 0; rw [up2_s]; rfl
    rw [es]
    refine ⟨⟨h1, h2, fun w hw => (h3 w hw).cg (up2_n (by omega)) rfl (fun j hj => rfl)⟩, by omega, fun _ => Or.inl ⟨t1, hn, by rw [up2_s, e0], by omega, fun j hj => by omega, fun z => by omega⟩⟩
  · have es : stS n S t = S := by unfold stS; rw [if_neg t1]
    rw [es]
    rw [if_neg t1] at hok
    refine ⟨⟨h1, h2, h3⟩, by omega, fun _ => Or.inr ?_⟩
    by_cases t2 : t = 43
    · rw [if_pos t2] at hok
      exact Or.inl ⟨t2, rfl, of_decide_eq_true hok⟩
    · rw [if_neg t2] at hok
      by_cases t3 : t = 94
      · exact Or.inr (Or.inl ⟨t3, rfl⟩)
      · rw [if_neg t3] at hok
        by_cases t4 : t = 46
        · exact Or.inr (Or.inr (Or.inl ⟨t4, rfl⟩))
        · rw [if_neg t4] at hok
          by_cases t5 : t = 58
          · exact Or.inr (Or.inr (Or.inr ⟨t5, fun z => by omega⟩))
          · rw [if_neg t5] at hok
            exact absurd hok (by decide)
theorem wf_kd {p pl fi n j t : Nat} {S : Ab} (h : WFm p pl fi n S) (hj : 19 ≤ j) (hj2 : j < 25) (hok : kOK S j t = true) : WFm p 0 fi n (kSt S j t) := by
  obtain ⟨⟨h1, h2, h3⟩, -, -⟩ := h
  unfold kOK at hok
  rw [Bool.and_eq_true] at hok
  have ht := of_decide_eq_true hok.1
  obtain ⟨b, hb, e⟩ := h2.b16 hj hj2
  refine ⟨⟨h1, ?_, fun w hw => (h3 w hw).cg rfl rfl (fun j hj => rfl)⟩, by omega, fun z => by omega⟩
  show WFr 0 ((up2 S 11 j _) 11)
  rw [row_u]
  exact h2.or hj hj2 hb e (by omega)
theorem wf_in {p pl fi n t : Nat} {S : Ab} (h : WFm p pl fi n S) (hpl : 1 ≤ pl) (hok : (mIn p pl fi n S t).1 = true) : WFm p (mIn p pl fi n S t).2.1 (mIn p pl fi n S t).2.2.1 (mIn p pl fi n S t).2.2.2.1 (mIn p pl fi n S t).2.2.2.2 := by
  have h0 := h
  obtain ⟨⟨h1, h2, h3⟩, h4, h5⟩ := h
  rcases h5 hpl with ⟨rfl, hn, k1, k2, k3, k4⟩ | ⟨rfl, rfl, hs⟩ | ⟨rfl, rfl⟩ | ⟨rfl, rfl⟩ | ⟨rfl, hf⟩
  · by_cases e2 : pl = 2
    · have em : mIn 119 pl fi n S t = (decide (48 ≤ t ∧ t < 58), 0, fi, n + 1, up2 S 11 (9 + n) (nI (t - 48))) := by unfold mIn; rw [if_pos rfl, if_pos e2]
      rw [em] at hok ⊢
      have ht : 48 ≤ t ∧ t < 58 := of_decide_eq_true hok
      obtain ⟨z1, z2⟩ := k4 e2
      refine ⟨⟨by show n + 1 ≤ 10; omega, ?_, fun w hw => ?_⟩, by show 0 ≤ 2; omega, fun z => absurd z (by show ¬ 1 ≤ 0; omega)⟩
      · show WFr 0 ((up2 S 11 (9 + n) _) 11)
        rw [row_u]
        exact h2.oth (by omega) (by omega) (fun _ _ => ⟨t - 48, by omega, rfl⟩) (by omega)
      · have hw : w < n + 1 := hw
        by_cases e : w = n
        · subst e
          exact (show WdS S w from ⟨⟨k1, z1, k2⟩, z2, k3⟩).cg rfl rfl (fun j hj => rfl)
        · exact (h3 w (by omega)).cg rfl rfl (fun j hj => rfl)
    · by_cases e3 : (97 ≤ t ∧ t < 105) ∧ sz S n < 6
      · have em : mIn 119 pl fi n S t = (true, 1, fi, n, adL S n t) := by unfold mIn; rw [if_pos rfl, if_neg e2, if_pos e3]
        rw [em]
        show WFm 119 1 fi n (adL S n t)
        have es := adL_sz (t := t) e3.2
        have h5x : ∀ i, i ≠ 6 * n + sz S n → adL S n t 5 i = S 5 i := fun i hi => by
          unfold adL
          rw [up2_n (by omega), up2_n (by omega)]
        refine ⟨⟨h1, h2, fun w hw => (h3 w hw).cg ?_ rfl (fun j hj => h5x _ (by omega))⟩, by show 1 ≤ 2; omega, fun _ => Or.inl ⟨rfl, hn, ?_, ?_, fun j hj => ?_, fun z => absurd z (by show ¬ 1 = 2; omega)⟩⟩
        · unfold adL
          rw [up2_n (by omega), up2_n (by omega)]
        · show adL S n t 2 n = nI (sz (adL S n t) n)
          rw [es]
          exact up2_s
        · show sz (adL S n t) n ≤ 6
          omega
        · have hj : j < sz (adL S n t) n := hj
          by_cases e : j = sz S n
          · refine ⟨t - 97, by omega, ?_⟩
            show adL S n t 5 (6 * n + j) = _
            unfold adL
            rw [up2_n (by omega), e, up2_s]
          · show ∃ y, y < 8 ∧ adL S n t 5 (6 * n + j) = nI y
            rw [h5x _ (by omega)]
            exact k3 j (by omega)
      · have em : mIn 119 pl fi n S t = (decide ((65 ≤ t ∧ t < 69) ∧ 0 < sz S n), 2, fi, n, up2 S 3 n (nI (t - 65))) := by unfold mIn; rw [if_pos rfl, if_neg e2, if_neg e3]
        rw [em] at hok ⊢
        have ht : (65 ≤ t ∧ t < 69) ∧ 0 < sz S n := of_decide_eq_true hok
        show WFm 119 2 fi n (up2 S 3 n (nI (t - 65)))
        refine ⟨⟨h1, h2, fun w hw => (h3 w hw).cg rfl (up2_n (by omega)) (fun j hj => rfl)⟩, by show 2 ≤ 2; omega, fun _ => Or.inl ⟨rfl, hn, k1, k2, k3, fun _ => ⟨by show 1 ≤ sz S n; omega, t - 65, by omega, up2_s⟩⟩⟩
  · have em : mIn 43 1 fi n S t = (decide (97 ≤ t ∧ t < 105), 0, fi, n, up2 S 11 (t - 97) (S 11 (t - 97) + nI 1)) := by unfold mIn; rw [if_neg (by decide), if_pos rfl]
    rw [em] at hok ⊢
    have ht : 97 ≤ t ∧ t < 105 := of_decide_eq_true hok
    refine ⟨⟨h1, ?_, fun w hw => (h3 w hw).cg rfl rfl (fun j hj => rfl)⟩, by show 0 ≤ 2; omega, fun z => absurd z (by show ¬ 1 ≤ 0; omega)⟩
    show WFr 0 ((up2 S 11 (t - 97) _) 11)
    rw [row_u, h2.1 (t - 97) (by omega), nI_add]
    exact h2.letter (by omega) (by omega)
  · have em : mIn 94 1 fi n S t = (kOK S 19 t, 0, fi, n, kSt S 19 t) := by unfold mIn; rw [if_neg (by decide), if_neg (by decide), if_pos rfl]
    rw [em] at hok ⊢
    exact wf_kd h0 (by omega) (by omega) hok
  · have em : mIn 46 1 fi n S t = (kOK S 20 t, 0, fi, n, kSt S 20 t) := by unfold mIn; rw [if_neg (by decide), if_neg (by decide), if_neg (by decide), if_pos rfl]
    rw [em] at hok ⊢
    exact wf_kd h0 (by omega) (by omega) hok
  · by_cases e2 : pl = 2
    · have em : mIn 58 pl fi n S t = (kOK S (21 + fi) t, 0, fi, n, kSt S (21 + fi) t) := by unfold mIn; rw [if_neg (by decide), if_neg (by decide), if_neg (by decide), if_neg (by decide), if_pos e2]
      rw [em] at hok ⊢
      have := hf e2
      exact wf_kd h0 (by omega) (by omega) hok
    · have em : mIn 58 pl fi n S t = (decide ((65 ≤ t ∧ t < 69) ∧ ¬ S 11 (21 + (t - 65)) = nI 15), 2, t - 65, n, S) := by unfold mIn; rw [if_neg (by decide), if_neg (by decide), if_neg (by decide), if_neg (by decide), if_neg e2]
      rw [em] at hok ⊢
      have ht : (65 ≤ t ∧ t < 69) ∧ ¬ S 11 (21 + (t - 65)) = nI 15 := of_decide_eq_true hok
      exact ⟨⟨h1, h2, h3⟩, by show 2 ≤ 2; omega, fun _ => Or.inr (Or.inr (Or.inr (Or.inr ⟨rfl, fun _ => by show t - 65 < 4; omega⟩)))⟩
end ReadW

