/-! ===== worths, purely ===== -/
def rk (P : Pb) (w : Nat) : Int32 := P.2.2.2.1 (9 + w)
/-- the ranks are figures -/
def WFR (P : Pb) : Prop := ∀ w, w < P.1 → ∃ v : Nat, v ≤ 9 ∧ rk P w = nI v
def wst (P : Pb) (r k : Nat) (W : Nat → Int32) (w : Nat) (b : Int32) : Int32 := if (if mayB P w r k = true then W w else -9) = -9 then b else if b < (if mayB P w r k = true then W w else -9) + rk P w then (if mayB P w r k = true then W w else -9) + rk P w else b
def wn (P : Pb) : Nat → Nat → Nat → Int32
  | 0, r, k => if r = 0 ∧ endB P k = true then 0 else -9
  | q + 1, r, k => if r = 0 then (if endB P k = true then 0 else -9) else fo (wst P r k (fun w => wn P q (r - stp P w) (P.2.2.1 w))) (-9) P.1
def wor (P : Pb) (r k : Nat) : Int32 := wn P r r k
theorem wn_0 (P : Pb) (q k : Nat) : wn P q 0 k = if endB P k = true then 0 else -9 := by cases q <;> simp [wn]
theorem wst_congr {P : Pb} {r k : Nat} {W W' : Nat → Int32} {w : Nat} {b : Int32} (h : mayB P w r k = true → W w = W' w) : wst P r k W w b = wst P r k W' w b := by
  unfold wst
  by_cases hm : mayB P w r k = true
  · simp only [hm, if_true, h hm]
  · simp only [hm]
    simp
theorem wn_fuel {P : Pb} (hP : WFP P) : ∀ (r q k : Nat), r ≤ q → wn P q r k = wn P r r k := by
  intro r
  induction r using Nat.strongRecOn with
  | ind r ih =>
    intro q k h
    cases r with
    | zero => rw [wn_0, wn_0]
    | succ r =>
      obtain ⟨q, rfl⟩ : ∃ q', q = q' + 1 := ⟨q - 1, by omega⟩
      rw [wn, wn, if_neg (by omega), if_neg (by omega)]
      refine fo_congr _ (fun w a hw => wst_congr (fun hm => ?_))
      have h1 := stp_pos hP hw
      rw [ih (r + 1 - stp P w) (by omega) q _ (by omega), ih (r + 1 - stp P w) (by omega) r _ (by omega)]
theorem wor_0 (P : Pb) (k : Nat) : wor P 0 k = if endB P k = true then 0 else -9 := wn_0 P 0 k
/-- what comes behind a word -/
def wb (P : Pb) (r w : Nat) : Int32 := wor P (r - stp P w) (P.2.2.1 w)
theorem wor_s {P : Pb} (hP : WFP P) {r : Nat} (k : Nat) (hr : 0 < r) : wor P r k = fo (wst P r k (wb P r)) (-9) P.1 := by
  obtain ⟨r, rfl⟩ : ∃ r', r = r' + 1 := ⟨r - 1, by omega⟩
  rw [wor, wn, if_neg (by omega)]
  refine fo_congr _ (fun w a hw => wst_congr (fun hm => ?_))
  have h1 := stp_pos hP hw
  rw [wn_fuel hP _ r _ (by omega)]
  rfl
/-- none, or a number up to c -/
def up9 (x : Int32) (c : Nat) : Prop := x = -9 ∨ ∃ v : Nat, v ≤ c ∧ x = nI v
theorem m9_ne {v : Nat} (h : v < 1000) : ¬ nI v = -9 := by
  intro e
  have h1 := congrArg Int32.toInt e
  rw [nI_toInt (by omega)] at h1
  rw [show (-9 : Int32).toInt = -9 from by decide] at h1
  omega
theorem m9_lt {v : Nat} (h : v < 1000) : (-9 : Int32) < nI v := by
  rw [Int32.lt_iff_toInt_lt, nI_toInt (by omega), show (-9 : Int32).toInt = -9 from by decide]
  omega
theorem wor_up {P : Pb} (hP : WFP P) (hR : WFR P) : ∀ (r k : Nat), r < nS P → up9 (wor P r k) (9 * ds P r) := by
  intro r
  induction r using Nat.strongRecOn with
  | ind r ih =>
    intro k hr
    by_cases h0 : r = 0
    · subst h0
      rw [wor_0]
      by_cases he : endB P k = true
      · rw [if_pos he]; exact Or.inr ⟨0, Nat.zero_le _, rfl⟩
      · rw [if_neg he]; exact Or.inl rfl
    · rw [wor_s hP k (by omega)]
      refine fo_inv (I := fun _ x => up9 x (9 * ds P r)) P.1 (Or.inl rfl) (fun w b hw hb => ?_)
      unfold wst
      by_cases hm : mayB P w r k = true
      · simp only [hm, if_true]
        by_cases h9 : wb P r w = -9
        · rw [if_pos h9]; exact hb
        · rw [if_neg h9]
          have hpos := stp_pos hP hw
          have hds := ds_sub hP hw (may_fit hm) hr
          have hd13 := ds_le hP r
          rcases ih (r - stp P w) (by omega) (P.2.2.1 w) (by omega) with h | ⟨v, hv, he⟩
          · exact absurd h h9
          · obtain ⟨u, hu, hu2⟩ := hR w hw
            have e1 : wb P r w + rk P w = nI (v + u) := by rw [show wb P r w = nI v from he, hu2, nI_add]
            rw [e1]
            by_cases hlt : b < nI (v + u)
            · rw [if_pos hlt]; exact Or.inr ⟨v + u, by omega, rfl⟩
            · rw [if_neg hlt]; exact hb
      · simp only [hm]
        simpa using hb
/-- the first word that a test takes -/
def lw (p : Nat → Bool) (n : Nat) : Nat := ((List.range n).find? p).getD 0
theorem lw_eq {p : Nat → Bool} {n w : Nat} (hw : w < n) (hp : p w = true) (hl : ∀ v, v < w → p v = false) : lw p n = w := by
  have : (List.range n).find? p = some w := by
    rw [List.find?_range_eq_some]
    exact ⟨hp, List.mem_range.mpr hw, fun j hj => by rw [hl j hj]; rfl⟩
  rw [lw, this]
  rfl
theorem lw_ex {p : Nat → Bool} {n : Nat} (h : ∃ w, w < n ∧ p w = true) : lw p n < n ∧ p (lw p n) = true ∧ ∀ v, v < lw p n → p v = false := by
  obtain ⟨w0, h0, h1⟩ := h
  obtain ⟨w, hw, hl⟩ := pk_least (fun w => w < n ∧ p w = true) ⟨w0, h0, h1⟩
  have hl2 : ∀ v, v < w → p v = false := by
    intro v hv
    have := hl v hv
    cases hp : p v with
    | false => rfl
    | true => exact absurd ⟨by omega, hp⟩ this
  have e := lw_eq hw.1 hw.2 hl2
  rw [e]
  exact ⟨hw.1, hw.2, hl2⟩
/-- whether a word leads on to the greatest worth -/
def leadB (P : Pb) (r k w : Nat) : Bool := mayB P w r k && (decide (¬ wb P r w = -9) && decide (wb P r w + rk P w = wor P r k))
theorem fo_mem {P : Pb} {r k : Nat} {W : Nat → Int32} : ∀ (n : Nat), fo (wst P r k W) (-9) n = -9 ∨ ∃ w, w < n ∧ mayB P w r k = true ∧ ¬ W w = -9 ∧ W w + rk P w = fo (wst P r k W) (-9) n
  | 0 => Or.inl rfl
  | n + 1 => by
    have ih := fo_mem (P := P) (r := r) (k := k) (W := W) n
    show wst P r k W n (fo (wst P r k W) (-9) n) = -9 ∨ ∃ w, w < n + 1 ∧ _ ∧ _ ∧ _ = wst P r k W n (fo (wst P r k W) (-9) n)
    generalize fo (wst P r k W) (-9) n = b at ih ⊢
    have keep : (b = -9 ∨ ∃ w, w < n ∧ mayB P w r k = true ∧ ¬ W w = -9 ∧ W w + rk P w = b) → (b = -9 ∨ ∃ w, w < n + 1 ∧ mayB P w r k = true ∧ ¬ W w = -9 ∧ W w + rk P w = b) := by
      rintro (h | ⟨w, h1, h2⟩)
      · exact Or.inl h
      · exact Or.inr ⟨w, by omega, h2⟩
    unfold wst
    by_cases hm : mayB P n r k = true
    · simp only [hm, if_true]
      by_cases h9 : W n = -9
      · rw [if_pos h9]; exact keep ih
      · rw [if_neg h9]
        by_cases hlt : b < W n + rk P n
        · rw [if_pos hlt]; exact Or.inr ⟨n, by omega, hm, h9, rfl⟩
        · rw [if_neg hlt]; exact keep ih
    · simp only [hm]
      simpa using keep ih
theorem lead_ex {P : Pb} (hP : WFP P) {r k : Nat} (hr : 0 < r) (h : ¬ wor P r k = -9) : ∃ w, w < P.1 ∧ leadB P r k w = true := by
  rw [wor_s hP k hr] at h
  rcases fo_mem (P := P) (r := r) (k := k) (W := wb P r) P.1 with h1 | ⟨w, hw, h1, h2, h3⟩
  · exact absurd h1 h
  · refine ⟨w, hw, ?_⟩
    rw [leadB, h1, decide_eq_true h2, decide_eq_true (h3.trans (wor_s hP k hr).symm)]
    rfl
/-- a row of words, by a way to choose: what is left, the kind, and a number on the way -/
abbrev Wy : Type := Nat × Nat × Nat
def wstep (P : Pb) (c : Wy → Nat × Nat) (q : Wy) : Wy := (q.1 - stp P (c q).1, P.2.2.1 (c q).1, (c q).2)
def wpath (P : Pb) (c : Wy → Nat × Nat) (q : Wy) : Nat → Wy
  | 0 => q
  | i + 1 => wstep P c (wpath P c q i)
/-- how long it is -/
def wlen (P : Pb) (c : Wy → Nat × Nat) (q : Wy) : Nat := lw (fun i => decide ((wpath P c q i).1 = 0)) 15
def wword (P : Pb) (c : Wy → Nat × Nat) (q : Wy) (i : Nat) : Nat := (c (wpath P c q i)).1
def wsum (P : Pb) (c : Wy → Nat × Nat) (q : Wy) (n : Nat) : Int32 := fo (fun i a => a + rk P (wword P c q i)) 0 n
/-- the best row -/
def cbest (P : Pb) (q : Wy) : Nat × Nat := (lw (leadB P q.1 q.2.1) P.1, 0)
/-- the row of a number -/
def cnum (P : Pb) (q : Wy) : Nat × Nat :=
  let w := lw (fun w => decide (q.2.2 < sm (cw P q.1 q.2.1) (w + 1))) P.1
  (w, q.2.2 - sm (cw P q.1 q.2.1) w)
/-- a way that goes on as long as something is left -/
def goesOn (P : Pb) (c : Wy → Nat × Nat) (I : Wy → Prop) : Prop := ∀ q, I q → 0 < q.1 → q.1 < nS P → (c q).1 < P.1 ∧ fitB P (c q).1 q.1 = true ∧ I (wstep P c q)
theorem wpath_in {P : Pb} (hP : WFP P) {c : Wy → Nat × Nat} {I : Wy → Prop} (hg : goesOn P c I) {q : Wy} (hI : I q) (hq : q.1 < nS P) : ∀ i, (∀ j, j < i → 0 < (wpath P c q j).1) → I (wpath P c q i) ∧ (wpath P c q i).1 < nS P ∧ ds P (wpath P c q i).1 + i ≤ ds P q.1
  | 0, _ => ⟨hI, hq, Nat.le_refl _⟩
  | i + 1, h => by
    obtain ⟨h1, h2, h3⟩ := wpath_in hP hg hI hq i (fun j hj => h j (by omega))
    have h4 := h i (by omega)
    obtain ⟨h5, h6, h7⟩ := hg _ h1 h4 h2
    have h8 := ds_sub hP h5 h6 h2
    have h9 := stp_pos hP h5
    refine ⟨h7, ?_, ?_⟩
    · show (wpath P c q i).1 - stp P (c (wpath P c q i)).1 < nS P
      omega
    · show ds P ((wpath P c q i).1 - stp P (c (wpath P c q i)).1) + (i + 1) ≤ _
      omega
theorem ds_0 {P : Pb} {r : Nat} (hr : r < nS P) (h : ds P r = 0) : r = 0 := by
  have h1 : ∀ x, x < 8 → dg P.2.2.2.1 r x = 0 := fun x hx => by
    have := sm_ge (v := dg P.2.2.2.1 r) (x := x) 8 hx
    have h2 : sm (dg P.2.2.2.1 r) 8 = 0 := h
    omega
  have h2 := va_dg P.2.2.2.1 r 8
  rw [va_0 _ _ 8 h1, show r % bs P.2.2.2.1 8 = r from Nat.mod_eq_of_lt hr] at h2
  exact h2.symm
/-- it ends: after as many words as there are figures at most -/
theorem wlen_ok {P : Pb} (hP : WFP P) {c : Wy → Nat × Nat} {I : Wy → Prop} (hg : goesOn P c I) {q : Wy} (hI : I q) (hq : q.1 < nS P) : wlen P c q ≤ ds P q.1 ∧ (wpath P c q (wlen P c q)).1 = 0 ∧ ∀ j, j < wlen P c q → 0 < (wpath P c q j).1 := by
  have hex : ∃ i, i < 15 ∧ decide ((wpath P c q i).1 = 0) = true := by
    refine Classical.byContradiction (fun hn => ?_)
    have hall : ∀ j, j < 15 → 0 < (wpath P c q j).1 := by
      intro j hj
      rcases Nat.eq_zero_or_pos (wpath P c q j).1 with z | z
      · exact absurd ⟨j, hj, decide_eq_true z⟩ hn
      · exact z
    have h1 := (wpath_in hP hg hI hq 14 (fun j hj => hall j (by omega))).2.2
    have h2 := ds_le hP q.1
    omega
  obtain ⟨h1, h2, h3⟩ := lw_ex hex
  have h4 : ∀ j, j < wlen P c q → 0 < (wpath P c q j).1 := by
    intro j hj
    rcases Nat.eq_zero_or_pos (wpath P c q j).1 with z | z
    · have := h3 j hj
      rw [decide_eq_true z] at this
      cases this
    · exact z
  refine ⟨?_, of_decide_eq_true h2, h4⟩
  have := (wpath_in hP hg hI hq _ h4).2.2
  omega
theorem wlen_eq {P : Pb} {c : Wy → Nat × Nat} {q : Wy} {n : Nat} (hn : n < 15) (h0 : (wpath P c q n).1 = 0) (hp : ∀ j, j < n → 0 < (wpath P c q j).1) : wlen P c q = n :=
  lw_eq hn (decide_eq_true h0) (fun v hv => decide_eq_false (by have := hp v hv; omega))
theorem best_on {P : Pb} (hP : WFP P) : goesOn P (cbest P) (fun q => ¬ wor P q.1 q.2.1 = -9) := by
  intro q hI h0 hS
  obtain ⟨h1, h2, h3⟩ := lw_ex (lead_ex hP h0 hI)
  have h2' : mayB P (cbest P q).1 q.1 q.2.1 = true ∧ ¬ wb P q.1 (cbest P q).1 = -9 := by
    have : leadB P q.1 q.2.1 (cbest P q).1 = true := h2
    rw [leadB, Bool.and_eq_true, Bool.and_eq_true] at this
    exact ⟨this.1, of_decide_eq_true this.2.1⟩
  exact ⟨h1, may_fit h2'.1, h2'.2⟩
theorem num_on {P : Pb} (hP : WFP P) : goesOn P (cnum P) (fun q => q.2.2 < cnt P q.1 q.2.1) := by
  intro q hI h0 hS
  have hex : ∃ w, w < P.1 ∧ decide (q.2.2 < sm (cw P q.1 q.2.1) (w + 1)) = true := by
    rw [cnt_s hP _ h0] at hI
    refine ⟨P.1 - 1, ?_, ?_⟩
    · rcases Nat.eq_zero_or_pos P.1 with z | z
      · rw [z] at hI
        exact absurd hI (Nat.not_lt_zero _)
      · omega
    · rcases Nat.eq_zero_or_pos P.1 with z | z
      · rw [z] at hI
        exact absurd hI (Nat.not_lt_zero _)
      · rw [show P.1 - 1 + 1 = P.1 by omega]; exact decide_eq_true hI
  obtain ⟨h1, h2, h3⟩ := lw_ex hex
  have e1 : (cnum P q).1 = lw (fun w => decide (q.2.2 < sm (cw P q.1 q.2.1) (w + 1))) P.1 := rfl
  have e2 : (cnum P q).2 = q.2.2 - sm (cw P q.1 q.2.1) (cnum P q).1 := rfl
  rw [← e1] at h1 h2 h3
  obtain ⟨w, hw⟩ : ∃ w, (cnum P q).1 = w := ⟨_, rfl⟩
  rw [hw] at h1 h2 h3 e2
  have h4 : q.2.2 < sm (cw P q.1 q.2.1) w + cw P q.1 q.2.1 w := of_decide_eq_true h2
  have h5 : sm (cw P q.1 q.2.1) w ≤ q.2.2 := by
    cases w with
    | zero => exact Nat.zero_le _
    | succ v =>
      have := of_decide_eq_false (h3 v (by omega))
      omega
  have h6 : mayB P w q.1 q.2.1 = true := by
    cases hm : mayB P w q.1 q.2.1 with
    | true => rfl
    | false => rw [cw, hm, if_neg (by decide)] at h4; omega
  have h7 : cw P q.1 q.2.1 w = cnt P (q.1 - stp P w) (P.2.2.1 w) := by rw [cw, if_pos h6]
  rw [hw]
  refine ⟨h1, may_fit h6, ?_⟩
  show (cnum P q).2 < cnt P (q.1 - stp P (cnum P q).1) (P.2.2.1 (cnum P q).1)
  rw [e2, hw, ← h7]
  omega
theorem sm_up {v : Nat → Nat} {a b : Nat} (h : a ≤ b) : sm v a ≤ sm v b := by
  induction b with
  | zero => have : a = 0 := by omega
            subst this; exact Nat.le_refl _
  | succ b ih =>
    by_cases e : a = b + 1
    · subst e; exact Nat.le_refl _
    · exact Nat.le_trans (ih (by omega)) (Nat.le_add_right _ _)
theorem cnum_eq {P : Pb} {q : Wy} {w : Nat} (hw : w < P.1) (h1 : sm (cw P q.1 q.2.1) w ≤ q.2.2) (h2 : q.2.2 < sm (cw P q.1 q.2.1) (w + 1)) : cnum P q = (w, q.2.2 - sm (cw P q.1 q.2.1) w) := by
  have e := lw_eq (p := fun w => decide (q.2.2 < sm (cw P q.1 q.2.1) (w + 1))) hw (decide_eq_true h2) (fun v hv => decide_eq_false (by have := sm_up (v := cw P q.1 q.2.1) (show v + 1 ≤ w by omega); omega))
  unfold cnum
  rw [e]
theorem cbest_eq {P : Pb} {q : Wy} {w : Nat} (hw : w < P.1) (h1 : leadB P q.1 q.2.1 w = true) (h2 : ∀ v, v < w → leadB P q.1 q.2.1 v = false) : cbest P q = (w, 0) := by
  unfold cbest
  rw [lw_eq hw h1 h2]
/-- the worth of the best row is the sum of its ranks -/
theorem best_sum {P : Pb} (hP : WFP P) {q : Wy} (hI : ¬ wor P q.1 q.2.1 = -9) (hq : q.1 < nS P) : ∀ i, (∀ j, j < i → 0 < (wpath P (cbest P) q j).1) → wor P q.1 q.2.1 = wsum P (cbest P) q i + wor P (wpath P (cbest P) q i).1 (wpath P (cbest P) q i).2.1
  | 0, _ => by show _ = 0 + _; exact (Int32.zero_add _).symm
  | i + 1, h => by
    have h1 := best_sum hP hI hq i (fun j hj => h j (by omega))
    obtain ⟨h2, h3, -⟩ := wpath_in hP (best_on hP) (I := fun q => ¬ wor P q.1 q.2.1 = -9) hI hq i (fun j hj => h j (by omega))
    obtain ⟨-, h4, -⟩ := lw_ex (lead_ex hP (h i (by omega)) h2)
    have h5 : leadB P (wpath P (cbest P) q i).1 (wpath P (cbest P) q i).2.1 (wword P (cbest P) q i) = true := h4
    rw [leadB, Bool.and_eq_true, Bool.and_eq_true] at h5
    have h6 := of_decide_eq_true h5.2.2
    have h7 : wb P (wpath P (cbest P) q i).1 (wword P (cbest P) q i) = wor P (wpath P (cbest P) q (i + 1)).1 (wpath P (cbest P) q (i + 1)).2.1 := rfl
    rw [h1, ← h6, h7]
    show _ = (wsum P (cbest P) q i + rk P (wword P (cbest P) q i)) + _
    rw [Int32.add_assoc, Int32.add_comm (rk P _)]
theorem best_worth {P : Pb} (hP : WFP P) {q : Wy} (hI : ¬ wor P q.1 q.2.1 = -9) (hq : q.1 < nS P) : wor P q.1 q.2.1 = wsum P (cbest P) q (wlen P (cbest P) q) := by
  obtain ⟨h1, h2, h3⟩ := wlen_ok hP (best_on hP) (I := fun q => ¬ wor P q.1 q.2.1 = -9) hI hq
  have h4 := best_sum hP hI hq _ h3
  obtain ⟨h5, -, -⟩ := wpath_in hP (best_on hP) (I := fun q => ¬ wor P q.1 q.2.1 = -9) hI hq _ h3
  rw [h2] at h4 h5
  have h6 : wor P 0 (wpath P (cbest P) q (wlen P (cbest P) q)).2.1 = 0 := by
    have h7 := h5
    rw [wor_0] at h7 ⊢
    by_cases he : endB P (wpath P (cbest P) q (wlen P (cbest P) q)).2.1 = true
    · rw [if_pos he]
    · rw [if_neg he] at h7; exact absurd rfl h7
  rw [h6, Int32.add_zero] at h4
  exact h4
