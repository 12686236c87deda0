section Ops
variable {ll : Launch} {B : Bs} {σ : Mem} {A : Ab} {sd : Int64}
theorem WFA.nmle (h : WFA A) : nm A ≤ 10 := h.1.2
theorem WFA.len (h : WFA A) : ∃ n, n ≤ 180 ∧ A 1 0 = nI n := h.2.1
theorem WFA.acts (h : WFA A) : ∃ n, n ≤ 14 ∧ A 1 2 = nI n := h.2.2.1
theorem WFA.next (h : WFA A) : ∃ n, n < 14 ∧ A 1 3 = nI n := h.2.2.2.1
theorem WFA.told (h : WFA A) : ∃ n, n ≤ 12 ∧ A 1 4 = nI n := h.2.2.2.2.1
theorem WFA.seen (h : WFA A) : ∃ n, n ≤ 6 ∧ A 1 5 = nI n := h.2.2.2.2.2.1
theorem WFA.now (h : WFA A) : WFr (nm A) (A 11) := h.2.2.2.2.2.2.2.2.1
theorem WFA.row6 (h : WFA A) : ∀ j, nI j < A 1 4 → j < 12 → ∃ w, w < nm A ∧ A 6 j = nI w := h.2.2.2.2.2.2.2.1
theorem WFA.diary (h : WFA A) : ∀ i, nI i < A 1 2 → i < 14 → ∀ nx, nx < 14 → A 1 3 = nI nx → WFr (nm A) (A (12 + (nx + 13 - i) % 14)) := h.2.2.2.2.2.2.2.2.2.1
theorem WFA.kept (h : WFA A) : ∀ i, i < 2 → ¬ A 10 i = 0 → WFr (nm A) (A (26 + i)) := h.2.2.2.2.2.2.2.2.2.2.1
theorem WFA.text (h : WFA A) : ∀ j, j < 180 → ∃ t, t < 256 ∧ A 0 j = nI t := h.2.2.2.2.2.2.2.2.2.2.2.1
theorem WFA.kb (h : WFA A) : ∀ i, i < 2 → A 10 i = 0 ∨ A 10 i = 1 := h.2.2.2.2.2.2.2.2.2.2.2.2
theorem WFA.word (h : WFA A) {w : Nat} (hw : w < nm A) : (A 2 w = nI (sz A w) ∧ sz A w ≤ 6) ∧ (∃ k, k < 4 ∧ A 3 w = nI k) ∧ (∀ x, x < 8 → ∃ d, d ≤ 6 ∧ A 4 (8 * w + x) = nI d) ∧ (∃ x, x < 8 ∧ ¬ A 4 (8 * w + x) = nI 0) ∧ (∀ k, k < sz A w → ∃ y, y < 8 ∧ A 5 (6 * w + k) = nI y) ∧ ∀ x, x < 8 → ¬ A 4 (8 * w + x) = nI 0 → ∃ k, k < sz A w ∧ A 5 (6 * w + k) = nI x := h.2.2.2.2.2.2.1 w hw
theorem cX_isW {l : Launch} (hW : WFA A) (hR : RX B A sd σ) (w : Int32) : MT l B 1 0 0 yX0_isWord cX0_isWord 2 (some .boolean) [.ref (B.1 + 0), .int w] σ (pI fun r σ' => r = b2 (isW (nm A) w) ∧ σ' = σ) := by
  have h := cX_isWord (l := l) hR.1 w
  rw [hR.many.trans hW.1.1] at h
  exact h
theorem cM_isW {l : Launch} (hW : WFA A) (hR : RMm B A sd σ) (w : Int32) : MT l B 1 0 0 yX3_isWord cX3_isWord 2 (some .boolean) [.ref (B.1 + 157), .int w] σ (pI fun r σ' => r = b2 (isW (nm A) w) ∧ σ' = σ) := by
  have h := cM_isWord (l := l) hR.1 w
  rw [hR.many.trans hW.1.1] at h
  exact h
/-- write -/
def oWrite (A : Ab) (v : Int32) : Int32 × Ab := if inL v.toInt64 0 255 = true then if A 1 0 = nI 180 then (-4, A) else (A 1 0 + nI 1, up2 (up2 A 0 (A 1 0).toNatClampNeg v) 1 0 (A 1 0 + nI 1)) else (-2, A)
theorem wWrite (hW : WFA A) (v : Int32) : WFA (oWrite A v).2 := by
  unfold oWrite
  split
  · rename_i h
    split
    · exact hW
    · rename_i h2
      obtain ⟨n, hn, e⟩ := hW.len
      have hn2 : n < 180 := by
        rcases Nat.lt_or_ge n 180 with z | z
        · exact z
        · exact absurd (by rw [e, show n = 180 by omega]) h2
      obtain ⟨t, ht, rfl⟩ := (inL_iff 255 rfl (by decide)).mp h
      rw [e, nI_clamp (by omega)]
      refine hW.ch (len := Or.inr ⟨n + 1, by omega, nI_add n 1⟩) (text := Or.inr (fun j hj => ?_))
      show ∃ t', t' < 256 ∧ up2 A 0 n (nI t) 0 j = nI t'
      by_cases ej : j = n
      · subst ej; exact ⟨t, by omega, up2_s⟩
      · rw [up2_n (by omega)]; exact hW.text j hj
  · exact hW
theorem RX.u (h : RX B A sd σ) (hW : WFA A) {v : Int32} (c0 j0 : Nat) (hd : dm A c0 j0) (h1 : ¬ (c0 = 1 ∧ j0 = 1)) (h2 : c0 ≠ 2) : RX B (up2 A c0 j0 v) sd (setI σ (xA c0 j0) (xB c0 j0) v) := h.up hW.nmle hd h1 h2
theorem RMm.u (h : RMm B A sd σ) (_ : WFA A) {v : Int32} (c0 j0 : Nat) (hd : dm A c0 j0) (h1 : ¬ (c0 = 1 ∧ j0 = 1)) (h2 : c0 ≠ 2) : RMm B (up2 A c0 j0 v) sd (setI σ (mA c0 j0) (mB c0 j0) v) := h.up hd h1 h2
theorem RX.u2 {A2 : Ab} (h : RX B A2 sd σ) (hW : nm A2 ≤ 10) {v : Int32} (c0 j0 : Nat) (hd : dm A2 c0 j0) (h1 : ¬ (c0 = 1 ∧ j0 = 1)) (h2 : c0 ≠ 2) : RX B (up2 A2 c0 j0 v) sd (setI σ (xA c0 j0) (xB c0 j0) v) := h.up hW hd h1 h2
theorem RMm.u2 {A2 : Ab} (h : RMm B A2 sd σ) (_ : nm A2 ≤ 10) {v : Int32} (c0 j0 : Nat) (hd : dm A2 c0 j0) (h1 : ¬ (c0 = 1 ∧ j0 = 1)) (h2 : c0 ≠ 2) : RMm B (up2 A2 c0 j0 v) sd (setI σ (mA c0 j0) (mB c0 j0) v) := h.up hd h1 h2
theorem b2F {b : Bool} (h : b2 b = 0) : ¬ b = true := fun z => by rw [z] at h; exact absurd h (by decide)
theorem b2T {b : Bool} (h : ¬ b2 b = 0) : b = true := (b2_ne b).mp h
theorem lt_of_ne {n m : Nat} (h : n ≤ m) (h2 : ¬ nI n = nI m) : n < m := by
  rcases Nat.lt_or_ge n m with z | z
  · exact z
  · exact absurd (by rw [show n = m by omega]) h2
theorem cX_write (hW : WFA A) (hR : RX B A sd σ) (v : Int32) : MT ll B 24 0 0 yX0_write cX0_write 2 (some .int) [.ref (B.1 + 0), .int v] σ (oX B sd σ (oWrite A v)) := by
  have hL := hR.1
  obtain ⟨n, hn, e⟩ := hW.len
  have e' := hR.len.trans e
  refine MT.of (by decide) (Nat.le_of_ble_eq_true rfl) (fun g hg hr => ?_)
  refine y_iload_n hg dX0_write_0 rfl ?_
  refine y_i2l hg dX0_write_1 ?_
  refine y_lconst (v := 0) hg dX0_write_2 rfl ?_
  refine y_ldc2 hg dX0_write_3 q285 ?_
  refine y_cSi hg (cX_isIn _ _ _) iX0_isIn q286 rfl rfl (by simp [Value.category]) (Nat.le_refl _) (Nat.le_refl _) (by decide) dX0_write_6 (fun r σ1 hp => ?_)
  obtain ⟨rfl, rfl⟩ := hp
  refine y_if_ne hg 15 dX0_write_9 (by decide) (fun hc => ?_) (fun hc => ?_)
  · have h1 := b2T hc
    refine y_aload_n hg dX0_write_15 rfl ?_
    refine y_geti (j := 17) hg cf0 (hL.x) (by decide) rfl q189 dX0_write_16 ?_
    refine y_ti (e') ?_
    refine y_sipush (v := nI 180) hg dX0_write_19 rfl ?_
    refine y_icmp_ne hg 28 dX0_write_22 (by decide) (fun hc2 => ?_) (fun hc2 => ?_)
    · have hn2 := lt_of_ne hn hc2
      refine y_aload_n hg dX0_write_28 rfl ?_
      refine y_getr (j := 16) hg cf0 (hL.x) (by decide) rfl (hL.r_text) q188 dX0_write_29 ?_
      refine y_aload_n hg dX0_write_32 rfl ?_
      refine y_geti (j := 17) hg cf0 (hL.x) (by decide) rfl q189 dX0_write_33 ?_
      refine y_ti (e') ?_
      refine y_iload_n hg dX0_write_36 rfl ?_
      refine y_iast hg _ (hL.k_text) rfl (by omega) dX0_write_37 ?_
      refine y_aload_n hg dX0_write_38 rfl ?_
      refine y_dup hg dX0_write_39 rfl ?_
      refine y_geti (j := 17) hg cf0 (hL.x) (by decide) rfl q189 dX0_write_40 ?_
      refine y_ti (e') ?_
      refine y_iconst (v := nI 1) hg dX0_write_43 rfl ?_
      refine y_iadd hg dX0_write_44 ?_
      refine y_ti (nI_add _ _) ?_
      refine y_puti (j := 17) hg cf0 (hL.x) (by decide) rfl rfl q189 dX0_write_45 ?_
      refine y_aload_n hg dX0_write_48 rfl ?_
      refine y_geti (j := 17) hg cf0 (hL.x) (by decide) rfl q189 dX0_write_49 ?_
      refine y_iret hg hr ⟨_, rfl, ?_⟩ dX0_write_52 (Nat.le_refl _) (Nat.le_refl _)
      have eo : oWrite A v = (nI (n + 1), up2 (up2 A 0 n v) 1 0 (nI (n + 1))) := by
        unfold oWrite
        rw [if_pos h1, e, if_neg hc2, nI_clamp (by omega), nI_add]
      rw [eo]
      refine ⟨gI_s, ?_, ((Fr.rf).stI (by omega)).stI (by omega)⟩
      exact (hR.u hW 0 n (by unfold dm; omega) (by omega) (by omega)).u2 hW.nmle 1 0 (by unfold dm; omega) (by omega) (by omega)
    · refine y_bipush (v := -4) hg dX0_write_25 rfl ?_
      refine y_iret hg hr ⟨_, rfl, ?_⟩ dX0_write_27 (Nat.le_refl _) (Nat.le_refl _)
      have eo : oWrite A v = (-4, A) := by unfold oWrite; rw [if_pos h1, e, if_pos hc2]
      rw [eo]
      exact ⟨rfl, hR, Fr.rf⟩
  · refine y_bipush (v := -2) hg dX0_write_12 rfl ?_
    refine y_iret hg hr ⟨_, rfl, ?_⟩ dX0_write_14 (Nat.le_refl _) (Nat.le_refl _)
    have eo : oWrite A v = (-2, A) := by unfold oWrite; rw [if_neg (b2F hc)]
    rw [eo]
    exact ⟨rfl, hR, Fr.rf⟩
theorem cM_write (hW : WFA A) (hR : RMm B A sd σ) (v : Int32) : MT ll B 24 0 0 yX3_write cX3_write 2 (some .int) [.ref (B.1 + 157), .int v] σ (oM B sd σ (oWrite A v)) := by
  have hM := hR.1
  obtain ⟨n, hn, e⟩ := hW.len
  have e' := hR.len.trans e
  refine MT.of (by decide) (Nat.le_of_ble_eq_true rfl) (fun g hg hr => ?_)
  refine y_iload_n hg dX3_write_0 rfl ?_
  refine y_i2l hg dX3_write_1 ?_
  refine y_lconst (v := 0) hg dX3_write_2 rfl ?_
  refine y_ldc2 hg dX3_write_3 q1051 ?_
  refine y_cSi hg (cM_in _ _ _) iX3_in q1052 rfl rfl (by simp [Value.category]) (Nat.le_refl _) (Nat.le_refl _) (by decide) dX3_write_6 (fun r σ1 hp => ?_)
  obtain ⟨rfl, rfl⟩ := hp
  refine y_if_ne hg 15 dX3_write_9 (by decide) (fun hc => ?_) (fun hc => ?_)
  · have h1 := b2T hc
    refine y_aload_n hg dX3_write_15 rfl ?_
    refine y_geti (j := 1) hg cf3 (hM.m) (by decide) rfl q912 dX3_write_16 ?_
    refine y_ti (e') ?_
    refine y_sipush (v := nI 180) hg dX3_write_19 rfl ?_
    refine y_icmp_ne hg 28 dX3_write_22 (by decide) (fun hc2 => ?_) (fun hc2 => ?_)
    · have hn2 := lt_of_ne hn hc2
      refine y_aload_n hg dX3_write_28 rfl ?_
      refine y_getr (j := 0) hg cf3 (hM.m) (by decide) rfl (hM.r_text) q911 dX3_write_29 ?_
      refine y_aload_n hg dX3_write_32 rfl ?_
      refine y_geti (j := 1) hg cf3 (hM.m) (by decide) rfl q912 dX3_write_33 ?_
      refine y_ti (e') ?_
      refine y_iload_n hg dX3_write_36 rfl ?_
      refine y_iast hg _ (hM.k_text) rfl (by omega) dX3_write_37 ?_
      refine y_aload_n hg dX3_write_38 rfl ?_
      refine y_dup hg dX3_write_39 rfl ?_
      refine y_geti (j := 1) hg cf3 (hM.m) (by decide) rfl q912 dX3_write_40 ?_
      refine y_ti (e') ?_
      refine y_iconst (v := nI 1) hg dX3_write_43 rfl ?_
      refine y_iadd hg dX3_write_44 ?_
      refine y_ti (nI_add _ _) ?_
      refine y_puti (j := 1) hg cf3 (hM.m) (by decide) rfl rfl q912 dX3_write_45 ?_
      refine y_aload_n hg dX3_write_48 rfl ?_
      refine y_geti (j := 1) hg cf3 (hM.m) (by decide) rfl q912 dX3_write_49 ?_
      refine y_iret hg hr ⟨_, rfl, ?_⟩ dX3_write_52 (Nat.le_refl _) (Nat.le_refl _)
      have eo : oWrite A v = (nI (n + 1), up2 (up2 A 0 n v) 1 0 (nI (n + 1))) := by
        unfold oWrite
        rw [if_pos h1, e, if_neg hc2, nI_clamp (by omega), nI_add]
      rw [eo]
      refine ⟨gI_s, ?_, ((FrR.rf).stI (by omega)).stI (by omega)⟩
      exact (hR.u hW 0 n (by unfold dm; omega) (by omega) (by omega)).u2 hW.nmle 1 0 (by unfold dm; omega) (by omega) (by omega)
    · refine y_bipush (v := -4) hg dX3_write_25 rfl ?_
      refine y_iret hg hr ⟨_, rfl, ?_⟩ dX3_write_27 (Nat.le_refl _) (Nat.le_refl _)
      have eo : oWrite A v = (-4, A) := by unfold oWrite; rw [if_pos h1, e, if_pos hc2]
      rw [eo]
      exact ⟨rfl, hR, FrR.rf⟩
  · refine y_bipush (v := -2) hg dX3_write_12 rfl ?_
    refine y_iret hg hr ⟨_, rfl, ?_⟩ dX3_write_14 (Nat.le_refl _) (Nat.le_refl _)
    have eo : oWrite A v = (-2, A) := by unfold oWrite; rw [if_neg (b2F hc)]
    rw [eo]
    exact ⟨rfl, hR, FrR.rf⟩
/-- wipe, clear, unsee -/
def oZero (A : Ab) (j : Nat) : Int32 × Ab := (A 1 j, up2 A 1 j (nI 0))
theorem wZero (hW : WFA A) {j : Nat} (hj : j = 0 ∨ j = 4 ∨ j = 5) : WFA (oZero A j).2 := by
  have nl : ∀ j, j < 12 → ¬ nI j < nI 0 := fun j h z => by rw [nI_ltI (by omega) (by omega)] at z; omega
  rcases hj with rfl | rfl | rfl
  · show WFA (up2 A 1 0 (nI 0))
    exact hW.ch (len := Or.inr ⟨0, by omega, rfl⟩)
  · show WFA (up2 A 1 4 (nI 0))
    exact hW.ch (told := Or.inr ⟨0, by omega, rfl⟩) (row6 := Or.inr (fun j h h12 => absurd h (nl j h12)))
  · show WFA (up2 A 1 5 (nI 0))
    exact hW.ch (seen := Or.inr ⟨0, by omega, rfl⟩)
theorem cX_wipe (hW : WFA A) (hR : RX B A sd σ) : MT ll B 24 0 0 yX0_wipe cX0_wipe 2 (some .int) [.ref (B.1 + 0)] σ (oX B sd σ (oZero A 0)) := by
  have hL := hR.1
  refine MT.of (by decide) (Nat.le_of_ble_eq_true rfl) (fun g hg hr => ?_)
  refine y_aload_n hg dX0_wipe_0 rfl ?_
  refine y_geti (j := 17) hg cf0 (hL.x) (by decide) rfl q189 dX0_wipe_1 ?_
  refine y_istore_n hg dX0_wipe_4 (by decide) (lv1 := [(0, _), (1, _)]) rfl ?_
  refine y_aload_n hg dX0_wipe_5 rfl ?_
  refine y_iconst (v := nI 0) hg dX0_wipe_6 rfl ?_
  refine y_puti (j := 17) hg cf0 (hL.x) (by decide) rfl rfl q189 dX0_wipe_7 ?_
  refine y_iload_n hg dX0_wipe_10 rfl ?_
  refine y_iret hg hr ⟨_, rfl, ?_⟩ dX0_wipe_11 (Nat.le_refl _) (Nat.le_refl _)
  exact ⟨hR.len, hR.u hW 1 0 (by unfold dm; omega) (by omega) (by omega), (Fr.rf).stI (by omega)⟩
theorem cX_clear (hW : WFA A) (hR : RX B A sd σ) : MT ll B 24 0 0 yX0_clear cX0_clear 2 (some .int) [.ref (B.1 + 0)] σ (oX B sd σ (oZero A 4)) := by
  have hL := hR.1
  refine MT.of (by decide) (Nat.le_of_ble_eq_true rfl) (fun g hg hr => ?_)
  refine y_aload_n hg dX0_clear_0 rfl ?_
  refine y_geti (j := 26) hg cf0 (hL.x) (by decide) rfl q198 dX0_clear_1 ?_
  refine y_istore_n hg dX0_clear_4 (by decide) (lv1 := [(0, _), (1, _)]) rfl ?_
  refine y_aload_n hg dX0_clear_5 rfl ?_
  refine y_iconst (v := nI 0) hg dX0_clear_6 rfl ?_
  refine y_puti (j := 26) hg cf0 (hL.x) (by decide) rfl rfl q198 dX0_clear_7 ?_
  refine y_iload_n hg dX0_clear_10 rfl ?_
  refine y_iret hg hr ⟨_, rfl, ?_⟩ dX0_clear_11 (Nat.le_refl _) (Nat.le_refl _)
  exact ⟨hR.told, hR.u hW 1 4 (by unfold dm; omega) (by omega) (by omega), (Fr.rf).stI (by omega)⟩
theorem cX_unsee (hW : WFA A) (hR : RX B A sd σ) : MT ll B 24 0 0 yX0_unsee cX0_unsee 2 (some .int) [.ref (B.1 + 0)] σ (oX B sd σ (oZero A 5)) := by
  have hL := hR.1
  refine MT.of (by decide) (Nat.le_of_ble_eq_true rfl) (fun g hg hr => ?_)
  refine y_aload_n hg dX0_unsee_0 rfl ?_
  refine y_geti (j := 28) hg cf0 (hL.x) (by decide) rfl q200 dX0_unsee_1 ?_
  refine y_istore_n hg dX0_unsee_4 (by decide) (lv1 := [(0, _), (1, _)]) rfl ?_
  refine y_aload_n hg dX0_unsee_5 rfl ?_
  refine y_iconst (v := nI 0) hg dX0_unsee_6 rfl ?_
  refine y_puti (j := 28) hg cf0 (hL.x) (by decide) rfl rfl q200 dX0_unsee_7 ?_
  refine y_iload_n hg dX0_unsee_10 rfl ?_
  refine y_iret hg hr ⟨_, rfl, ?_⟩ dX0_unsee_11 (Nat.le_refl _) (Nat.le_refl _)
  exact ⟨hR.seen, hR.u hW 1 5 (by unfold dm; omega) (by omega) (by omega), (Fr.rf).stI (by omega)⟩
theorem cM_wipe (hW : WFA A) (hR : RMm B A sd σ) : MT ll B 24 0 0 yX3_wipe cX3_wipe 2 (some .int) [.ref (B.1 + 157)] σ (oM B sd σ (oZero A 0)) := by
  have hM := hR.1
  refine MT.of (by decide) (Nat.le_of_ble_eq_true rfl) (fun g hg hr => ?_)
  refine y_aload_n hg dX3_wipe_0 rfl ?_
  refine y_geti (j := 1) hg cf3 (hM.m) (by decide) rfl q912 dX3_wipe_1 ?_
  refine y_istore_n hg dX3_wipe_4 (by decide) (lv1 := [(0, _), (1, _)]) rfl ?_
  refine y_aload_n hg dX3_wipe_5 rfl ?_
  refine y_iconst (v := nI 0) hg dX3_wipe_6 rfl ?_
  refine y_puti (j := 1) hg cf3 (hM.m) (by decide) rfl rfl q912 dX3_wipe_7 ?_
  refine y_iload_n hg dX3_wipe_10 rfl ?_
  refine y_iret hg hr ⟨_, rfl, ?_⟩ dX3_wipe_11 (Nat.le_refl _) (Nat.le_refl _)
  exact ⟨hR.len, hR.u hW 1 0 (by unfold dm; omega) (by omega) (by omega), (FrR.rf).stI (by omega)⟩
theorem cM_clear (hW : WFA A) (hR : RMm B A sd σ) : MT ll B 24 0 0 yX3_clear cX3_clear 2 (some .int) [.ref (B.1 + 157)] σ (oM B sd σ (oZero A 4)) := by
  have hM := hR.1
  refine MT.of (by decide) (Nat.le_of_ble_eq_true rfl) (fun g hg hr => ?_)
  refine y_aload_n hg dX3_clear_0 rfl ?_
  refine y_geti (j := 15) hg cf3 (hM.m) (by decide) rfl q926 dX3_clear_1 ?_
  refine y_istore_n hg dX3_clear_4 (by decide) (lv1 := [(0, _), (1, _)]) rfl ?_
  refine y_aload_n hg dX3_clear_5 rfl ?_
  refine y_iconst (v := nI 0) hg dX3_clear_6 rfl ?_
  refine y_puti (j := 15) hg cf3 (hM.m) (by decide) rfl rfl q926 dX3_clear_7 ?_
  refine y_iload_n hg dX3_clear_10 rfl ?_
  refine y_iret hg hr ⟨_, rfl, ?_⟩ dX3_clear_11 (Nat.le_refl _) (Nat.le_refl _)
  exact ⟨hR.told, hR.u hW 1 4 (by unfold dm; omega) (by omega) (by omega), (FrR.rf).stI (by omega)⟩
theorem cM_unsee (hW : WFA A) (hR : RMm B A sd σ) : MT ll B 24 0 0 yX3_unsee cX3_unsee 2 (some .int) [.ref (B.1 + 157)] σ (oM B sd σ (oZero A 5)) := by
  have hM := hR.1
  refine MT.of (by decide) (Nat.le_of_ble_eq_true rfl) (fun g hg hr => ?_)
  refine y_aload_n hg dX3_unsee_0 rfl ?_
  refine y_geti (j := 19) hg cf3 (hM.m) (by decide) rfl q930 dX3_unsee_1 ?_
  refine y_istore_n hg dX3_unsee_4 (by decide) (lv1 := [(0, _), (1, _)]) rfl ?_
  refine y_aload_n hg dX3_unsee_5 rfl ?_
  refine y_iconst (v := nI 0) hg dX3_unsee_6 rfl ?_
  refine y_puti (j := 19) hg cf3 (hM.m) (by decide) rfl rfl q930 dX3_unsee_7 ?_
  refine y_iload_n hg dX3_unsee_10 rfl ?_
  refine y_iret hg hr ⟨_, rfl, ?_⟩ dX3_unsee_11 (Nat.le_refl _) (Nat.le_refl _)
  exact ⟨hR.seen, hR.u hW 1 5 (by unfold dm; omega) (by omega) (by omega), (FrR.rf).stI (by omega)⟩
/-- tell -/
def oTell (A : Ab) (v : Int32) : Int32 × Ab := if isW (nm A) v = true then if A 1 4 = nI 12 then (-4, A) else (A 1 4 + nI 1, up2 (up2 A 6 (A 1 4).toNatClampNeg v) 1 4 (A 1 4 + nI 1)) else (-1, A)
theorem wTell (hW : WFA A) (v : Int32) : WFA (oTell A v).2 := by
  unfold oTell
  split
  · rename_i h
    split
    · exact hW
    · rename_i h2
      obtain ⟨n, hn, e⟩ := hW.told
      have hn2 := lt_of_ne hn (e ▸ h2)
      obtain ⟨w, hw, rfl⟩ := (isW_iff hW.nmle).mp h
      rw [e, nI_clamp (by omega)]
      refine hW.ch (told := Or.inr ⟨n + 1, by omega, nI_add n 1⟩) (row6 := Or.inr (fun j hj hj2 => ?_))
      replace hj : nI j < nI n + nI 1 := hj
      rw [nI_add, nI_ltI (by omega) (by omega)] at hj
      show ∃ w', w' < nm A ∧ up2 A 6 n (nI w) 6 j = nI w'
      by_cases ej : j = n
      · subst ej; exact ⟨w, hw, up2_s⟩
      · rw [up2_n (by omega)]; exact hW.row6 j (by rw [e]; exact nI_lt (by omega) (by omega)) hj2
  · exact hW
theorem cX_tell (hW : WFA A) (hR : RX B A sd σ) (v : Int32) : MT ll B 24 0 0 yX0_tell cX0_tell 2 (some .int) [.ref (B.1 + 0), .int v] σ (oX B sd σ (oTell A v)) := by
  have hL := hR.1
  obtain ⟨n, hn, e⟩ := hW.told
  have e' := hR.told.trans e
  refine MT.of (by decide) (Nat.le_of_ble_eq_true rfl) (fun g hg hr => ?_)
  refine y_aload_n hg dX0_tell_0 rfl ?_
  refine y_iload_n hg dX0_tell_1 rfl ?_
  refine y_cVi hg (cX_isW hW hR _) iX0_isWord q440 (hL.x) cf0 rfl rfl (by simp [Value.category]) (Nat.le_refl _) (Nat.le_refl _) (by decide) dX0_tell_2 (fun r σ1 hp => ?_)
  obtain ⟨rfl, rfl⟩ := hp
  refine y_if_ne hg 10 dX0_tell_5 (by decide) (fun hc => ?_) (fun hc => ?_)
  · have h1 : isW (nm A) v = true := b2T hc
    refine y_aload_n hg dX0_tell_10 rfl ?_
    refine y_geti (j := 26) hg cf0 (hL.x) (by decide) rfl q198 dX0_tell_11 ?_
    refine y_ti (e') ?_
    refine y_bipush (v := nI 12) hg dX0_tell_14 rfl ?_
    refine y_icmp_ne hg 22 dX0_tell_16 (by decide) (fun hc2 => ?_) (fun hc2 => ?_)
    · have hn2 := lt_of_ne hn hc2
      refine y_aload_n hg dX0_tell_22 rfl ?_
      refine y_getr (j := 25) hg cf0 (hL.x) (by decide) rfl (hL.r_row) q197 dX0_tell_23 ?_
      refine y_aload_n hg dX0_tell_26 rfl ?_
      refine y_geti (j := 26) hg cf0 (hL.x) (by decide) rfl q198 dX0_tell_27 ?_
      refine y_ti (e') ?_
      refine y_iload_n hg dX0_tell_30 rfl ?_
      refine y_iast hg _ (hL.k_row) rfl (by omega) dX0_tell_31 ?_
      refine y_aload_n hg dX0_tell_32 rfl ?_
      refine y_dup hg dX0_tell_33 rfl ?_
      refine y_geti (j := 26) hg cf0 (hL.x) (by decide) rfl q198 dX0_tell_34 ?_
      refine y_ti (e') ?_
      refine y_iconst (v := nI 1) hg dX0_tell_37 rfl ?_
      refine y_iadd hg dX0_tell_38 ?_
      refine y_ti (nI_add _ _) ?_
      refine y_puti (j := 26) hg cf0 (hL.x) (by decide) rfl rfl q198 dX0_tell_39 ?_
      refine y_aload_n hg dX0_tell_42 rfl ?_
      refine y_geti (j := 26) hg cf0 (hL.x) (by decide) rfl q198 dX0_tell_43 ?_
      refine y_iret hg hr ⟨_, rfl, ?_⟩ dX0_tell_46 (Nat.le_refl _) (Nat.le_refl _)
      have eo : oTell A v = (nI (n + 1), up2 (up2 A 6 n v) 1 4 (nI (n + 1))) := by
        unfold oTell
        rw [if_pos h1, e, if_neg hc2, nI_clamp (by omega), nI_add]
      rw [eo]
      refine ⟨gI_s, ?_, ((Fr.rf).stI (by omega)).stI (by omega)⟩
      exact (hR.u hW 6 n (by unfold dm; omega) (by omega) (by omega)).u2 hW.nmle 1 4 (by unfold dm; omega) (by omega) (by omega)
    · refine y_bipush (v := -4) hg dX0_tell_19 rfl ?_
      refine y_iret hg hr ⟨_, rfl, ?_⟩ dX0_tell_21 (Nat.le_refl _) (Nat.le_refl _)
      have eo : oTell A v = (-4, A) := by unfold oTell; rw [if_pos h1, e, if_pos hc2]
      rw [eo]
      exact ⟨rfl, hR, Fr.rf⟩
  · refine y_iconst (v := -1) hg dX0_tell_8 rfl ?_
    refine y_iret hg hr ⟨_, rfl, ?_⟩ dX0_tell_9 (Nat.le_refl _) (Nat.le_refl _)
    have eo : oTell A v = (-1, A) := by unfold oTell; rw [if_neg (b2F hc)]
    rw [eo]
    exact ⟨rfl, hR, Fr.rf⟩
theorem cM_tell (hW : WFA A) (hR : RMm B A sd σ) (v : Int32) : MT ll B 24 0 0 yX3_tell cX3_tell 2 (some .int) [.ref (B.1 + 157), .int v] σ (oM B sd σ (oTell A v)) := by
  have hM := hR.1
  obtain ⟨n, hn, e⟩ := hW.told
  have e' := hR.told.trans e
  refine MT.of (by decide) (Nat.le_of_ble_eq_true rfl) (fun g hg hr => ?_)
  refine y_aload_n hg dX3_tell_0 rfl ?_
  refine y_iload_n hg dX3_tell_1 rfl ?_
  refine y_cVi hg (cM_isW hW hR _) iX3_isWord q1174 (hM.m) cf3 rfl rfl (by simp [Value.category]) (Nat.le_refl _) (Nat.le_refl _) (by decide) dX3_tell_2 (fun r σ1 hp => ?_)
  obtain ⟨rfl, rfl⟩ := hp
  refine y_if_ne hg 10 dX3_tell_5 (by decide) (fun hc => ?_) (fun hc => ?_)
  · have h1 : isW (nm A) v = true := b2T hc
    refine y_aload_n hg dX3_tell_10 rfl ?_
    refine y_geti (j := 15) hg cf3 (hM.m) (by decide) rfl q926 dX3_tell_11 ?_
    refine y_ti (e') ?_
    refine y_bipush (v := nI 12) hg dX3_tell_14 rfl ?_
    refine y_icmp_ne hg 22 dX3_tell_16 (by decide) (fun hc2 => ?_) (fun hc2 => ?_)
    · have hn2 := lt_of_ne hn hc2
      refine y_aload_n hg dX3_tell_22 rfl ?_
      refine y_getr (j := 14) hg cf3 (hM.m) (by decide) rfl (hM.r_told) q925 dX3_tell_23 ?_
      refine y_aload_n hg dX3_tell_26 rfl ?_
      refine y_geti (j := 15) hg cf3 (hM.m) (by decide) rfl q926 dX3_tell_27 ?_
      refine y_ti (e') ?_
      refine y_iload_n hg dX3_tell_30 rfl ?_
      refine y_iast hg _ (hM.k_told) rfl (by omega) dX3_tell_31 ?_
      refine y_aload_n hg dX3_tell_32 rfl ?_
      refine y_dup hg dX3_tell_33 rfl ?_
      refine y_geti (j := 15) hg cf3 (hM.m) (by decide) rfl q926 dX3_tell_34 ?_
      refine y_ti (e') ?_
      refine y_iconst (v := nI 1) hg dX3_tell_37 rfl ?_
      refine y_iadd hg dX3_tell_38 ?_
      refine y_ti (nI_add _ _) ?_
      refine y_puti (j := 15) hg cf3 (hM.m) (by decide) rfl rfl q926 dX3_tell_39 ?_
      refine y_aload_n hg dX3_tell_42 rfl ?_
      refine y_geti (j := 15) hg cf3 (hM.m) (by decide) rfl q926 dX3_tell_43 ?_
      refine y_iret hg hr ⟨_, rfl, ?_⟩ dX3_tell_46 (Nat.le_refl _) (Nat.le_refl _)
      have eo : oTell A v = (nI (n + 1), up2 (up2 A 6 n v) 1 4 (nI (n + 1))) := by
        unfold oTell
        rw [if_pos h1, e, if_neg hc2, nI_clamp (by omega), nI_add]
      rw [eo]
      refine ⟨gI_s, ?_, ((FrR.rf).stI (by omega)).stI (by omega)⟩
      exact (hR.u hW 6 n (by unfold dm; omega) (by omega) (by omega)).u2 hW.nmle 1 4 (by unfold dm; omega) (by omega) (by omega)
    · refine y_bipush (v := -4) hg dX3_tell_19 rfl ?_
      refine y_iret hg hr ⟨_, rfl, ?_⟩ dX3_tell_21 (Nat.le_refl _) (Nat.le_refl _)
      have eo : oTell A v = (-4, A) := by unfold oTell; rw [if_pos h1, e, if_pos hc2]
      rw [eo]
      exact ⟨rfl, hR, FrR.rf⟩
  · refine y_iconst (v := -1) hg dX3_tell_8 rfl ?_
    refine y_iret hg hr ⟨_, rfl, ?_⟩ dX3_tell_9 (Nat.le_refl _) (Nat.le_refl _)
    have eo : oTell A v = (-1, A) := by unfold oTell; rw [if_neg (b2F hc)]
    rw [eo]
    exact ⟨rfl, hR, FrR.rf⟩
/-- see -/
def oSee (A : Ab) (a b c : Int32) : Int32 × Ab := if inL a.toInt64 0 3 = true ∧ inL b.toInt64 0 12 = true ∧ inL c.toInt64 0 1 = true then if A 1 5 = nI 6 then (-4, A) else (A 1 5 + nI 1, up2 (up2 (up2 (up2 A 7 (A 1 5).toNatClampNeg a) 8 (A 1 5).toNatClampNeg b) 9 (A 1 5).toNatClampNeg c) 1 5 (A 1 5 + nI 1)) else (-2, A)
theorem wSee (hW : WFA A) (a b c : Int32) : WFA (oSee A a b c).2 := by
  unfold oSee
  split
  · split
    · exact hW
    · rename_i h2
      obtain ⟨n, hn, e⟩ := hW.seen
      have hn2 := lt_of_ne hn (e ▸ h2)
      rw [e, nI_clamp (by omega)]
      exact hW.ch (seen := Or.inr ⟨n + 1, by omega, nI_add n 1⟩)
  · exact hW
theorem cX_see (hW : WFA A) (hR : RX B A sd σ) (a b c : Int32) : MT ll B 24 0 0 yX0_see cX0_see 4 (some .int) [.ref (B.1 + 0), .int a, .int b, .int c] σ (oX B sd σ (oSee A a b c)) := by
  have hL := hR.1
  obtain ⟨n, hn, e⟩ := hW.seen
  have e' := hR.seen.trans e
  refine MT.of (by decide) (Nat.le_of_ble_eq_true rfl) (fun g hg hr => ?_)
  have BAD : ¬ (inL a.toInt64 0 3 = true ∧ inL b.toInt64 0 12 = true ∧ inL c.toInt64 0 1 = true) → YY g 4 σ 0 0 34 [(0, .ref (B.1 + 0)), (1, .int a), (2, .int b), (3, .int c)] [] := by
    intro h
    refine y_bipush (v := -2) hg dX0_see_34 rfl ?_
    refine y_iret hg hr ⟨_, rfl, ?_⟩ dX0_see_36 (Nat.le_refl _) (Nat.le_refl _)
    have eo : oSee A a b c = (-2, A) := by unfold oSee; rw [if_neg h]
    rw [eo]
    exact ⟨rfl, hR, Fr.rf⟩
  refine y_iload_n hg dX0_see_0 rfl ?_
  refine y_i2l hg dX0_see_1 ?_
  refine y_lconst (v := 0) hg dX0_see_2 rfl ?_
  refine y_ldc2 hg dX0_see_3 q474 ?_
  refine y_cSi hg (cX_isIn _ _ _) iX0_isIn q286 rfl rfl (by simp [Value.category]) (Nat.le_refl _) (Nat.le_refl _) (by decide) dX0_see_6 (fun r σ1 hp => ?_)
  obtain ⟨rfl, rfl⟩ := hp
  refine y_if_eq hg 34 dX0_see_9 (by decide) (fun hc => ?_) (fun hc => ?_)
  · exact BAD (fun q => b2F hc q.1)
  refine y_iload_n hg dX0_see_12 rfl ?_
  refine y_i2l hg dX0_see_13 ?_
  refine y_lconst (v := 0) hg dX0_see_14 rfl ?_
  refine y_ldc2 hg dX0_see_15 q510 ?_
  refine y_cSi hg (cX_isIn _ _ _) iX0_isIn q286 rfl rfl (by simp [Value.category]) (Nat.le_refl _) (Nat.le_refl _) (by decide) dX0_see_18 (fun r σ1 hp => ?_)
  obtain ⟨rfl, rfl⟩ := hp
  refine y_if_eq hg 34 dX0_see_21 (by decide) (fun hc1 => ?_) (fun hc1 => ?_)
  · exact BAD (fun q => b2F hc1 q.2.1)
  refine y_iload_n hg dX0_see_24 rfl ?_
  refine y_i2l hg dX0_see_25 ?_
  refine y_lconst (v := 0) hg dX0_see_26 rfl ?_
  refine y_lconst (v := 1) hg dX0_see_27 rfl ?_
  refine y_cSi hg (cX_isIn _ _ _) iX0_isIn q286 rfl rfl (by simp [Value.category]) (Nat.le_refl _) (Nat.le_refl _) (by decide) dX0_see_28 (fun r σ1 hp => ?_)
  obtain ⟨rfl, rfl⟩ := hp
  refine y_if_ne hg 37 dX0_see_31 (by decide) (fun hc2 => ?_) (fun hc2 => ?_)
  · have h1 : inL a.toInt64 0 3 = true ∧ inL b.toInt64 0 12 = true ∧ inL c.toInt64 0 1 = true := ⟨b2T hc, b2T hc1, b2T hc2⟩
    refine y_aload_n hg dX0_see_37 rfl ?_
    refine y_geti (j := 28) hg cf0 (hL.x) (by decide) rfl q200 dX0_see_38 ?_
    refine y_ti (e') ?_
    refine y_bipush (v := nI 6) hg dX0_see_41 rfl ?_
    refine y_icmp_ne hg 49 dX0_see_43 (by decide) (fun hc3 => ?_) (fun hc3 => ?_)
    · have hn2 := lt_of_ne hn hc3
      refine y_aload_n hg dX0_see_49 rfl ?_
      refine y_getr (j := 29) hg cf0 (hL.x) (by decide) rfl (hL.r_seenWhat) q201 dX0_see_50 ?_
      refine y_aload_n hg dX0_see_53 rfl ?_
      refine y_geti (j := 28) hg cf0 (hL.x) (by decide) rfl q200 dX0_see_54 ?_
      refine y_ti (e') ?_
      refine y_iload_n hg dX0_see_57 rfl ?_
      refine y_iast hg _ (hL.k_seenWhat) rfl (by omega) dX0_see_58 ?_
      refine y_aload_n hg dX0_see_59 rfl ?_
      refine y_getr (j := 30) hg cf0 (hL.x) (by decide) rfl (hL.r_seenOf) q202 dX0_see_60 ?_
      refine y_aload_n hg dX0_see_63 rfl ?_
      refine y_geti (j := 28) hg cf0 (hL.x) (by decide) rfl q200 dX0_see_64 ?_
      refine y_ti (e') ?_
      refine y_iload_n hg dX0_see_67 rfl ?_
      refine y_iast hg _ (hL.k_seenOf) rfl (by omega) dX0_see_68 ?_
      refine y_aload_n hg dX0_see_69 rfl ?_
      refine y_getr (j := 31) hg cf0 (hL.x) (by decide) rfl (hL.r_seenWas) q203 dX0_see_70 ?_
      refine y_aload_n hg dX0_see_73 rfl ?_
      refine y_geti (j := 28) hg cf0 (hL.x) (by decide) rfl q200 dX0_see_74 ?_
      refine y_ti (e') ?_
      refine y_iload_n hg dX0_see_77 rfl ?_
      refine y_iast hg _ (hL.k_seenWas) rfl (by omega) dX0_see_78 ?_
      refine y_aload_n hg dX0_see_79 rfl ?_
      refine y_dup hg dX0_see_80 rfl ?_
      refine y_geti (j := 28) hg cf0 (hL.x) (by decide) rfl q200 dX0_see_81 ?_
      refine y_ti (e') ?_
      refine y_iconst (v := nI 1) hg dX0_see_84 rfl ?_
      refine y_iadd hg dX0_see_85 ?_
      refine y_ti (nI_add _ _) ?_
      refine y_puti (j := 28) hg cf0 (hL.x) (by decide) rfl rfl q200 dX0_see_86 ?_
      refine y_aload_n hg dX0_see_89 rfl ?_
      refine y_geti (j := 28) hg cf0 (hL.x) (by decide) rfl q200 dX0_see_90 ?_
      refine y_iret hg hr ⟨_, rfl, ?_⟩ dX0_see_93 (Nat.le_refl _) (Nat.le_refl _)
      have eo : oSee A a b c = (nI (n + 1), up2 (up2 (up2 (up2 A 7 n a) 8 n b) 9 n c) 1 5 (nI (n + 1))) := by
        unfold oSee
        rw [if_pos h1, e, if_neg hc3, nI_clamp (by omega), nI_add]
      rw [eo]
      refine ⟨gI_s, ?_, ((((Fr.rf).stI (by omega)).stI (by omega)).stI (by omega)).stI (by omega)⟩
      exact (((hR.u hW 7 n (by unfold dm; omega) (by omega) (by omega)).u2 hW.nmle 8 n (by unfold dm; omega) (by omega) (by omega)).u2 hW.nmle 9 n (by unfold dm; omega) (by omega) (by omega)).u2 hW.nmle 1 5 (by unfold dm; omega) (by omega) (by omega)
    · refine y_bipush (v := -4) hg dX0_see_46 rfl ?_
      refine y_iret hg hr ⟨_, rfl, ?_⟩ dX0_see_48 (Nat.le_refl _) (Nat.le_refl _)
      have eo : oSee A a b c = (-4, A) := by unfold oSee; rw [if_pos h1, e, if_pos hc3]
      rw [eo]
      exact ⟨rfl, hR, Fr.rf⟩
  · exact BAD (fun q => b2F hc2 q.2.2)
theorem cX_seed (hR : RX B A sd σ) (v : Int64) : MT ll B 24 0 0 yX0_seed cX0_seed 5 (some .long) [.ref (B.1 + 0), .long v] σ (pL fun r σ' => r = sd ∧ RX B A v σ' ∧ Fr (fun a _ => a < 157) σ σ') := by
  have hL := hR.1
  refine MT.of (by decide) (Nat.le_of_ble_eq_true rfl) (fun g hg hr => ?_)
  refine y_aload_n hg dX0_seed_0 rfl ?_
  refine y_getl (j := 33) hg cf0 (hL.x) (by decide) rfl q205 dX0_seed_1 ?_
  refine y_lstore_n hg dX0_seed_4 (by decide) (lv1 := [(0, _), (1, _), (3, _)]) rfl ?_
  refine y_aload_n hg dX0_seed_5 rfl ?_
  refine y_lload_n hg dX0_seed_6 rfl ?_
  refine y_putl (j := 33) hg cf0 (hL.x) (by decide) rfl rfl q205 dX0_seed_7 ?_
  refine y_lload_n hg dX0_seed_10 rfl ?_
  refine y_lret hg hr ⟨_, rfl, ?_⟩ dX0_seed_11 (Nat.le_refl _) (Nat.le_refl _)
  refine ⟨hR.2.2.2, ?_, (Fr.rf).stL (by omega)⟩
  exact ⟨hL, hR.2.1, hR.2.2.1, gL_s⟩
theorem cM_see (hW : WFA A) (hR : RMm B A sd σ) (a b c : Int32) : MT ll B 24 0 0 yX3_see cX3_see 4 (some .int) [.ref (B.1 + 157), .int a, .int b, .int c] σ (oM B sd σ (oSee A a b c)) := by
  have hM := hR.1
  obtain ⟨n, hn, e⟩ := hW.seen
  have e' := hR.seen.trans e
  refine MT.of (by decide) (Nat.le_of_ble_eq_true rfl) (fun g hg hr => ?_)
  have BAD : ¬ (inL a.toInt64 0 3 = true ∧ inL b.toInt64 0 12 = true ∧ inL c.toInt64 0 1 = true) → YY g 4 σ 0 0 34 [(0, .ref (B.1 + 157)), (1, .int a), (2, .int b), (3, .int c)] [] := by
    intro h
    refine y_bipush (v := -2) hg dX3_see_34 rfl ?_
    refine y_iret hg hr ⟨_, rfl, ?_⟩ dX3_see_36 (Nat.le_refl _) (Nat.le_refl _)
    have eo : oSee A a b c = (-2, A) := by unfold oSee; rw [if_neg h]
    rw [eo]
    exact ⟨rfl, hR, FrR.rf⟩
  refine y_iload_n hg dX3_see_0 rfl ?_
  refine y_i2l hg dX3_see_1 ?_
  refine y_lconst (v := 0) hg dX3_see_2 rfl ?_
  refine y_ldc2 hg dX3_see_3 q1099 ?_
  refine y_cSi hg (cM_in _ _ _) iX3_in q1052 rfl rfl (by simp [Value.category]) (Nat.le_refl _) (Nat.le_refl _) (by decide) dX3_see_6 (fun r σ1 hp => ?_)
  obtain ⟨rfl, rfl⟩ := hp
  refine y_if_eq hg 34 dX3_see_9 (by decide) (fun hc => ?_) (fun hc => ?_)
  · exact BAD (fun q => b2F hc q.1)
  refine y_iload_n hg dX3_see_12 rfl ?_
  refine y_i2l hg dX3_see_13 ?_
  refine y_lconst (v := 0) hg dX3_see_14 rfl ?_
  refine y_ldc2 hg dX3_see_15 q1236 ?_
  refine y_cSi hg (cM_in _ _ _) iX3_in q1052 rfl rfl (by simp [Value.category]) (Nat.le_refl _) (Nat.le_refl _) (by decide) dX3_see_18 (fun r σ1 hp => ?_)
  obtain ⟨rfl, rfl⟩ := hp
  refine y_if_eq hg 34 dX3_see_21 (by decide) (fun hc1 => ?_) (fun hc1 => ?_)
  · exact BAD (fun q => b2F hc1 q.2.1)
  refine y_iload_n hg dX3_see_24 rfl ?_
  refine y_i2l hg dX3_see_25 ?_
  refine y_lconst (v := 0) hg dX3_see_26 rfl ?_
  refine y_lconst (v := 1) hg dX3_see_27 rfl ?_
  refine y_cSi hg (cM_in _ _ _) iX3_in q1052 rfl rfl (by simp [Value.category]) (Nat.le_refl _) (Nat.le_refl _) (by decide) dX3_see_28 (fun r σ1 hp => ?_)
  obtain ⟨rfl, rfl⟩ := hp
  refine y_if_ne hg 37 dX3_see_31 (by decide) (fun hc2 => ?_) (fun hc2 => ?_)
  · have h1 : inL a.toInt64 0 3 = true ∧ inL b.toInt64 0 12 = true ∧ inL c.toInt64 0 1 = true := ⟨b2T hc, b2T hc1, b2T hc2⟩
    refine y_aload_n hg dX3_see_37 rfl ?_
    refine y_geti (j := 19) hg cf3 (hM.m) (by decide) rfl q930 dX3_see_38 ?_
    refine y_ti (e') ?_
    refine y_bipush (v := nI 6) hg dX3_see_41 rfl ?_
    refine y_icmp_ne hg 49 dX3_see_43 (by decide) (fun hc3 => ?_) (fun hc3 => ?_)
    · have hn2 := lt_of_ne hn hc3
      refine y_aload_n hg dX3_see_49 rfl ?_
      refine y_getr (j := 16) hg cf3 (hM.m) (by decide) rfl (hM.r_seenWhat) q927 dX3_see_50 ?_
      refine y_aload_n hg dX3_see_53 rfl ?_
      refine y_geti (j := 19) hg cf3 (hM.m) (by decide) rfl q930 dX3_see_54 ?_
      refine y_ti (e') ?_
      refine y_iload_n hg dX3_see_57 rfl ?_
      refine y_iast hg _ (hM.k_seenWhat) rfl (by omega) dX3_see_58 ?_
      refine y_aload_n hg dX3_see_59 rfl ?_
      refine y_getr (j := 17) hg cf3 (hM.m) (by decide) rfl (hM.r_seenOf) q928 dX3_see_60 ?_
      refine y_aload_n hg dX3_see_63 rfl ?_
      refine y_geti (j := 19) hg cf3 (hM.m) (by decide) rfl q930 dX3_see_64 ?_
      refine y_ti (e') ?_
      refine y_iload_n hg dX3_see_67 rfl ?_
      refine y_iast hg _ (hM.k_seenOf) rfl (by omega) dX3_see_68 ?_
      refine y_aload_n hg dX3_see_69 rfl ?_
      refine y_getr (j := 18) hg cf3 (hM.m) (by decide) rfl (hM.r_seenWas) q929 dX3_see_70 ?_
      refine y_aload_n hg dX3_see_73 rfl ?_
      refine y_geti (j := 19) hg cf3 (hM.m) (by decide) rfl q930 dX3_see_74 ?_
      refine y_ti (e') ?_
      refine y_iload_n hg dX3_see_77 rfl ?_
      refine y_iast hg _ (hM.k_seenWas) rfl (by omega) dX3_see_78 ?_
      refine y_aload_n hg dX3_see_79 rfl ?_
      refine y_dup hg dX3_see_80 rfl ?_
      refine y_geti (j := 19) hg cf3 (hM.m) (by decide) rfl q930 dX3_see_81 ?_
      refine y_ti (e') ?_
      refine y_iconst (v := nI 1) hg dX3_see_84 rfl ?_
      refine y_iadd hg dX3_see_85 ?_
      refine y_ti (nI_add _ _) ?_
      refine y_puti (j := 19) hg cf3 (hM.m) (by decide) rfl rfl q930 dX3_see_86 ?_
      refine y_aload_n hg dX3_see_89 rfl ?_
      refine y_geti (j := 19) hg cf3 (hM.m) (by decide) rfl q930 dX3_see_90 ?_
      refine y_iret hg hr ⟨_, rfl, ?_⟩ dX3_see_93 (Nat.le_refl _) (Nat.le_refl _)
      have eo : oSee A a b c = (nI (n + 1), up2 (up2 (up2 (up2 A 7 n a) 8 n b) 9 n c) 1 5 (nI (n + 1))) := by
        unfold oSee
        rw [if_pos h1, e, if_neg hc3, nI_clamp (by omega), nI_add]
      rw [eo]
      refine ⟨gI_s, ?_, ((((FrR.rf).stI (by omega)).stI (by omega)).stI (by omega)).stI (by omega)⟩
      exact (((hR.u hW 7 n (by unfold dm; omega) (by omega) (by omega)).u2 hW.nmle 8 n (by unfold dm; omega) (by omega) (by omega)).u2 hW.nmle 9 n (by unfold dm; omega) (by omega) (by omega)).u2 hW.nmle 1 5 (by unfold dm; omega) (by omega) (by omega)
    · refine y_bipush (v := -4) hg dX3_see_46 rfl ?_
      refine y_iret hg hr ⟨_, rfl, ?_⟩ dX3_see_48 (Nat.le_refl _) (Nat.le_refl _)
      have eo : oSee A a b c = (-4, A) := by unfold oSee; rw [if_pos h1, e, if_pos hc3]
      rw [eo]
      exact ⟨rfl, hR, FrR.rf⟩
  · exact BAD (fun q => b2F hc2 q.2.2)
theorem cM_seed (hR : RMm B A sd σ) (v : Int64) : MT ll B 24 0 0 yX3_seed cX3_seed 5 (some .long) [.ref (B.1 + 157), .long v] σ (pL fun r σ' => r = sd ∧ RMm B A v σ' ∧ FrR (fun a _ => 157 ≤ a) σ σ') := by
  have hM := hR.1
  refine MT.of (by decide) (Nat.le_of_ble_eq_true rfl) (fun g hg hr => ?_)
  refine y_aload_n hg dX3_seed_0 rfl ?_
  refine y_getl (j := 20) hg cf3 (hM.m) (by decide) rfl q931 dX3_seed_1 ?_
  refine y_lstore_n hg dX3_seed_4 (by decide) (lv1 := [(0, _), (1, _), (3, _)]) rfl ?_
  refine y_aload_n hg dX3_seed_5 rfl ?_
  refine y_lload_n hg dX3_seed_6 rfl ?_
  refine y_putl (j := 20) hg cf3 (hM.m) (by decide) rfl rfl q931 dX3_seed_7 ?_
  refine y_lload_n hg dX3_seed_10 rfl ?_
  refine y_lret hg hr ⟨_, rfl, ?_⟩ dX3_seed_11 (Nat.le_refl _) (Nat.le_refl _)
  refine ⟨hR.2.2, ?_, (FrR.rf).stL (by omega)⟩
  exact ⟨hM, hR.2.1, gL_s⟩
end Ops

