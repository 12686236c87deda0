section Wd
variable {ll : Launch} {B : Bs} {σ : Mem} {A : Ab} {sd : Int64}
/-- in how many words a letter is -/
def hav (A : Ab) (x : Nat) : Int32 := fo (fun w n => n + (if 0 < A 4 (8 * w + x) then nI 1 else nI 0)) (nI 0) (nm A)
theorem cX_wordsWith (hW : WFA A) (hR : RX B A sd σ) {x : Nat} (hx : x < 8) : MT ll B 1 0 0 yX0_wordsWith cX0_wordsWith 4 (some .int) [.ref (B.1 + 0), .int (nI x)] σ (pI fun r σ' => r = hav A x ∧ σ' = σ) := by
  have hL := hR.1
  have hm := hW.nmle
  have em := hR.many.trans hW.1.1
  refine MT.of (by decide) (Nat.le_of_ble_eq_true rfl) (fun g hg hr => ?_)
  refine y_iconst (v := nI 0) hg dX0_wordsWith_0 rfl ?_
  refine y_istore_n hg dX0_wordsWith_1 (by decide) (lv1 := [(0, _), (1, _), (2, _)]) rfl ?_
  refine y_iconst (v := nI 0) hg dX0_wordsWith_2 rfl ?_
  refine y_istore_n hg dX0_wordsWith_3 (by decide) (lv1 := [(0, _), (1, _), (2, _), (3, _)]) rfl ?_
  refine (loop_up (G := fun i => YY g 4 σ 0 0 4 [(0, .ref (B.1 + 0)), (1, .int (nI x)), (2, .int (fo (fun w n => n + (if 0 < A 4 (8 * w + x) then nI 1 else nI 0)) (nI 0) i)), (3, .int (nI i))] []) (nm A) (fun i hi ih => ?_) ?_ 0 (Nat.zero_le _))
  · have J : ∀ v : Int32, v = (if 0 < A 4 (8 * i + x) then nI 1 else nI 0) → YY g 4 σ 0 0 32 [(0, .ref (B.1 + 0)), (1, .int (nI x)), (2, .int (fo (fun w n => n + (if 0 < A 4 (8 * w + x) then nI 1 else nI 0)) (nI 0) i)), (3, .int (nI i))] [.int v, .int (fo (fun w n => n + (if 0 < A 4 (8 * w + x) then nI 1 else nI 0)) (nI 0) i)] := by
      intro v hv
      subst hv
      refine y_iadd hg dX0_wordsWith_32 ?_
      refine y_istore_n hg dX0_wordsWith_33 (by decide) (lv1 := [(0, _), (1, _), (2, _), (3, _)]) rfl ?_
      refine y_iinc hg dX0_wordsWith_34 rfl (inc1 _) (by decide) (lv1 := [(0, _), (1, _), (2, _), (3, _)]) rfl ?_
      refine y_goto hg 4 dX0_wordsWith_37 (by decide) ?_
      exact ih
    refine y_iload_n hg dX0_wordsWith_4 rfl ?_
    refine y_aload_n hg dX0_wordsWith_5 rfl ?_
    refine y_geti (j := 1) hg cf0 (hL.x) (by decide) rfl q173 dX0_wordsWith_6 ?_
    refine y_ti (em) ?_
    refine y_icmp_ge hg 40 dX0_wordsWith_9 (by decide) (fun hT => absurd hT (ge_c hi (by omega))) (fun _ => ?_)
    refine y_iload_n hg dX0_wordsWith_12 rfl ?_
    refine y_aload_n hg dX0_wordsWith_13 rfl ?_
    refine y_getr (j := 0) hg cf0 (hL.x) (by decide) rfl (hL.r_words) q172 dX0_wordsWith_14 ?_
    refine y_iload_n hg dX0_wordsWith_17 rfl ?_
    refine y_aald3 hg _ (hL.k_words) rfl (by omega) (hL.e_words (by omega)) dX0_wordsWith_18 ?_
    refine y_getrN (j := 3) hg cf2 ((hL.w_words (by omega)).o) (by decide) rfl ((hL.w_words (by omega)).r_has) nf9 dX0_wordsWith_19 ?_
    refine y_iload_n hg dX0_wordsWith_22 rfl ?_
    refine y_iald hg _ ((hL.w_words (by omega)).k_has) rfl (by omega) dX0_wordsWith_23 ?_
    refine y_ti (hR.need hi hx) ?_
    refine y_if_le hg 31 dX0_wordsWith_24 (by decide) (fun hc => ?_) (fun hc => ?_)
    · refine y_iconst (v := nI 0) hg dX0_wordsWith_31 rfl ?_
      exact J _ (by rw [if_neg (Int32.not_lt.mpr hc)])
    · refine y_iconst (v := nI 1) hg dX0_wordsWith_27 rfl ?_
      refine y_goto hg 32 dX0_wordsWith_28 (by decide) ?_
      exact J _ (by rw [if_pos (Int32.not_le.mp hc)])
  · refine y_iload_n hg dX0_wordsWith_4 rfl ?_
    refine y_aload_n hg dX0_wordsWith_5 rfl ?_
    refine y_geti (j := 1) hg cf0 (hL.x) (by decide) rfl q173 dX0_wordsWith_6 ?_
    refine y_ti (em) ?_
    refine y_icmp_ge hg 40 dX0_wordsWith_9 (by decide) (fun _ => ?_) (fun hF => absurd (le_c (Nat.le_refl _) (by omega)) hF)
    refine y_iload_n hg dX0_wordsWith_40 rfl ?_
    refine y_iret hg hr ⟨_, rfl, ?_⟩ dX0_wordsWith_41 (Nat.le_refl _) (Nat.le_refl _)
    exact ⟨rfl, rfl⟩
theorem cM_havers (hW : WFA A) (hR : RMm B A sd σ) {x : Nat} (hx : x < 8) : MT ll B 1 0 0 yX3_havers cX3_havers 4 (some .int) [.ref (B.1 + 157), .int (nI x)] σ (pI fun r σ' => r = hav A x ∧ σ' = σ) := by
  have hM := hR.1
  have hm := hW.nmle
  have em := hR.many.trans hW.1.1
  refine MT.of (by decide) (Nat.le_of_ble_eq_true rfl) (fun g hg hr => ?_)
  refine y_iconst (v := nI 0) hg dX3_havers_0 rfl ?_
  refine y_istore_n hg dX3_havers_1 (by decide) (lv1 := [(0, _), (1, _), (2, _)]) rfl ?_
  refine y_iconst (v := nI 0) hg dX3_havers_2 rfl ?_
  refine y_istore_n hg dX3_havers_3 (by decide) (lv1 := [(0, _), (1, _), (2, _), (3, _)]) rfl ?_
  refine (loop_up (G := fun i => YY g 4 σ 0 0 4 [(0, .ref (B.1 + 157)), (1, .int (nI x)), (2, .int (fo (fun w n => n + (if 0 < A 4 (8 * w + x) then nI 1 else nI 0)) (nI 0) i)), (3, .int (nI i))] []) (nm A) (fun i hi ih => ?_) ?_ 0 (Nat.zero_le _))
  · have J : ∀ v : Int32, v = (if 0 < A 4 (8 * i + x) then nI 1 else nI 0) → YY g 4 σ 0 0 32 [(0, .ref (B.1 + 157)), (1, .int (nI x)), (2, .int (fo (fun w n => n + (if 0 < A 4 (8 * w + x) then nI 1 else nI 0)) (nI 0) i)), (3, .int (nI i))] [.int v, .int (fo (fun w n => n + (if 0 < A 4 (8 * w + x) then nI 1 else nI 0)) (nI 0) i)] := by
      intro v hv
      subst hv
      refine y_iadd hg dX3_havers_32 ?_
      refine y_istore_n hg dX3_havers_33 (by decide) (lv1 := [(0, _), (1, _), (2, _), (3, _)]) rfl ?_
      refine y_iinc hg dX3_havers_34 rfl (inc1 _) (by decide) (lv1 := [(0, _), (1, _), (2, _), (3, _)]) rfl ?_
      refine y_goto hg 4 dX3_havers_37 (by decide) ?_
      exact ih
    refine y_iload_n hg dX3_havers_4 rfl ?_
    refine y_aload_n hg dX3_havers_5 rfl ?_
    refine y_geti (j := 2) hg cf3 (hM.m) (by decide) rfl q913 dX3_havers_6 ?_
    refine y_ti (em) ?_
    refine y_icmp_ge hg 40 dX3_havers_9 (by decide) (fun hT => absurd hT (ge_c hi (by omega))) (fun _ => ?_)
    refine y_iload_n hg dX3_havers_12 rfl ?_
    refine y_aload_n hg dX3_havers_13 rfl ?_
    refine y_getr (j := 6) hg cf3 (hM.m) (by decide) rfl (hM.r_need) q917 dX3_havers_14 ?_
    refine y_bipush (v := nI 8) hg dX3_havers_17 rfl ?_
    refine y_iload_n hg dX3_havers_19 rfl ?_
    refine y_imul hg dX3_havers_20 ?_
    refine y_ti (pk_mul _ _) ?_
    refine y_iload_n hg dX3_havers_21 rfl ?_
    refine y_iadd hg dX3_havers_22 ?_
    refine y_ti (nI_add _ _) ?_
    refine y_iald hg _ (hM.k_need) rfl (by omega) dX3_havers_23 ?_
    refine y_ti (hR.need hi hx) ?_
    refine y_if_le hg 31 dX3_havers_24 (by decide) (fun hc => ?_) (fun hc => ?_)
    · refine y_iconst (v := nI 0) hg dX3_havers_31 rfl ?_
      exact J _ (by rw [if_neg (Int32.not_lt.mpr hc)])
    · refine y_iconst (v := nI 1) hg dX3_havers_27 rfl ?_
      refine y_goto hg 32 dX3_havers_28 (by decide) ?_
      exact J _ (by rw [if_pos (Int32.not_le.mp hc)])
  · refine y_iload_n hg dX3_havers_4 rfl ?_
    refine y_aload_n hg dX3_havers_5 rfl ?_
    refine y_geti (j := 2) hg cf3 (hM.m) (by decide) rfl q913 dX3_havers_6 ?_
    refine y_ti (em) ?_
    refine y_icmp_ge hg 40 dX3_havers_9 (by decide) (fun _ => ?_) (fun hF => absurd (le_c (Nat.le_refl _) (by omega)) hF)
    refine y_iload_n hg dX3_havers_40 rfl ?_
    refine y_iret hg hr ⟨_, rfl, ?_⟩ dX3_havers_41 (Nat.le_refl _) (Nat.le_refl _)
    exact ⟨rfl, rfl⟩
/-- the rarest letter of a word -/
def rarS (A : Ab) (w k : Nat) (a : Int32) : Int32 := if 0 < A 4 (8 * w + k) ∧ (a = -9 ∨ hav A k ≤ hav A a.toNatClampNeg) then nI k else a
def rar (A : Ab) (w : Nat) : Int32 := fd (rarS A w) 8 (-9)
theorem dn_lt : (nI 0 + (-1) : Int32) < 0 := by decide
theorem cX_rarest (hW : WFA A) (hR : RX B A sd σ) {w : Nat} (hw : w < nm A) : MT ll B 3 0 0 yX0_rarest cX0_rarest 4 (some .int) [.ref (B.1 + 0), .ref (B.1 + (97 + 6 * w))] σ (pI fun r σ' => r = rar A w ∧ σ' = σ) := by
  have hL := hR.1
  have hm := hW.nmle
  have hWd := hL.w_words (i := w) (by omega)
  refine MT.of (by decide) (Nat.le_of_ble_eq_true rfl) (fun g hg hr => ?_)
  refine y_bipush (v := -9) hg dX0_rarest_0 rfl ?_
  refine y_istore_n hg dX0_rarest_2 (by decide) (lv1 := [(0, _), (1, _), (2, _)]) rfl ?_
  refine y_bipush (v := nI 7) hg dX0_rarest_3 rfl ?_
  refine y_istore_n hg dX0_rarest_5 (by decide) (lv1 := [(0, _), (1, _), (2, _), (3, _)]) rfl ?_
  refine (loop_dst (S := Int32) (G := fun i a => YY g 4 σ 0 0 6 [(0, .ref (B.1 + 0)), (1, .ref (B.1 + (97 + 6 * w))), (2, .int a), (3, .int (nI i + (-1)))] []) (I := fun i a => i ≤ 8 ∧ (a = -9 ∨ ∃ y, y < 8 ∧ a = nI y) ∧ fd (rarS A w) i a = rar A w) (fun i a hI ih => ?_) (fun a hI => ?_) 8 (-9) ⟨by omega, Or.inl rfl, rfl⟩)
  · obtain ⟨hi, ha, hf⟩ := hI
    rw [pk_m1]
    have J : ∀ v : Int32, v = rarS A w i a → YY g 4 σ 0 0 43 [(0, .ref (B.1 + 0)), (1, .ref (B.1 + (97 + 6 * w))), (2, .int a), (3, .int (nI i))] [.int v] := by
      intro v hv
      subst hv
      refine y_istore_n hg dX0_rarest_43 (by decide) (lv1 := [(0, _), (1, _), (2, _), (3, _)]) rfl ?_
      refine y_iinc hg dX0_rarest_44 rfl rfl (by decide) (lv1 := [(0, _), (1, _), (2, _), (3, _)]) rfl ?_
      refine y_goto hg 6 dX0_rarest_47 (by decide) ?_
      refine ih _ ⟨by omega, ?_, hf⟩
      unfold rarS
      split
      · exact Or.inr ⟨i, by omega, rfl⟩
      · exact ha
    have JY : 0 < A 4 (8 * w + i) ∧ (a = -9 ∨ hav A i ≤ hav A a.toNatClampNeg) → YY g 4 σ 0 0 38 [(0, .ref (B.1 + 0)), (1, .ref (B.1 + (97 + 6 * w))), (2, .int a), (3, .int (nI i))] [] := by
      intro h
      refine y_iload_n hg dX0_rarest_38 rfl ?_
      refine y_goto hg 43 dX0_rarest_39 (by decide) ?_
      exact J _ (by unfold rarS; rw [if_pos h])
    have JN : ¬ (0 < A 4 (8 * w + i) ∧ (a = -9 ∨ hav A i ≤ hav A a.toNatClampNeg)) → YY g 4 σ 0 0 42 [(0, .ref (B.1 + 0)), (1, .ref (B.1 + (97 + 6 * w))), (2, .int a), (3, .int (nI i))] [] := by
      intro h
      refine y_iload_n hg dX0_rarest_42 rfl ?_
      exact J _ (by unfold rarS; rw [if_neg h])
    refine y_iload_n hg dX0_rarest_6 rfl ?_
    refine y_if_lt hg 50 dX0_rarest_7 (by decide) (fun hT => absurd hT (nI_pos (by omega))) (fun _ => ?_)
    refine y_aload_n hg dX0_rarest_10 rfl ?_
    refine y_getrN (j := 3) hg cf2 (hWd.o) (by decide) rfl (hWd.r_has) nf9 dX0_rarest_11 ?_
    refine y_iload_n hg dX0_rarest_14 rfl ?_
    refine y_iald hg _ (hWd.k_has) rfl (by omega) dX0_rarest_15 ?_
    refine y_ti (hR.need hw (by omega)) ?_
    refine y_if_le hg 42 dX0_rarest_16 (by decide) (fun hc => ?_) (fun hc => ?_)
    · exact JN (fun q => Int32.not_lt.mpr hc q.1)
    have hc' := Int32.not_le.mp hc
    refine y_iload_n hg dX0_rarest_19 rfl ?_
    refine y_bipush (v := -9) hg dX0_rarest_20 rfl ?_
    refine y_icmp_eq hg 38 dX0_rarest_22 (by decide) (fun hc2 => ?_) (fun hc2 => ?_)
    · exact JY ⟨hc', Or.inl hc2⟩
    obtain ⟨y, hy, rfl⟩ := ha.resolve_left hc2
    refine y_aload_n hg dX0_rarest_25 rfl ?_
    refine y_iload_n hg dX0_rarest_26 rfl ?_
    refine y_cVi hg (cX_wordsWith hW hR (by omega)) iX0_wordsWith q448 (hL.x) cf0 rfl rfl (by simp [Value.category]) (Nat.le_refl _) (Nat.le_refl _) (by decide) dX0_rarest_27 (fun r σ1 hp => ?_)
    obtain ⟨rfl, rfl⟩ := hp
    refine y_aload_n hg dX0_rarest_30 rfl ?_
    refine y_iload_n hg dX0_rarest_31 rfl ?_
    refine y_cVi hg (cX_wordsWith hW hR hy) iX0_wordsWith q448 (hL.x) cf0 rfl rfl (by simp [Value.category]) (Nat.le_refl _) (Nat.le_refl _) (by decide) dX0_rarest_32 (fun r σ1 hp => ?_)
    obtain ⟨rfl, rfl⟩ := hp
    refine y_icmp_gt hg 42 dX0_rarest_35 (by decide) (fun hc3 => ?_) (fun hc3 => ?_)
    · exact JN (fun q => q.2.elim hc2 (fun z => by rw [nI_clamp (by omega)] at z; exact Int32.not_lt.mpr z hc3))
    · exact JY ⟨hc', Or.inr (by rw [nI_clamp (by omega)]; exact Int32.not_lt.mp hc3)⟩
  · obtain ⟨hi, ha, hf⟩ := hI
    refine y_iload_n hg dX0_rarest_6 rfl ?_
    refine y_if_lt hg 50 dX0_rarest_7 (by decide) (fun _ => ?_) (fun hF => absurd (dn_lt) hF)
    refine y_iload_n hg dX0_rarest_50 rfl ?_
    refine y_iret hg hr ⟨_, rfl, ?_⟩ dX0_rarest_51 (Nat.le_refl _) (Nat.le_refl _)
    exact ⟨hf, rfl⟩
theorem cM_rarest (hW : WFA A) (hR : RMm B A sd σ) {w : Nat} (hw : w < nm A) : MT ll B 3 0 0 yX3_rarest cX3_rarest 4 (some .int) [.ref (B.1 + 157), .int (nI w)] σ (pI fun r σ' => r = rar A w ∧ σ' = σ) := by
  have hM := hR.1
  have hm := hW.nmle
  have em := hR.many.trans hW.1.1
  refine MT.of (by decide) (Nat.le_of_ble_eq_true rfl) (fun g hg hr => ?_)
  refine y_bipush (v := -9) hg dX3_rarest_0 rfl ?_
  refine y_istore_n hg dX3_rarest_2 (by decide) (lv1 := [(0, _), (1, _), (2, _)]) rfl ?_
  refine y_bipush (v := nI 7) hg dX3_rarest_3 rfl ?_
  refine y_istore_n hg dX3_rarest_5 (by decide) (lv1 := [(0, _), (1, _), (2, _), (3, _)]) rfl ?_
  refine (loop_dst (S := Int32) (G := fun i a => YY g 4 σ 0 0 6 [(0, .ref (B.1 + 157)), (1, .int (nI w)), (2, .int a), (3, .int (nI i + (-1)))] []) (I := fun i a => i ≤ 8 ∧ (a = -9 ∨ ∃ y, y < 8 ∧ a = nI y) ∧ fd (rarS A w) i a = rar A w) (fun i a hI ih => ?_) (fun a hI => ?_) 8 (-9) ⟨by omega, Or.inl rfl, rfl⟩)
  · obtain ⟨hi, ha, hf⟩ := hI
    rw [pk_m1]
    have J : ∀ v : Int32, v = rarS A w i a → YY g 4 σ 0 0 48 [(0, .ref (B.1 + 157)), (1, .int (nI w)), (2, .int a), (3, .int (nI i))] [.int v] := by
      intro v hv
      subst hv
      refine y_istore_n hg dX3_rarest_48 (by decide) (lv1 := [(0, _), (1, _), (2, _), (3, _)]) rfl ?_
      refine y_iinc hg dX3_rarest_49 rfl rfl (by decide) (lv1 := [(0, _), (1, _), (2, _), (3, _)]) rfl ?_
      refine y_goto hg 6 dX3_rarest_52 (by decide) ?_
      refine ih _ ⟨by omega, ?_, hf⟩
      unfold rarS
      split
      · exact Or.inr ⟨i, by omega, rfl⟩
      · exact ha
    have JY : 0 < A 4 (8 * w + i) ∧ (a = -9 ∨ hav A i ≤ hav A a.toNatClampNeg) → YY g 4 σ 0 0 43 [(0, .ref (B.1 + 157)), (1, .int (nI w)), (2, .int a), (3, .int (nI i))] [] := by
      intro h
      refine y_iload_n hg dX3_rarest_43 rfl ?_
      refine y_goto hg 48 dX3_rarest_44 (by decide) ?_
      exact J _ (by unfold rarS; rw [if_pos h])
    have JN : ¬ (0 < A 4 (8 * w + i) ∧ (a = -9 ∨ hav A i ≤ hav A a.toNatClampNeg)) → YY g 4 σ 0 0 47 [(0, .ref (B.1 + 157)), (1, .int (nI w)), (2, .int a), (3, .int (nI i))] [] := by
      intro h
      refine y_iload_n hg dX3_rarest_47 rfl ?_
      exact J _ (by unfold rarS; rw [if_neg h])
    refine y_iload_n hg dX3_rarest_6 rfl ?_
    refine y_if_lt hg 55 dX3_rarest_7 (by decide) (fun hT => absurd hT (nI_pos (by omega))) (fun _ => ?_)
    refine y_aload_n hg dX3_rarest_10 rfl ?_
    refine y_getr (j := 6) hg cf3 (hM.m) (by decide) rfl (hM.r_need) q917 dX3_rarest_11 ?_
    refine y_bipush (v := nI 8) hg dX3_rarest_14 rfl ?_
    refine y_iload_n hg dX3_rarest_16 rfl ?_
    refine y_imul hg dX3_rarest_17 ?_
    refine y_ti (pk_mul _ _) ?_
    refine y_iload_n hg dX3_rarest_18 rfl ?_
    refine y_iadd hg dX3_rarest_19 ?_
    refine y_ti (nI_add _ _) ?_
    refine y_iald hg _ (hM.k_need) rfl (by omega) dX3_rarest_20 ?_
    refine y_ti (hR.need hw (by omega)) ?_
    refine y_if_le hg 47 dX3_rarest_21 (by decide) (fun hc => ?_) (fun hc => ?_)
    · exact JN (fun q => Int32.not_lt.mpr hc q.1)
    have hc' := Int32.not_le.mp hc
    refine y_iload_n hg dX3_rarest_24 rfl ?_
    refine y_bipush (v := -9) hg dX3_rarest_25 rfl ?_
    refine y_icmp_eq hg 43 dX3_rarest_27 (by decide) (fun hc2 => ?_) (fun hc2 => ?_)
    · exact JY ⟨hc', Or.inl hc2⟩
    obtain ⟨y, hy, rfl⟩ := ha.resolve_left hc2
    refine y_aload_n hg dX3_rarest_30 rfl ?_
    refine y_iload_n hg dX3_rarest_31 rfl ?_
    refine y_cVi hg (cM_havers hW hR (by omega)) iX3_havers q1182 (hM.m) cf3 rfl rfl (by simp [Value.category]) (Nat.le_refl _) (Nat.le_refl _) (by decide) dX3_rarest_32 (fun r σ1 hp => ?_)
    obtain ⟨rfl, rfl⟩ := hp
    refine y_aload_n hg dX3_rarest_35 rfl ?_
    refine y_iload_n hg dX3_rarest_36 rfl ?_
    refine y_cVi hg (cM_havers hW hR hy) iX3_havers q1182 (hM.m) cf3 rfl rfl (by simp [Value.category]) (Nat.le_refl _) (Nat.le_refl _) (by decide) dX3_rarest_37 (fun r σ1 hp => ?_)
    obtain ⟨rfl, rfl⟩ := hp
    refine y_icmp_gt hg 47 dX3_rarest_40 (by decide) (fun hc3 => ?_) (fun hc3 => ?_)
    · exact JN (fun q => q.2.elim hc2 (fun z => by rw [nI_clamp (by omega)] at z; exact Int32.not_lt.mpr z hc3))
    · exact JY ⟨hc', Or.inr (by rw [nI_clamp (by omega)]; exact Int32.not_lt.mp hc3)⟩
  · obtain ⟨hi, ha, hf⟩ := hI
    refine y_iload_n hg dX3_rarest_6 rfl ?_
    refine y_if_lt hg 55 dX3_rarest_7 (by decide) (fun _ => ?_) (fun hF => absurd (dn_lt) hF)
    refine y_iload_n hg dX3_rarest_55 rfl ?_
    refine y_iret hg hr ⟨_, rfl, ?_⟩ dX3_rarest_56 (Nat.le_refl _) (Nat.le_refl _)
    exact ⟨hf, rfl⟩
end Wd

