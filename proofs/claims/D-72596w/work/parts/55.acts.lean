section Acts
variable {ll : Launch} {B : Bs} {σ : Mem} {A : Ab} {sd : Int64}
theorem lt157 {k : Nat} (h : k + 3 < 157) {σ σ' : Mem} (hf : FrR (SP k) σ σ') : Fr (fun a _ => a < 157) σ σ' := hf.1.mono (fun a j q => by unfold SP at q; omega)
theorem cX_act (hW : WFA A) (hR : RX B A sd σ) : MT ll B 3 0 0 yX0_act cX0_act 1 none [.ref (B.1 + 0)] σ (pV fun σ' => RX B (nt A) sd σ' ∧ Fr (fun a _ => a < 157) σ σ') := by
  have hL := hR.1
  obtain ⟨ex, hx⟩ := hW.nx_e
  obtain ⟨ea, ha⟩ := hW.na_e
  have e' := hR.next.trans ex
  refine MT.of (by decide) (Nat.le_of_ble_eq_true rfl) (fun g hg hr => ?_)
  refine y_aload_n hg dX0_act_0 rfl ?_
  refine y_getr (j := 24) hg cf0 (hL.x) (by decide) rfl (hL.r_before) q196 dX0_act_1 ?_
  refine y_aload_n hg dX0_act_4 rfl ?_
  refine y_geti (j := 23) hg cf0 (hL.x) (by decide) rfl q195 dX0_act_5 ?_
  refine y_ti (e') ?_
  refine y_aald4 hg _ (hL.k_before) rfl hx (hL.e_before hx) dX0_act_8 ?_
  refine y_aload_n hg dX0_act_9 rfl ?_
  refine y_getr (j := 2) hg cf0 (hL.x) (by decide) rfl (hL.r_now) q174 dX0_act_10 ?_
  refine y_cVv hg (cX_scopy (hL.w_before hx) hL.s_now (by omega)) iX1_copy q301 ((hL.w_before hx).o) cf1 rfl rfl (by simp [Value.category]) (Nat.le_refl _) (Nat.le_refl _) (by decide) dX0_act_13 (fun σ1 hp => ?_)
  obtain ⟨hf1, hr1⟩ := hp
  have hR1 : RX B (up1 A (12 + nx A) (A 11)) sd σ1 := by
    refine hR.row hW.nmle (by omega) (by rw [kS_d hx]; exact hf1) (fun j hj => ?_)
    rw [kS_d hx, hr1, if_pos hj]
    exact hR.now hj
  have hL := hR1.1
  have e1 : σ1.2.2.1 0 23 = nI (nx A) := hR1.next.trans (by rw [up1_n (by omega)]; exact ex)
  have e2 : σ1.2.2.1 0 22 = nI (na A) := hR1.acts.trans (by rw [up1_n (by omega)]; exact ea)
  refine y_aload_n hg dX0_act_16 rfl ?_
  refine y_aload_n hg dX0_act_17 rfl ?_
  refine y_geti (j := 23) hg cf0 (hL.x) (by decide) rfl q195 dX0_act_18 ?_
  refine y_ti (e1) ?_
  refine y_iconst (v := nI 1) hg dX0_act_21 rfl ?_
  refine y_iadd hg dX0_act_22 ?_
  refine y_ti (nI_add _ _) ?_
  refine y_bipush (v := nI 14) hg dX0_act_23 rfl ?_
  refine y_irem hg dX0_act_25 (by decide) ?_
  refine y_ti (pk_rem (by omega) (by omega) (by omega)) ?_
  refine y_puti (j := 23) hg cf0 (hL.x) (by decide) rfl rfl q195 dX0_act_26 ?_
  refine y_aload_n hg dX0_act_29 rfl ?_
  refine y_bipush (v := nI 14) hg dX0_act_30 rfl ?_
  refine y_aload_n hg dX0_act_32 rfl ?_
  refine y_geti (j := 22) hg cf0 (hL.x) (by decide) rfl q194 dX0_act_33 ?_
  refine y_ti ((gI_n (by omega)).trans e2) ?_
  refine y_iconst (v := nI 1) hg dX0_act_36 rfl ?_
  refine y_iadd hg dX0_act_37 ?_
  refine y_ti (nI_add _ _) ?_
  refine y_cSi hg (cJ_min _ _) iJ0_min q483 rfl rfl (by simp [Value.category]) (Nat.le_refl _) (Nat.le_refl _) (by decide) dX0_act_38 (fun r σ2 hp => ?_)
  obtain ⟨hv, rfl⟩ := hp
  rw [show r = nI (min 14 (na A + 1)) by rw [hv]; by_cases z : na A + 1 < 14 <;> simp only [nI_ltI (show na A + 1 < 2147483648 by omega) (show 14 < 2147483648 by decide), z, if_true, if_false] <;> congr 1 <;> omega]
  refine y_puti (j := 22) hg cf0 (hL.x) (by decide) rfl rfl q194 dX0_act_41 ?_
  refine y_vret hg hr ⟨rfl, ?_⟩ dX0_act_44 (Nat.le_refl _) (Nat.le_refl _)
  have hn1 : nm (up1 A (12 + nx A) (A 11)) ≤ 10 := by unfold nm; rw [up1_n (by omega)]; exact hW.nmle
  have hn2 : nm (up2 (up1 A (12 + nx A) (A 11)) 1 3 (nI ((nx A + 1) % 14))) ≤ 10 := by unfold nm; rw [up2_n (by omega)]; exact hn1
  exact ⟨(hR1.u2 hn1 1 3 (by unfold dm; omega) (by omega) (by omega)).u2 hn2 1 2 (by unfold dm; omega) (by omega) (by omega), ((lt157 (by omega) hf1).stI (by omega)).stI (by omega)⟩
theorem cM_note (hW : WFA A) (hR : RMm B A sd σ) : MT ll B 3 0 0 yX3_note cX3_note 2 none [.ref (B.1 + 157)] σ (pV fun σ' => RMm B (nt A) sd σ' ∧ FrR (fun a _ => 157 ≤ a) σ σ') := by
  have hM := hR.1
  obtain ⟨ex, hx⟩ := hW.nx_e
  obtain ⟨ea, ha⟩ := hW.na_e
  have e' := hR.next.trans ex
  refine MT.of (by decide) (Nat.le_of_ble_eq_true rfl) (fun g hg hr => ?_)
  refine y_iconst (v := nI 0) hg dX3_note_0 rfl ?_
  refine y_istore_n hg dX3_note_1 (by decide) (lv1 := [(0, _), (1, _)]) rfl ?_
  have LOOP := loop_st (S := Mem) (G := fun i s => YY g 2 s 0 0 2 [(0, .ref (B.1 + 157)), (1, .int (nI i))] []) (I := fun i s => FrR (fun a q => a = 165 ∧ 25 * nx A ≤ q ∧ q < 25 * nx A + 25) σ s ∧ ∀ j, j < i → s.2.2.1 165 (25 * nx A + j) = A 11 j) 25 ?_ ?_ 0 σ (Nat.zero_le _) ⟨FrR.rf, fun j hj => by omega⟩
  · exact LOOP
  · intro i s hi hI ih
    obtain ⟨hf, hj⟩ := hI
    have hM := hR.1.frR hf
    have hn := hR.1.n
    have e1 : s.2.2.1 157 11 = nI (nx A) := (hf.i (by omega) (by omega)).trans e'
    have e2 : s.2.2.1 163 i = A 11 i := (hf.i (by omega) (by omega)).trans (hR.now hi)
    refine y_iload_n hg dX3_note_2 rfl ?_
    refine y_bipush (v := nI 25) hg dX3_note_3 rfl ?_
    refine y_icmp_ge hg 34 dX3_note_5 (by decide) (fun hT => absurd hT (ge_c hi (by decide))) (fun _ => ?_)
    refine y_aload_n hg dX3_note_8 rfl ?_
    refine y_getr (j := 9) hg cf3 (hM.m) (by decide) rfl (hM.r_diary) q920 dX3_note_9 ?_
    refine y_bipush (v := nI 25) hg dX3_note_12 rfl ?_
    refine y_aload_n hg dX3_note_14 rfl ?_
    refine y_geti (j := 11) hg cf3 (hM.m) (by decide) rfl q922 dX3_note_15 ?_
    refine y_ti (e1) ?_
    refine y_imul hg dX3_note_18 ?_
    refine y_ti (pk_mul _ _) ?_
    refine y_iload_n hg dX3_note_19 rfl ?_
    refine y_iadd hg dX3_note_20 ?_
    refine y_ti (nI_add _ _) ?_
    refine y_aload_n hg dX3_note_21 rfl ?_
    refine y_getr (j := 7) hg cf3 (hM.m) (by decide) rfl (hM.r_now) q918 dX3_note_22 ?_
    refine y_iload_n hg dX3_note_25 rfl ?_
    refine y_iald hg _ (hM.k_now) rfl (by omega) dX3_note_26 ?_
    refine y_ti (e2) ?_
    refine y_iast hg _ (hM.k_diary) rfl (by omega) dX3_note_27 ?_
    refine y_iinc hg dX3_note_28 rfl (inc1 _) (by decide) (lv1 := [(0, _), (1, _)]) rfl ?_
    refine y_goto hg 2 dX3_note_31 (by decide) ?_
    refine ih _ ⟨hf.stI ⟨rfl, by omega, by omega⟩, fun j hj2 => ?_⟩
    by_cases e : j = i
    · subst e; exact gI_s
    · rw [gI_n (by omega)]; exact hj j (by omega)
  · intro s hI
    obtain ⟨hf, hj⟩ := hI
    have hM := hR.1.frR hf
    have hR1 : RMm B (up1 A (12 + nx A) (A 11)) sd s := hR.diaryRow hx hf hj
    have e1 : s.2.2.1 157 11 = nI (nx A) := hR1.next.trans (by rw [up1_n (by omega)]; exact ex)
    have e2 : s.2.2.1 157 10 = nI (na A) := hR1.acts.trans (by rw [up1_n (by omega)]; exact ea)
    have J : ∀ v : Int32, v = nI (min 14 (na A + 1)) → YY g 2 (setI s 157 11 (nI ((nx A + 1) % 14))) 0 0 68 [(0, .ref (B.1 + 157)), (1, .int (nI 25))] [.int v, .ref (B.1 + 157)] := by
      intro v hv
      subst hv
      refine y_puti (j := 10) hg cf3 (hM.m) (by decide) rfl rfl q921 dX3_note_68 ?_
      refine y_vret hg hr ⟨rfl, ?_⟩ dX3_note_71 (Nat.le_refl _) (Nat.le_refl _)
      have hn1 : nm (up1 A (12 + nx A) (A 11)) ≤ 10 := by unfold nm; rw [up1_n (by omega)]; exact hW.nmle
      have hn2 : nm (up2 (up1 A (12 + nx A) (A 11)) 1 3 (nI ((nx A + 1) % 14))) ≤ 10 := by unfold nm; rw [up2_n (by omega)]; exact hn1
      exact ⟨(hR1.u2 hn1 1 3 (by unfold dm; omega) (by omega) (by omega)).u2 hn2 1 2 (by unfold dm; omega) (by omega) (by omega), ((hf.mono (fun a j q => by omega)).stI (by omega)).stI (by omega)⟩
    refine y_iload_n hg dX3_note_2 rfl ?_
    refine y_bipush (v := nI 25) hg dX3_note_3 rfl ?_
    refine y_icmp_ge hg 34 dX3_note_5 (by decide) (fun _ => ?_) (fun hF => absurd (le_c (Nat.le_refl 25) (by decide)) hF)
    refine y_aload_n hg dX3_note_34 rfl ?_
    refine y_aload_n hg dX3_note_35 rfl ?_
    refine y_geti (j := 11) hg cf3 (hM.m) (by decide) rfl q922 dX3_note_36 ?_
    refine y_ti (e1) ?_
    refine y_iconst (v := nI 1) hg dX3_note_39 rfl ?_
    refine y_iadd hg dX3_note_40 ?_
    refine y_ti (nI_add _ _) ?_
    refine y_bipush (v := nI 14) hg dX3_note_41 rfl ?_
    refine y_irem hg dX3_note_43 (by decide) ?_
    refine y_ti (pk_rem (by omega) (by omega) (by omega)) ?_
    refine y_puti (j := 11) hg cf3 (hM.m) (by decide) rfl rfl q922 dX3_note_44 ?_
    refine y_aload_n hg dX3_note_47 rfl ?_
    refine y_aload_n hg dX3_note_48 rfl ?_
    refine y_geti (j := 10) hg cf3 (hM.m) (by decide) rfl q921 dX3_note_49 ?_
    refine y_ti ((gI_n (by omega)).trans e2) ?_
    refine y_bipush (v := nI 14) hg dX3_note_52 rfl ?_
    refine y_icmp_ge hg 66 dX3_note_54 (by decide) (fun hc => ?_) (fun hc => ?_)
    · refine y_bipush (v := nI 14) hg dX3_note_66 rfl ?_
      exact J _ (by have := (nI_leI (by omega) (by omega)).mp hc; rw [show min 14 (na A + 1) = 14 by omega])
    · refine y_aload_n hg dX3_note_57 rfl ?_
      refine y_geti (j := 10) hg cf3 (hM.m) (by decide) rfl q921 dX3_note_58 ?_
      refine y_ti ((gI_n (by omega)).trans e2) ?_
      refine y_iconst (v := nI 1) hg dX3_note_61 rfl ?_
      refine y_iadd hg dX3_note_62 ?_
      refine y_ti (nI_add _ _) ?_
      refine y_goto hg 68 dX3_note_63 (by decide) ?_
      exact J _ (by have h2 : ¬ 14 ≤ na A := fun z => hc (nI_le z (by omega)); rw [show min 14 (na A + 1) = na A + 1 by omega])
end Acts

