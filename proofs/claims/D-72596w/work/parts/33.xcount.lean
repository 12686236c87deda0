section XCount2
variable {ll : Launch} {B : Bs}
theorem PX.fr12 {B : Bs} {σ σ' : Mem} {P : Pb} {ko : Nat} {Q : Nat → Nat → Prop} (h : PX B σ P ko) (hP : WFP P) (hf : FrR Q σ σ') (hq : ∀ a j, Q a j → EP a j) : PX B σ' P ko := h.fr hP (hf.1.mono hq) (by rw [hf.2])
theorem cX_countFrom {P : Pb} {ko : Nat} (hP : WFP P) : ∀ (r k : Nat) (σ : Mem), PX B σ P ko → MC σ P → r < nS P → k < 5 →
    MT ll B (2 + ds P r) 0 0 yX0_countFrom cX0_countFrom 7 (some .long) [.ref (B.1 + 0), .int (nI r), .int (nI k)] σ (pL fun v σ' => v = lN (cnt P r k) ∧ FrR (fun a _ => a = 12) σ σ' ∧ MC σ' P) := by
  intro r
  induction r using Nat.strongRecOn with
  | ind r IH =>
  intro k σ hX hC hrS hk
  have h10 := hP.1
  have hnS := nS_le hP
  have hL := hX.1
  have hn := hL.n
  have fin : ∀ (s : Mem) (v : Int64), FrR (fun a _ => a = 12) σ s → MC s P → v = lN (cnt P r k) → FrR (fun a _ => a = 12) σ (setL s 12 (5 * r + k) v) ∧ MC (setL s 12 (5 * r + k) v) P := by
    intro s v hf hm hv
    refine ⟨hf.stL rfl, fun r' k' hr' hk' => ?_⟩
    by_cases e : 5 * r' + k' = 5 * r + k
    · have e1 : r' = r := by omega
      have e2 : k' = k := by omega
      subst e1; subst e2
      exact Or.inr (gL_s.trans hv)
    · rw [gL_n (by omega)]
      exact hm r' k' hr' hk'
  refine MT.of (by decide) (Nat.le_of_ble_eq_true rfl) (fun g hg hr => ?_)
  refine y_iconst (v := nI 5) hg dX0_countFrom_0 rfl ?_
  refine y_iload_n hg dX0_countFrom_1 rfl ?_
  refine y_imul hg dX0_countFrom_2 ?_
  refine y_ti (pk_mul _ _) ?_
  refine y_iload_n hg dX0_countFrom_3 rfl ?_
  refine y_iadd hg dX0_countFrom_4 ?_
  refine y_ti (nI_add _ _) ?_
  refine y_istore_n hg dX0_countFrom_5 (by decide) (lv1 := [(0, _), (1, _), (2, _), (3, _)]) rfl ?_
  refine y_aload_n hg dX0_countFrom_6 rfl ?_
  refine y_getr (j := 8) hg cf0 (hL.x) (by decide) rfl (hL.r_counts) q180 dX0_countFrom_7 ?_
  refine y_iload_n hg dX0_countFrom_10 rfl ?_
  refine y_lald hg _ (hL.k_counts) rfl (by omega) dX0_countFrom_11 ?_
  refine y_ldc2 hg dX0_countFrom_12 q380 ?_
  refine y_lc_ne hg 108 dX0_countFrom_15 dX0_countFrom_16 (by decide) (fun hc => ?_) (fun hc => ?_)
  · refine y_aload_n hg dX0_countFrom_108 rfl ?_
    refine y_getr (j := 8) hg cf0 (hL.x) (by decide) rfl (hL.r_counts) q180 dX0_countFrom_109 ?_
    refine y_iload_n hg dX0_countFrom_112 rfl ?_
    refine y_lald hg _ (hL.k_counts) rfl (by omega) dX0_countFrom_113 ?_
    refine y_lret hg hr ⟨_, rfl, ?_⟩ dX0_countFrom_114 (Nat.le_refl _) (Nat.le_refl _)
    refine ⟨?_, FrR.rf, hC⟩
    rcases hC r k hrS hk with h | h
    · exact absurd h hc
    · exact h
  · have J : ∀ v : Int64, v = lN (if r = 0 ∧ endB P k = true then 1 else 0) → YY g 7 σ 0 0 33 [(0, .ref (B.1 + 0)), (1, .int (nI r)), (2, .int (nI k)), (3, .int (nI (5 * r + k)))] [.long v] := by
      intro v hv
      subst hv
      refine y_lstore hg dX0_countFrom_33 (by decide) (lv1 := [(0, _), (1, _), (2, _), (3, _), (4, _)]) rfl ?_
      refine y_iconst (v := nI 0) hg dX0_countFrom_35 rfl ?_
      refine y_istore hg dX0_countFrom_36 (by decide) (lv1 := [(0, _), (1, _), (2, _), (3, _), (4, _), (6, _)]) rfl ?_
      by_cases h0 : r = 0
      · -- nothing is left
        have E : YY g 7 σ 0 0 100 [(0, .ref (B.1 + 0)), (1, .int (nI r)), (2, .int (nI k)), (3, .int (nI (5 * r + k))), (4, .long (lN (if r = 0 ∧ endB P k = true then 1 else 0))), (6, .int (nI 0))] [] := by
          refine y_aload_n hg dX0_countFrom_100 rfl ?_
          refine y_getr (j := 8) hg cf0 (hL.x) (by decide) rfl (hL.r_counts) q180 dX0_countFrom_101 ?_
          refine y_iload_n hg dX0_countFrom_104 rfl ?_
          refine y_lload hg dX0_countFrom_105 rfl ?_
          refine y_last hg _ (hL.k_counts) rfl (by omega) dX0_countFrom_107 ?_
          refine y_aload_n hg dX0_countFrom_108 rfl ?_
          refine y_getr (j := 8) hg cf0 (hL.x) (by decide) rfl (hL.r_counts) q180 dX0_countFrom_109 ?_
          refine y_iload_n hg dX0_countFrom_112 rfl ?_
          refine y_lald hg _ (hL.k_counts) rfl (by omega) dX0_countFrom_113 ?_
          refine y_lret hg hr ⟨_, rfl, ?_⟩ dX0_countFrom_114 (Nat.le_refl _) (Nat.le_refl _)
          have hv : lN (if r = 0 ∧ endB P k = true then 1 else 0) = lN (cnt P r k) := by
            subst h0
            rw [cnt_0]
            simp
          exact ⟨gL_s.trans hv, fin σ _ FrR.rf hC hv⟩
        refine y_iload hg dX0_countFrom_38 rfl ?_
        refine y_aload_n hg dX0_countFrom_40 rfl ?_
        refine y_geti (j := 1) hg cf0 (hL.x) (by decide) rfl q173 dX0_countFrom_41 ?_
        refine y_icmp_ge hg 100 dX0_countFrom_44 (by decide) (fun hc2 => ?_) (fun hc2 => ?_)
        · exact E
        · refine y_iload_n hg dX0_countFrom_47 rfl ?_
          refine y_if_le hg 100 dX0_countFrom_48 (by decide) (fun _ => ?_) (fun hF => absurd ((by rw [h0]; decide)) hF)
          exact E
      · rw [if_neg (fun h => h0 h.1)]
        refine (loop_st (S := Mem) (G := fun w s => YY g 7 s 0 0 38 [(0, .ref (B.1 + 0)), (1, .int (nI r)), (2, .int (nI k)), (3, .int (nI (5 * r + k))), (4, .long (lN (sm (cw P r k) w))), (6, .int (nI w))] []) (I := fun w s => FrR (fun a _ => a = 12) σ s ∧ MC s P) P.1 (fun w s hw hI ih => ?_) (fun s hI => ?_) 0 _ (Nat.zero_le _) ⟨FrR.rf, hC⟩)
        · obtain ⟨hf, hm⟩ := hI
          have hX1 := hX.fr12 hP hf (fun a j h => Or.inl h)
          have hL := hX1.1
          obtain ⟨-, -, hOp, hW, hrow, hu, hb, hs, hst, hko⟩ := id hX1
          have hWw := hL.w_words (i := w) (by omega)
          have hkd4 := (hP.2.1 w hw).1
          have J2 : ∀ (s' : Mem) (v : Int64), v = lN (cw P r k w) → FrR (fun a _ => a = 12) σ s' → MC s' P → YY g 7 s' 0 0 91 [(0, .ref (B.1 + 0)), (1, .int (nI r)), (2, .int (nI k)), (3, .int (nI (5 * r + k))), (4, .long (lN (sm (cw P r k) w))), (6, .int (nI w))] [.long v, .long (lN (sm (cw P r k) w))] := by
            intro s' v hv hf' hm'
            subst hv
            refine y_ladd hg dX0_countFrom_91 ?_
            refine y_tl (lN_add _ _) ?_
            refine y_lstore hg dX0_countFrom_92 (by decide) (lv1 := [(0, _), (1, _), (2, _), (3, _), (4, _), (6, _)]) rfl ?_
            refine y_iinc hg dX0_countFrom_94 rfl (inc1 _) (by decide) (lv1 := [(0, _), (1, _), (2, _), (3, _), (4, _), (6, _)]) rfl ?_
            refine y_goto hg 38 dX0_countFrom_97 (by decide) ?_
            exact ih _ ⟨hf', hm'⟩
          refine y_iload hg dX0_countFrom_38 rfl ?_
          refine y_aload_n hg dX0_countFrom_40 rfl ?_
          refine y_geti (j := 1) hg cf0 (hL.x) (by decide) rfl q173 dX0_countFrom_41 ?_
          refine y_ti hW.1 ?_
          refine y_icmp_ge hg 100 dX0_countFrom_44 (by decide) (fun hT => absurd hT (ge_c hw (by omega))) (fun _ => ?_)
          refine y_iload_n hg dX0_countFrom_47 rfl ?_
          refine y_if_le hg 100 dX0_countFrom_48 (by decide) (fun hT => absurd hT (nI_nle (by omega) (by omega))) (fun _ => ?_)
          refine y_lload hg dX0_countFrom_51 rfl ?_
          refine y_aload_n hg dX0_countFrom_53 rfl ?_
          refine y_iload hg dX0_countFrom_54 rfl ?_
          refine y_iload_n hg dX0_countFrom_56 rfl ?_
          refine y_iload_n hg dX0_countFrom_57 rfl ?_
          refine y_cVi hg (cX_mayCome hP hX1 hw hrS hk) iX0_mayCome q416 (hL.x) cf0 rfl rfl (by simp [Value.category]) (Nat.le_refl _) (Nat.le_refl _) (by omega) dX0_countFrom_58 (fun r σ1 hp => ?_)
          obtain ⟨rfl, rfl⟩ := hp
          refine y_if_eq hg 90 dX0_countFrom_61 (by decide) (fun hc3 => ?_) (fun hc3 => ?_)
          · refine y_lconst (v := 0) hg dX0_countFrom_90 rfl ?_
            refine J2 _ _ ?_ hf hm
            rw [cw, if_neg (by rw [(b2_eq _).mp hc3]; decide)]
            rfl
          · have hmay := (b2_ne _).mp hc3
            have hfit := may_fit hmay
            have hle := stp_le hfit
            have hpos := stp_pos hP hw
            have hds := ds_sub hP hw hfit hrS
            refine y_aload_n hg dX0_countFrom_64 rfl ?_
            refine y_iload_n hg dX0_countFrom_65 rfl ?_
            refine y_aload_n hg dX0_countFrom_66 rfl ?_
            refine y_getr (j := 10) hg cf0 (hL.x) (by decide) rfl (hL.r_steps) q182 dX0_countFrom_67 ?_
            refine y_iload hg dX0_countFrom_70 rfl ?_
            refine y_iald hg _ (hL.k_steps) rfl (by omega) dX0_countFrom_72 ?_
            refine y_ti (hst w hw) ?_
            refine y_isub hg dX0_countFrom_73 ?_
            refine y_ti (pk_sub hle) ?_
            refine y_aload_n hg dX0_countFrom_74 rfl ?_
            refine y_getr (j := 0) hg cf0 (hL.x) (by decide) rfl (hL.r_words) q172 dX0_countFrom_75 ?_
            refine y_iload hg dX0_countFrom_78 rfl ?_
            refine y_aald3 hg _ (hL.k_words) rfl (by omega) (hL.e_words (i := w) (by omega)) dX0_countFrom_80 ?_
            refine y_getiN (j := 2) hg cf2 (hWw.o) (by decide) rfl nf8 dX0_countFrom_81 ?_
            refine y_ti (hW.2 w hw).1 ?_
            refine y_cVl hg (IH (r - stp P w) (by omega) (P.2.2.1 w) _ hX1 hm (by omega) (by omega)) iX0_countFrom q408 (hL.x) cf0 rfl rfl (by simp [Value.category]) (Nat.le_refl _) (Nat.le_refl _) (by omega) dX0_countFrom_84 (fun r σ1 hp => ?_)
            obtain ⟨rfl, hf1, hm1⟩ := hp
            refine y_goto hg 91 dX0_countFrom_87 (by decide) ?_
            refine J2 _ _ ?_ (hf.tr hf1) hm1
            rw [cw, if_pos hmay]
        · obtain ⟨hf, hm⟩ := hI
          have hX1 := hX.fr12 hP hf (fun a j h => Or.inl h)
          have hL := hX1.1
          have hW := hX1.2.2.2.1
          have hv : lN (sm (cw P r k) P.1) = lN (cnt P r k) := by rw [cnt_s hP k (by omega)]
          refine y_iload hg dX0_countFrom_38 rfl ?_
          refine y_aload_n hg dX0_countFrom_40 rfl ?_
          refine y_geti (j := 1) hg cf0 (hL.x) (by decide) rfl q173 dX0_countFrom_41 ?_
          refine y_ti hW.1 ?_
          refine y_icmp_ge hg 100 dX0_countFrom_44 (by decide) (fun _ => ?_) (fun hF => absurd (le_c (Nat.le_refl _) (by omega)) hF)
          refine y_aload_n hg dX0_countFrom_100 rfl ?_
          refine y_getr (j := 8) hg cf0 (hL.x) (by decide) rfl (hL.r_counts) q180 dX0_countFrom_101 ?_
          refine y_iload_n hg dX0_countFrom_104 rfl ?_
          refine y_lload hg dX0_countFrom_105 rfl ?_
          refine y_last hg _ (hL.k_counts) rfl (by omega) dX0_countFrom_107 ?_
          refine y_aload_n hg dX0_countFrom_108 rfl ?_
          refine y_getr (j := 8) hg cf0 (hL.x) (by decide) rfl (hL.r_counts) q180 dX0_countFrom_109 ?_
          refine y_iload_n hg dX0_countFrom_112 rfl ?_
          refine y_lald hg _ (hL.k_counts) rfl (by omega) dX0_countFrom_113 ?_
          refine y_lret hg hr ⟨_, rfl, ?_⟩ dX0_countFrom_114 (Nat.le_refl _) (Nat.le_refl _)
          exact ⟨gL_s.trans hv, fin _ _ hf hm hv⟩
    refine y_aload_n hg dX0_countFrom_19 rfl ?_
    refine y_iload_n hg dX0_countFrom_20 rfl ?_
    refine y_iload_n hg dX0_countFrom_21 rfl ?_
    refine y_cVi hg (cX_mayEnd hP hX hrS hk) iX0_mayEnd q412 (hL.x) cf0 rfl rfl (by simp [Value.category]) (Nat.le_refl _) (Nat.le_refl _) (by omega) dX0_countFrom_22 (fun r σ1 hp => ?_)
    obtain ⟨rfl, rfl⟩ := hp
    refine y_if_eq hg 32 dX0_countFrom_25 (by decide) (fun hc3 => ?_) (fun hc3 => ?_)
    · refine y_lconst (v := 0) hg dX0_countFrom_32 rfl ?_
      refine J _ ?_
      have h1 := (b2_eq _).mp hc3
      rw [if_neg]
      · rfl
      · rintro ⟨e1, e2⟩
        rw [decide_eq_true e1, e2] at h1
        cases h1
    · refine y_lconst (v := 1) hg dX0_countFrom_28 rfl ?_
      refine y_goto hg 33 dX0_countFrom_29 (by decide) ?_
      refine J _ ?_
      have h1 := (b2_ne _).mp hc3
      rw [Bool.and_eq_true] at h1
      rw [if_pos ⟨of_decide_eq_true h1.1, h1.2⟩]
      rfl
theorem cX_countAll {P : Pb} {ko : Nat} {σ : Mem} (hP : WFP P) (hX : PX B σ P ko) (hC : MC σ P) :
    MT ll B 16 0 0 yX0_countAll cX0_countAll 1 (some .long) [.ref (B.1 + 0)] σ (pL fun v σ' => v = lN (tot P) ∧ FrR (fun a _ => a = 12) σ σ' ∧ MC σ' P) := by
  have hL := hX.1
  have hs := hX.2.2.2.2.2.2.2.1
  have hnS := nS_le hP
  have hpos := nS_pos P
  have hds := ds_le hP (nS P - 1)
  refine MT.of (by decide) (Nat.le_of_ble_eq_true rfl) (fun g hg hr => ?_)
  refine y_aload_n hg dX0_countAll_0 rfl ?_
  refine y_geti (j := 11) hg cf0 (hL.x) (by decide) rfl q183 dX0_countAll_1 ?_
  refine y_ti hs ?_
  refine y_iconst (v := nI 1) hg dX0_countAll_4 rfl ?_
  refine y_icmp_ne hg 12 dX0_countAll_5 (by decide) (fun hc => ?_) (fun hc => ?_)
  · have h1 : nS P ≠ 1 := fun e => hc (by rw [e])
    refine y_aload_n hg dX0_countAll_12 rfl ?_
    refine y_aload_n hg dX0_countAll_13 rfl ?_
    refine y_geti (j := 11) hg cf0 (hL.x) (by decide) rfl q183 dX0_countAll_14 ?_
    refine y_ti (hs) ?_
    refine y_iconst (v := nI 1) hg dX0_countAll_17 rfl ?_
    refine y_isub hg dX0_countAll_18 ?_
    refine y_ti (pk_sub (by omega)) ?_
    refine y_iconst (v := nI 4) hg dX0_countAll_19 rfl ?_
    refine y_cVl hg (cX_countFrom hP (nS P - 1) 4 σ hX hC (by omega) (by omega)) iX0_countFrom q408 (hL.x) cf0 rfl rfl (by simp [Value.category]) (Nat.le_refl _) (Nat.le_refl _) (by omega) dX0_countAll_20 (fun r σ1 hp => ?_)
    obtain ⟨rfl, hf1, hm1⟩ := hp
    refine y_lret hg hr ⟨_, rfl, ?_⟩ dX0_countAll_23 (Nat.le_refl _) (Nat.le_refl _)
    exact ⟨by rw [tot, if_neg h1], hf1, hm1⟩
  · have h1 : nS P = 1 := nI_inj (by omega) (by decide) hc
    refine y_lconst (v := 0) hg dX0_countAll_8 rfl ?_
    refine y_goto hg 23 dX0_countAll_9 (by decide) ?_
    refine y_lret hg hr ⟨_, rfl, ?_⟩ dX0_countAll_23 (Nat.le_refl _) (Nat.le_refl _)
    exact ⟨by rw [tot, if_pos h1]; rfl, FrR.rf, hC⟩
end XCount2

