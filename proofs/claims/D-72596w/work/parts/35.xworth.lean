section XWorth
variable {ll : Launch} {B : Bs}
def MWm (σ : Mem) (P : Pb) : Prop := ∀ r k, r < nS P → k < 5 → σ.2.2.1 13 (5 * r + k) = -101 ∨ σ.2.2.1 13 (5 * r + k) = wor P r k
theorem MW0.m {σ : Mem} {P : Pb} (h : MW0 σ P) : MWm σ P := fun r k hr hk => Or.inl (h _ (by omega))
theorem up9_ge {x : Int32} {c : Nat} (h : up9 x c) (hc : c < 1000) : (-100 : Int32) ≤ x := by
  rw [Int32.le_iff_toInt_le, show (-100 : Int32).toInt = -100 from by decide]
  rcases h with h | ⟨v, hv, h⟩
  · rw [h]; decide
  · rw [h, nI_toInt (by omega)]; omega
theorem wst_n {P : Pb} {r k w : Nat} {W : Nat → Int32} {b : Int32} (h : (if mayB P w r k = true then W w else -9) = -9) : wst P r k W w b = b := by unfold wst; rw [if_pos h]
theorem PX.rk {B : Bs} {σ : Mem} {P : Pb} {ko w : Nat} (h : PX B σ P ko) (hP : WFP P) (hw : w < P.1) : σ.2.2.1 (ko + 2) w = rk P w := by
  have := hP.1
  rw [← ro_ranks (by omega)]
  exact h.2.2.2.2.1 (9 + w) (by omega)
theorem cX_worthFrom {P : Pb} {ko : Nat} (hP : WFP P) (hR : WFR P) : ∀ (r k : Nat) (σ : Mem), PX B σ P ko → MWm σ P → r < nS P → k < 5 →
    MT ll B (2 + ds P r) 0 0 yX0_worthFrom cX0_worthFrom 7 (some .int) [.ref (B.1 + 0), .int (nI r), .int (nI k)] σ (pI fun v σ' => v = wor P r k ∧ FrR (fun a _ => a = 13) σ σ' ∧ MWm σ' P) := by
  intro r
  induction r using Nat.strongRecOn with
  | ind r IH =>
  intro k σ hX hC hrS hk
  have h10 := hP.1
  have hnS := nS_le hP
  have hL := hX.1
  have hn := hL.n
  have hup := wor_up hP hR r k hrS
  have hd13 := ds_le hP r
  have fin : ∀ (s : Mem) (v : Int32), FrR (fun a _ => a = 13) σ s → MWm s P → v = wor P r k → FrR (fun a _ => a = 13) σ (setI s 13 (5 * r + k) v) ∧ MWm (setI s 13 (5 * r + k) v) P := by
    intro s v hf hm hv
    refine ⟨hf.stI rfl, fun r' k' hr' hk' => ?_⟩
    by_cases e : 5 * r' + k' = 5 * r + k
    · have e1 : r' = r := by omega
      have e2 : k' = k := by omega
      subst e1; subst e2
      exact Or.inr (gI_s.trans hv)
    · rw [gI_n (by omega)]
      exact hm r' k' hr' hk'
  refine MT.of (by decide) (Nat.le_of_ble_eq_true rfl) (fun g hg hr => ?_)
  refine y_iconst (v := nI 5) hg dX0_worthFrom_0 rfl ?_
  refine y_iload_n hg dX0_worthFrom_1 rfl ?_
  refine y_imul hg dX0_worthFrom_2 ?_
  refine y_ti (pk_mul _ _) ?_
  refine y_iload_n hg dX0_worthFrom_3 rfl ?_
  refine y_iadd hg dX0_worthFrom_4 ?_
  refine y_ti (nI_add _ _) ?_
  refine y_istore_n hg dX0_worthFrom_5 (by decide) (lv1 := [(0, _), (1, _), (2, _), (3, _)]) rfl ?_
  refine y_aload_n hg dX0_worthFrom_6 rfl ?_
  refine y_getr (j := 9) hg cf0 (hL.x) (by decide) rfl (hL.r_worths) q181 dX0_worthFrom_7 ?_
  refine y_iload_n hg dX0_worthFrom_10 rfl ?_
  refine y_iald hg _ (hL.k_worths) rfl (by omega) dX0_worthFrom_11 ?_
  refine y_bipush (v := -100) hg dX0_worthFrom_12 rfl ?_
  refine y_icmp_ge hg 137 dX0_worthFrom_14 (by decide) (fun hc => ?_) (fun hc => ?_)
  · refine y_aload_n hg dX0_worthFrom_137 rfl ?_
    refine y_getr (j := 9) hg cf0 (hL.x) (by decide) rfl (hL.r_worths) q181 dX0_worthFrom_138 ?_
    refine y_iload_n hg dX0_worthFrom_141 rfl ?_
    refine y_iald hg _ (hL.k_worths) rfl (by omega) dX0_worthFrom_142 ?_
    refine y_iret hg hr ⟨_, rfl, ?_⟩ dX0_worthFrom_143 (Nat.le_refl _) (Nat.le_refl _)
    refine ⟨?_, FrR.rf, hC⟩
    rcases hC r k hrS hk with h | h
    · rw [h] at hc; exact absurd hc (by decide)
    · exact h
  · have J : ∀ v : Int32, v = (if r = 0 ∧ endB P k = true then 0 else -9) → YY g 7 σ 0 0 32 [(0, .ref (B.1 + 0)), (1, .int (nI r)), (2, .int (nI k)), (3, .int (nI (5 * r + k)))] [.int v] := by
      intro v hv
      subst hv
      refine y_istore hg dX0_worthFrom_32 (by decide) (lv1 := [(0, _), (1, _), (2, _), (3, _), (4, _)]) rfl ?_
      refine y_iconst (v := nI 0) hg dX0_worthFrom_34 rfl ?_
      refine y_istore hg dX0_worthFrom_35 (by decide) (lv1 := [(0, _), (1, _), (2, _), (3, _), (4, _), (5, _)]) rfl ?_
      by_cases h0 : r = 0
      · have E : YY g 7 σ 0 0 129 [(0, .ref (B.1 + 0)), (1, .int (nI r)), (2, .int (nI k)), (3, .int (nI (5 * r + k))), (4, .int (if r = 0 ∧ endB P k = true then 0 else -9)), (5, .int (nI 0))] [] := by
          refine y_aload_n hg dX0_worthFrom_129 rfl ?_
          refine y_getr (j := 9) hg cf0 (hL.x) (by decide) rfl (hL.r_worths) q181 dX0_worthFrom_130 ?_
          refine y_iload_n hg dX0_worthFrom_133 rfl ?_
          refine y_iload hg dX0_worthFrom_134 rfl ?_
          refine y_iast hg _ (hL.k_worths) rfl (by omega) dX0_worthFrom_136 ?_
          refine y_aload_n hg dX0_worthFrom_137 rfl ?_
          refine y_getr (j := 9) hg cf0 (hL.x) (by decide) rfl (hL.r_worths) q181 dX0_worthFrom_138 ?_
          refine y_iload_n hg dX0_worthFrom_141 rfl ?_
          refine y_iald hg _ (hL.k_worths) rfl (by omega) dX0_worthFrom_142 ?_
          refine y_iret hg hr ⟨_, rfl, ?_⟩ dX0_worthFrom_143 (Nat.le_refl _) (Nat.le_refl _)
          have hv : (if r = 0 ∧ endB P k = true then (0 : Int32) else -9) = wor P r k := by
            subst h0
            rw [wor_0]
            simp
          exact ⟨gI_s.trans hv, fin σ _ FrR.rf hC hv⟩
        refine y_iload hg dX0_worthFrom_37 rfl ?_
        refine y_aload_n hg dX0_worthFrom_39 rfl ?_
        refine y_geti (j := 1) hg cf0 (hL.x) (by decide) rfl q173 dX0_worthFrom_40 ?_
        refine y_icmp_ge hg 129 dX0_worthFrom_43 (by decide) (fun hc2 => ?_) (fun hc2 => ?_)
        · exact E
        · refine y_iload_n hg dX0_worthFrom_46 rfl ?_
          refine y_if_le hg 129 dX0_worthFrom_47 (by decide) (fun _ => ?_) (fun hF => absurd ((by rw [h0]; decide)) hF)
          exact E
      · rw [if_neg (fun h => h0 h.1)]
        refine (loop_st (S := Mem) (G := fun w s => YY g 7 s 0 0 37 [(0, .ref (B.1 + 0)), (1, .int (nI r)), (2, .int (nI k)), (3, .int (nI (5 * r + k))), (4, .int (fo (wst P r k (wb P r)) (-9) w)), (5, .int (nI w))] []) (I := fun w s => FrR (fun a _ => a = 13) σ s ∧ MWm s P) P.1 (fun w s hw hI ih => ?_) (fun s hI => ?_) 0 _ (Nat.zero_le _) ⟨FrR.rf, hC⟩)
        · obtain ⟨hf, hm⟩ := hI
          have hX1 := hX.fr12 hP hf (fun a j h => Or.inr (Or.inl h))
          have hL := hX1.1
          obtain ⟨-, hOS, hOp, hW, hrow, hu, hb, hs, hst, hko⟩ := id hX1
          have hWw := hL.w_words (i := w) (by omega)
          have hkd4 := (hP.2.1 w hw).1
          have J3 : ∀ (s' : Mem) (t v : Int32), v = fo (wst P r k (wb P r)) (-9) (w + 1) → FrR (fun a _ => a = 13) σ s' → MWm s' P → YY g 7 s' 0 0 121 [(0, .ref (B.1 + 0)), (1, .int (nI r)), (2, .int (nI k)), (3, .int (nI (5 * r + k))), (4, .int (fo (wst P r k (wb P r)) (-9) w)), (5, .int (nI w)), (6, .int t)] [.int v] := by
            intro s' t v hv hf' hm'
            subst hv
            refine y_istore hg dX0_worthFrom_121 (by decide) (lv1 := [(0, _), (1, _), (2, _), (3, _), (4, _), (5, _), (6, _)]) rfl ?_
            refine y_iinc hg dX0_worthFrom_123 rfl (inc1 _) (by decide) (lv1 := [(0, _), (1, _), (2, _), (3, _), (4, _), (5, _), (6, _)]) rfl ?_
            refine y_goto hg 37 dX0_worthFrom_126 (by decide) ?_
            exact y_sub [0, 1, 2, 3, 4, 5] rfl (ih _ ⟨hf', hm'⟩)
          have J2 : ∀ (s' : Mem) (t : Int32), t = (if mayB P w r k = true then wb P r w else -9) → FrR (fun a _ => a = 13) σ s' → MWm s' P → YY g 7 s' 0 0 89 [(0, .ref (B.1 + 0)), (1, .int (nI r)), (2, .int (nI k)), (3, .int (nI (5 * r + k))), (4, .int (fo (wst P r k (wb P r)) (-9) w)), (5, .int (nI w))] [.int t] := by
            intro s' t ht hf' hm'
            have hX2 := hX.fr12 hP hf' (fun a j h => Or.inr (Or.inl h))
            have hL := hX2.1
            have hOS := hX2.2.1
            have hOp := hX2.2.2.1
            have hrk := hX2.rk hP hw
            refine y_istore hg dX0_worthFrom_89 (by decide) (lv1 := [(0, _), (1, _), (2, _), (3, _), (4, _), (5, _), (6, _)]) rfl ?_
            refine y_iload hg dX0_worthFrom_91 rfl ?_
            refine y_bipush (v := -9) hg dX0_worthFrom_93 rfl ?_
            refine y_icmp_ne hg 103 dX0_worthFrom_95 (by decide) (fun hc4 => ?_) (fun hc4 => ?_)
            · refine y_iload hg dX0_worthFrom_103 rfl ?_
              refine y_iload hg dX0_worthFrom_105 rfl ?_
              refine y_aload_n hg dX0_worthFrom_107 rfl ?_
              refine y_getr (j := 4) hg cf0 (hL.x) (by decide) rfl (hOp) q176 dX0_worthFrom_108 ?_
              refine y_getrN (j := 2) hg cf1 (hOS.o) (by decide) rfl (hOS.r_ranks) nf2 dX0_worthFrom_111 ?_
              refine y_iload hg dX0_worthFrom_114 rfl ?_
              refine y_iald hg _ (hOS.k_ranks) rfl (by omega) dX0_worthFrom_116 ?_
              refine y_ti (hrk) ?_
              refine y_iadd hg dX0_worthFrom_117 ?_
              refine y_cSi hg (cJ_max _ _) iJ0_max q534 rfl rfl (by simp [Value.category]) (Nat.le_refl _) (Nat.le_refl _) (by omega) dX0_worthFrom_118 (fun r σ1 hp => ?_)
              obtain ⟨rfl, rfl⟩ := hp
              refine J3 _ _ _ ?_ hf' hm'
              show _ = wst P r k (wb P r) w _
              unfold wst
              rw [← ht, if_neg hc4]
            · refine y_iload hg dX0_worthFrom_98 rfl ?_
              refine y_goto hg 121 dX0_worthFrom_100 (by decide) ?_
              refine J3 _ _ _ ?_ hf' hm'
              show _ = wst P r k (wb P r) w _
              rw [wst_n (ht.symm.trans hc4)]
          refine y_iload hg dX0_worthFrom_37 rfl ?_
          refine y_aload_n hg dX0_worthFrom_39 rfl ?_
          refine y_geti (j := 1) hg cf0 (hL.x) (by decide) rfl q173 dX0_worthFrom_40 ?_
          refine y_ti (hW.1) ?_
          refine y_icmp_ge hg 129 dX0_worthFrom_43 (by decide) (fun hT => absurd hT (ge_c hw (by omega))) (fun _ => ?_)
          refine y_iload_n hg dX0_worthFrom_46 rfl ?_
          refine y_if_le hg 129 dX0_worthFrom_47 (by decide) (fun hT => absurd hT (nI_nle (by omega) (by omega))) (fun _ => ?_)
          refine y_aload_n hg dX0_worthFrom_50 rfl ?_
          refine y_iload hg dX0_worthFrom_51 rfl ?_
          refine y_iload_n hg dX0_worthFrom_53 rfl ?_
          refine y_iload_n hg dX0_worthFrom_54 rfl ?_
          refine y_cVi hg (cX_mayCome hP hX1 hw hrS hk) iX0_mayCome q416 (hL.x) cf0 rfl rfl (by simp [Value.category]) (Nat.le_refl _) (Nat.le_refl _) (by omega) dX0_worthFrom_55 (fun r σ1 hp => ?_)
          obtain ⟨rfl, rfl⟩ := hp
          refine y_if_eq hg 87 dX0_worthFrom_58 (by decide) (fun hc3 => ?_) (fun hc3 => ?_)
          · refine y_bipush (v := -9) hg dX0_worthFrom_87 rfl ?_
            refine J2 _ _ ?_ hf hm
            rw [if_neg (by rw [(b2_eq _).mp hc3]; decide)]
          · have hmay := (b2_ne _).mp hc3
            have hfit := may_fit hmay
            have hle := stp_le hfit
            have hpos := stp_pos hP hw
            have hds := ds_sub hP hw hfit hrS
            refine y_aload_n hg dX0_worthFrom_61 rfl ?_
            refine y_iload_n hg dX0_worthFrom_62 rfl ?_
            refine y_aload_n hg dX0_worthFrom_63 rfl ?_
            refine y_getr (j := 10) hg cf0 (hL.x) (by decide) rfl (hL.r_steps) q182 dX0_worthFrom_64 ?_
            refine y_iload hg dX0_worthFrom_67 rfl ?_
            refine y_iald hg _ (hL.k_steps) rfl (by omega) dX0_worthFrom_69 ?_
            refine y_ti (hst w hw) ?_
            refine y_isub hg dX0_worthFrom_70 ?_
            refine y_ti (pk_sub hle) ?_
            refine y_aload_n hg dX0_worthFrom_71 rfl ?_
            refine y_getr (j := 0) hg cf0 (hL.x) (by decide) rfl (hL.r_words) q172 dX0_worthFrom_72 ?_
            refine y_iload hg dX0_worthFrom_75 rfl ?_
            refine y_aald3 hg _ (hL.k_words) rfl (by omega) (hL.e_words (i := w) (by omega)) dX0_worthFrom_77 ?_
            refine y_getiN (j := 2) hg cf2 (hWw.o) (by decide) rfl nf8 dX0_worthFrom_78 ?_
            refine y_ti ((hW.2 w hw).1) ?_
            refine y_cVi hg (IH (r - stp P w) (by omega) (P.2.2.1 w) _ hX1 hm (by omega) (by omega)) iX0_worthFrom q530 (hL.x) cf0 rfl rfl (by simp [Value.category]) (Nat.le_refl _) (Nat.le_refl _) (by omega) dX0_worthFrom_81 (fun r σ1 hp => ?_)
            obtain ⟨rfl, hf1, hm1⟩ := hp
            refine y_goto hg 89 dX0_worthFrom_84 (by decide) ?_
            refine J2 _ _ ?_ (hf.tr hf1) hm1
            rw [if_pos hmay]
            rfl
        · obtain ⟨hf, hm⟩ := hI
          have hX1 := hX.fr12 hP hf (fun a j h => Or.inr (Or.inl h))
          have hL := hX1.1
          have hW := hX1.2.2.2.1
          have hv : fo (wst P r k (wb P r)) (-9) P.1 = wor P r k := (wor_s hP k (by omega)).symm
          refine y_iload hg dX0_worthFrom_37 rfl ?_
          refine y_aload_n hg dX0_worthFrom_39 rfl ?_
          refine y_geti (j := 1) hg cf0 (hL.x) (by decide) rfl q173 dX0_worthFrom_40 ?_
          refine y_ti (hW.1) ?_
          refine y_icmp_ge hg 129 dX0_worthFrom_43 (by decide) (fun _ => ?_) (fun hF => absurd (le_c (Nat.le_refl _) (by omega)) hF)
          refine y_aload_n hg dX0_worthFrom_129 rfl ?_
          refine y_getr (j := 9) hg cf0 (hL.x) (by decide) rfl (hL.r_worths) q181 dX0_worthFrom_130 ?_
          refine y_iload_n hg dX0_worthFrom_133 rfl ?_
          refine y_iload hg dX0_worthFrom_134 rfl ?_
          refine y_iast hg _ (hL.k_worths) rfl (by omega) dX0_worthFrom_136 ?_
          refine y_aload_n hg dX0_worthFrom_137 rfl ?_
          refine y_getr (j := 9) hg cf0 (hL.x) (by decide) rfl (hL.r_worths) q181 dX0_worthFrom_138 ?_
          refine y_iload_n hg dX0_worthFrom_141 rfl ?_
          refine y_iald hg _ (hL.k_worths) rfl (by omega) dX0_worthFrom_142 ?_
          refine y_iret hg hr ⟨_, rfl, ?_⟩ dX0_worthFrom_143 (Nat.le_refl _) (Nat.le_refl _)
          exact ⟨gI_s.trans hv, fin _ _ hf hm hv⟩
    refine y_aload_n hg dX0_worthFrom_17 rfl ?_
    refine y_iload_n hg dX0_worthFrom_18 rfl ?_
    refine y_iload_n hg dX0_worthFrom_19 rfl ?_
    refine y_cVi hg (cX_mayEnd hP hX hrS hk) iX0_mayEnd q412 (hL.x) cf0 rfl rfl (by simp [Value.category]) (Nat.le_refl _) (Nat.le_refl _) (by omega) dX0_worthFrom_20 (fun r σ1 hp => ?_)
    obtain ⟨rfl, rfl⟩ := hp
    refine y_if_eq hg 30 dX0_worthFrom_23 (by decide) (fun hc3 => ?_) (fun hc3 => ?_)
    · refine y_bipush (v := -9) hg dX0_worthFrom_30 rfl ?_
      refine J _ ?_
      have h1 := (b2_eq _).mp hc3
      rw [if_neg]
      rintro ⟨e1, e2⟩
      rw [decide_eq_true e1, e2] at h1
      cases h1
    · refine y_iconst (v := nI 0) hg dX0_worthFrom_26 rfl ?_
      refine y_goto hg 32 dX0_worthFrom_27 (by decide) ?_
      refine J _ ?_
      have h1 := (b2_ne _).mp hc3
      rw [Bool.and_eq_true] at h1
      rw [if_pos ⟨of_decide_eq_true h1.1, h1.2⟩]
      rfl
theorem cX_leads {P : Pb} {ko r k w : Nat} {due : Int32} {σ : Mem} (hP : WFP P) (hR : WFR P) (hX : PX B σ P ko) (hC : MWm σ P) (hrS : r < nS P) (hk : k < 5) (hw : w < P.1) :
    MT ll B (3 + ds P r) 0 0 yX0_leads cX0_leads 6 (some .boolean) [.ref (B.1 + 0), .int (nI w), .int (nI r), .int (nI k), .int due] σ (pI fun v σ' => v = b2 (mayB P w r k && (decide (¬ wb P r w = -9) && decide (wb P r w = due - rk P w))) ∧ FrR (fun a _ => a = 13) σ σ' ∧ MWm σ' P) := by
  have h10 := hP.1
  have hnS := nS_le hP
  have hL := hX.1
  obtain ⟨-, hOS, hOp, hW, hrow, hu, hb, hs, hst, hko⟩ := id hX
  have hWw := hL.w_words (i := w) (by omega)
  have hkd4 := (hP.2.1 w hw).1
  refine MT.of (by decide) (Nat.le_of_ble_eq_true rfl) (fun g hg hr => ?_)
  refine y_aload_n hg dX0_leads_0 rfl ?_
  refine y_iload_n hg dX0_leads_1 rfl ?_
  refine y_iload_n hg dX0_leads_2 rfl ?_
  refine y_iload_n hg dX0_leads_3 rfl ?_
  refine y_cVi hg (cX_mayCome hP hX hw hrS hk) iX0_mayCome q416 (hL.x) cf0 rfl rfl (by simp [Value.category]) (Nat.le_refl _) (Nat.le_refl _) (by omega) dX0_leads_4 (fun r σ1 hp => ?_)
  obtain ⟨rfl, rfl⟩ := hp
  refine y_if_ne hg 12 dX0_leads_7 (by decide) (fun hc => ?_) (fun hc => ?_)
  · have hmay := (b2_ne _).mp hc
    have hfit := may_fit hmay
    have hle := stp_le hfit
    have hds := ds_sub hP hw hfit hrS
    refine y_aload_n hg dX0_leads_12 rfl ?_
    refine y_iload_n hg dX0_leads_13 rfl ?_
    refine y_aload_n hg dX0_leads_14 rfl ?_
    refine y_getr (j := 10) hg cf0 (hL.x) (by decide) rfl (hL.r_steps) q182 dX0_leads_15 ?_
    refine y_iload_n hg dX0_leads_18 rfl ?_
    refine y_iald hg _ (hL.k_steps) rfl (by omega) dX0_leads_19 ?_
    refine y_ti (hst w hw) ?_
    refine y_isub hg dX0_leads_20 ?_
    refine y_ti (pk_sub hle) ?_
    refine y_aload_n hg dX0_leads_21 rfl ?_
    refine y_getr (j := 0) hg cf0 (hL.x) (by decide) rfl (hL.r_words) q172 dX0_leads_22 ?_
    refine y_iload_n hg dX0_leads_25 rfl ?_
    refine y_aald3 hg _ (hL.k_words) rfl (by omega) (hL.e_words (i := w) (by omega)) dX0_leads_26 ?_
    refine y_getiN (j := 2) hg cf2 (hWw.o) (by decide) rfl nf8 dX0_leads_27 ?_
    refine y_ti ((hW.2 w hw).1) ?_
    refine y_cVi hg (cX_worthFrom hP hR (r - stp P w) (P.2.2.1 w) _ hX hC (by omega) (by omega)) iX0_worthFrom q530 (hL.x) cf0 rfl rfl (by simp [Value.category]) (Nat.le_refl _) (Nat.le_refl _) (by omega) dX0_leads_30 (fun r σ1 hp => ?_)
    obtain ⟨rfl, hf1, hm1⟩ := hp
    have hX2 := hX.fr12 hP hf1 (fun a j h => Or.inr (Or.inl h))
    have hL := hX2.1
    have hOS := hX2.2.1
    have hOp := hX2.2.2.1
    have hrk := hX2.rk hP hw
    refine y_istore hg dX0_leads_33 (by decide) (lv1 := [(0, _), (1, _), (2, _), (3, _), (4, _), (5, _)]) rfl ?_
    refine y_iload hg dX0_leads_35 rfl ?_
    refine y_bipush (v := -9) hg dX0_leads_37 rfl ?_
    refine y_icmp_eq hg 63 dX0_leads_39 (by decide) (fun hc2 => ?_) (fun hc2 => ?_)
    · refine y_iconst (v := nI 0) hg dX0_leads_63 rfl ?_
      refine y_zret hg hr rfl ⟨_, rfl, ?_⟩ dX0_leads_64 (Nat.le_refl _) (Nat.le_refl _)
      refine ⟨?_, hf1, hm1⟩
      rw [decide_eq_false (fun h => h hc2), Bool.false_and, Bool.and_false]
      rfl
    · refine y_iload hg dX0_leads_42 rfl ?_
      refine y_iload hg dX0_leads_44 rfl ?_
      refine y_aload_n hg dX0_leads_46 rfl ?_
      refine y_getr (j := 4) hg cf0 (hL.x) (by decide) rfl (hOp) q176 dX0_leads_47 ?_
      refine y_getrN (j := 2) hg cf1 (hOS.o) (by decide) rfl (hOS.r_ranks) nf2 dX0_leads_50 ?_
      refine y_iload_n hg dX0_leads_53 rfl ?_
      refine y_iald hg _ (hOS.k_ranks) rfl (by omega) dX0_leads_54 ?_
      refine y_ti (hrk) ?_
      refine y_isub hg dX0_leads_55 ?_
      refine y_icmp_ne hg 63 dX0_leads_56 (by decide) (fun hc3 => ?_) (fun hc3 => ?_)
      · refine y_iconst (v := nI 0) hg dX0_leads_63 rfl ?_
        refine y_zret hg hr rfl ⟨_, rfl, ?_⟩ dX0_leads_64 (Nat.le_refl _) (Nat.le_refl _)
        refine ⟨?_, hf1, hm1⟩
        rw [show decide (wb P r w = due - rk P w) = false from decide_eq_false hc3, Bool.and_false, Bool.and_false]
        rfl
      · refine y_iconst (v := nI 1) hg dX0_leads_59 rfl ?_
        refine y_goto hg 64 dX0_leads_60 (by decide) ?_
        refine y_zret hg hr rfl ⟨_, rfl, ?_⟩ dX0_leads_64 (Nat.le_refl _) (Nat.le_refl _)
        refine ⟨?_, hf1, hm1⟩
        rw [hmay, show decide (wb P r w = due - rk P w) = true from decide_eq_true hc3, show decide (¬ wb P r w = -9) = true from decide_eq_true hc2]
        rfl
  · refine y_iconst (v := nI 0) hg dX0_leads_10 rfl ?_
    refine y_zret hg hr rfl ⟨_, rfl, ?_⟩ dX0_leads_11 (Nat.le_refl _) (Nat.le_refl _)
    refine ⟨?_, FrR.rf, hC⟩
    rw [(b2_eq _).mp hc]
    rfl
end XWorth

