section MWays
variable {ll : Launch} {B : Bs} {σ : Mem}
theorem cM_mayCome {P : Pb} {w r k : Nat} (hP : WFP P) (hX : PM B σ P) (hw : w < P.1) (hr0 : r < nS P) (hk : k < 5) :
    MT ll B 1 0 0 yX3_mayCome cX3_mayCome 5 (some .boolean) [.ref (B.1 + 157), .int (nI r), .int (nI k), .int (nI w)] σ (pI fun v σ' => v = b2 (mayB P w r k) ∧ σ' = σ) := by
  obtain ⟨hM, hW, hop, hbs, hwh, hal, hpr, hft⟩ := hX
  have h10 := hP.1
  have hnS := nS_le hP
  have hkd := (hW.2 w hw).1
  refine MT.of (by decide) (Nat.le_of_ble_eq_true rfl) (fun g hg hr => ?_)
  have J : ∀ v : Int32, v = (if k = 4 then P.2.2.2.1 19 else P.2.2.2.1 (21 + k)) → YY g 5 σ 0 0 24 [(0, .ref (B.1 + 157)), (1, .int (nI r)), (2, .int (nI k)), (3, .int (nI w))] [.int v] := by
    intro v hv
    subst hv
    have e : mayB P w r k = ((P.2.2.2.2 w && hasB (if k = 4 then P.2.2.2.1 19 else P.2.2.2.1 (21 + k)) (nI (P.2.2.1 w))) && fitB P w r) := rfl
    refine y_aload_n hg dX3_mayCome_24 rfl ?_
    refine y_getr (j := 5) hg cf3 (hM.m) (by decide) rfl (hM.r_kind) q916 dX3_mayCome_25 ?_
    refine y_iload_n hg dX3_mayCome_28 rfl ?_
    refine y_iald hg _ (hM.k_kind) rfl (by omega) dX3_mayCome_29 ?_
    refine y_ti (hkd) ?_
    refine y_cSi hg (cM_has _ _) iX3_has q1100 rfl rfl (by simp [Value.category]) (Nat.le_refl _) (Nat.le_refl _) (by decide) dX3_mayCome_30 (fun r σ1 hp => ?_)
    obtain ⟨rfl, rfl⟩ := hp
    refine y_istore hg dX3_mayCome_33 (by decide) (lv1 := [(0, _), (1, _), (2, _), (3, _), (4, _)]) rfl ?_
    refine y_iload hg dX3_mayCome_35 rfl ?_
    refine y_if_eq hg 69 dX3_mayCome_37 (by decide) (fun hc => ?_) (fun hc => ?_)
    · refine y_iconst (v := nI 0) hg dX3_mayCome_69 rfl ?_
      refine y_zret hg hr rfl ⟨_, rfl, ?_⟩ dX3_mayCome_70 (Nat.le_refl _) (Nat.le_refl _)
      exact ⟨by rw [e, (b2_eq _).mp hc, Bool.and_false]; rfl, rfl⟩
    · refine y_aload_n hg dX3_mayCome_40 rfl ?_
      refine y_geti (j := 32) hg cf3 (hM.m) (by decide) rfl q943 dX3_mayCome_41 ?_
      refine y_iload_n hg dX3_mayCome_44 rfl ?_
      refine y_cSi hg (cM_has _ _) iX3_has q1100 rfl rfl (by simp [Value.category]) (Nat.le_refl _) (Nat.le_refl _) (by decide) dX3_mayCome_45 (fun r σ1 hp => ?_)
      obtain ⟨rfl, rfl⟩ := hp
      refine y_if_eq hg 69 dX3_mayCome_48 (by decide) (fun hc2 => ?_) (fun hc2 => ?_)
      · refine y_iconst (v := nI 0) hg dX3_mayCome_69 rfl ?_
        refine y_zret hg hr rfl ⟨_, rfl, ?_⟩ dX3_mayCome_70 (Nat.le_refl _) (Nat.le_refl _)
        exact ⟨by rw [e, ← hal w hw, (b2_eq _).mp hc2]; rfl, rfl⟩
      · refine y_aload_n hg dX3_mayCome_51 rfl ?_
        refine y_getr (j := 38) hg cf3 (hM.m) (by decide) rfl (hM.r_fits) q949 dX3_mayCome_52 ?_
        refine y_bipush (v := nI 10) hg dX3_mayCome_55 rfl ?_
        refine y_iload_n hg dX3_mayCome_57 rfl ?_
        refine y_imul hg dX3_mayCome_58 ?_
        refine y_ti (pk_mul _ _) ?_
        refine y_iload_n hg dX3_mayCome_59 rfl ?_
        refine y_iadd hg dX3_mayCome_60 ?_
        refine y_ti (nI_add _ _) ?_
        refine y_zald hg _ (hM.k_fits) rfl (by omega) dX3_mayCome_61 ?_
        refine y_ti (hft r w hr0 hw) ?_
        refine y_if_eq hg 69 dX3_mayCome_62 (by decide) (fun hc3 => ?_) (fun hc3 => ?_)
        · refine y_iconst (v := nI 0) hg dX3_mayCome_69 rfl ?_
          refine y_zret hg hr rfl ⟨_, rfl, ?_⟩ dX3_mayCome_70 (Nat.le_refl _) (Nat.le_refl _)
          exact ⟨by rw [e, (b2_eq _).mp hc3, Bool.and_false]; rfl, rfl⟩
        · refine y_iconst (v := nI 1) hg dX3_mayCome_65 rfl ?_
          refine y_goto hg 70 dX3_mayCome_66 (by decide) ?_
          refine y_zret hg hr rfl ⟨_, rfl, ?_⟩ dX3_mayCome_70 (Nat.le_refl _) (Nat.le_refl _)
          exact ⟨by rw [e, ← hal w hw, (b2_ne _).mp hc2, (b2_ne _).mp hc3, (b2_ne _).mp hc]; rfl, rfl⟩
  refine y_iload_n hg dX3_mayCome_0 rfl ?_
  refine y_iconst (v := nI 4) hg dX3_mayCome_1 rfl ?_
  refine y_icmp_ne hg 15 dX3_mayCome_2 (by decide) (fun hc => ?_) (fun hc => ?_)
  · have hk4 : k < 4 := by
      rcases Nat.lt_or_ge k 4 with h | h
      · exact h
      · exact absurd (show nI k = nI 4 by rw [show k = 4 by omega]) hc
    refine y_aload_n hg dX3_mayCome_15 rfl ?_
    refine y_getr (j := 29) hg cf3 (hM.m) (by decide) rfl (hM.r_open) q940 dX3_mayCome_16 ?_
    refine y_bipush (v := nI 21) hg dX3_mayCome_19 rfl ?_
    refine y_iload_n hg dX3_mayCome_21 rfl ?_
    refine y_iadd hg dX3_mayCome_22 ?_
    refine y_ti (nI_add _ _) ?_
    refine y_iald hg _ (hM.k_open) rfl (by omega) dX3_mayCome_23 ?_
    exact J _ (by rw [if_neg (by omega)]; exact hop (21 + k) (by omega))
  · have hk4 : k = 4 := nI_inj (by omega) (by decide) hc
    refine y_aload_n hg dX3_mayCome_5 rfl ?_
    refine y_getr (j := 29) hg cf3 (hM.m) (by decide) rfl (hM.r_open) q940 dX3_mayCome_6 ?_
    refine y_bipush (v := nI 19) hg dX3_mayCome_9 rfl ?_
    refine y_iald hg _ (hM.k_open) rfl (by omega) dX3_mayCome_11 ?_
    refine y_goto hg 24 dX3_mayCome_12 (by decide) ?_
    exact J _ (by rw [if_pos hk4]; exact hop 19 (by omega))
/-- what M has of rows that use up what is left -/
def wy (P : Pb) (r k : Nat) : Nat := if r = 0 then 0 else cnt P r k
theorem cM_endsAs {P : Pb} {w r : Nat} (hP : WFP P) (hX : PM B σ P) (hw : w < P.1) (hr0 : r < nS P) (hfit : fitB P w r = true) (hv : 0 < r - stp P w → σ.2.2.2.1 179 (5 * (r - stp P w) + P.2.2.1 w) = lN (cnt P (r - stp P w) (P.2.2.1 w))) :
    MT ll B 1 0 0 yX3_endsAs cX3_endsAs 5 (some .long) [.ref (B.1 + 157), .ref (B.1 + 179), .int (nI r), .int (nI w)] σ (pL fun v σ' => v = lN (cnt P (r - stp P w) (P.2.2.1 w)) ∧ σ' = σ) := by
  obtain ⟨hM, hW, hop, hbs, hwh, hal, hpr, hft⟩ := hX
  have h10 := hP.1
  have hnS := nS_le hP
  have hkd := (hW.2 w hw).1
  have hkd4 := (hP.2.1 w hw).1
  have hle := stp_le hfit
  refine MT.of (by decide) (Nat.le_of_ble_eq_true rfl) (fun g hg hr => ?_)
  refine y_iload_n hg dX3_endsAs_0 rfl ?_
  refine y_aload_n hg dX3_endsAs_1 rfl ?_
  refine y_getr (j := 33) hg cf3 (hM.m) (by decide) rfl (hM.r_price) q944 dX3_endsAs_2 ?_
  refine y_iload_n hg dX3_endsAs_5 rfl ?_
  refine y_iald hg _ (hM.k_price) rfl (by omega) dX3_endsAs_6 ?_
  refine y_ti (hpr w hw) ?_
  refine y_isub hg dX3_endsAs_7 ?_
  refine y_ti (pk_sub hle) ?_
  refine y_istore hg dX3_endsAs_8 (by decide) (lv1 := [(0, _), (1, _), (2, _), (3, _), (4, _)]) rfl ?_
  refine y_iload hg dX3_endsAs_10 rfl ?_
  refine y_if_le hg 31 dX3_endsAs_12 (by decide) (fun hc => ?_) (fun hc => ?_)
  · have h0 : r - stp P w = 0 := by
      rcases Nat.eq_zero_or_pos (r - stp P w) with z | z
      · exact z
      · exact absurd hc (nI_nle z (by omega))
    refine y_aload_n hg dX3_endsAs_31 rfl ?_
    refine y_getr (j := 29) hg cf3 (hM.m) (by decide) rfl (hM.r_open) q940 dX3_endsAs_32 ?_
    refine y_bipush (v := nI 20) hg dX3_endsAs_35 rfl ?_
    refine y_iald hg _ (hM.k_open) rfl (by omega) dX3_endsAs_37 ?_
    refine y_ti (hop 20 (by omega)) ?_
    refine y_aload_n hg dX3_endsAs_38 rfl ?_
    refine y_getr (j := 5) hg cf3 (hM.m) (by decide) rfl (hM.r_kind) q916 dX3_endsAs_39 ?_
    refine y_iload_n hg dX3_endsAs_42 rfl ?_
    refine y_iald hg _ (hM.k_kind) rfl (by omega) dX3_endsAs_43 ?_
    refine y_ti (hkd) ?_
    refine y_cSi hg (cM_has _ _) iX3_has q1100 rfl rfl (by simp [Value.category]) (Nat.le_refl _) (Nat.le_refl _) (by decide) dX3_endsAs_44 (fun r σ1 hp => ?_)
    obtain ⟨rfl, rfl⟩ := hp
    refine y_if_eq hg 54 dX3_endsAs_47 (by decide) (fun hc2 => ?_) (fun hc2 => ?_)
    · refine y_lconst (v := 0) hg dX3_endsAs_54 rfl ?_
      refine y_lret hg hr ⟨_, rfl, ?_⟩ dX3_endsAs_55 (Nat.le_refl _) (Nat.le_refl _)
      refine ⟨?_, rfl⟩
      rw [h0, cnt_0, endB, (b2_eq _).mp hc2, Bool.and_false, if_neg (by decide)]
      rfl
    · refine y_lconst (v := 1) hg dX3_endsAs_50 rfl ?_
      refine y_goto hg 55 dX3_endsAs_51 (by decide) ?_
      refine y_lret hg hr ⟨_, rfl, ?_⟩ dX3_endsAs_55 (Nat.le_refl _) (Nat.le_refl _)
      refine ⟨?_, rfl⟩
      rw [h0, cnt_0, endB, (b2_ne _).mp hc2, decide_eq_true hkd4, Bool.and_self, if_pos rfl]
      rfl
  · have h0 : 0 < r - stp P w := by
      rcases Nat.eq_zero_or_pos (r - stp P w) with z | z
      · exact absurd (by rw [z]; decide) hc
      · exact z
    refine y_aload_n hg dX3_endsAs_15 rfl ?_
    refine y_iconst (v := nI 5) hg dX3_endsAs_16 rfl ?_
    refine y_iload hg dX3_endsAs_17 rfl ?_
    refine y_imul hg dX3_endsAs_19 ?_
    refine y_ti (pk_mul _ _) ?_
    refine y_aload_n hg dX3_endsAs_20 rfl ?_
    refine y_getr (j := 5) hg cf3 (hM.m) (by decide) rfl (hM.r_kind) q916 dX3_endsAs_21 ?_
    refine y_iload_n hg dX3_endsAs_24 rfl ?_
    refine y_iald hg _ (hM.k_kind) rfl (by omega) dX3_endsAs_25 ?_
    refine y_ti (hkd) ?_
    refine y_iadd hg dX3_endsAs_26 ?_
    refine y_ti (nI_add _ _) ?_
    refine y_lald hg _ (hM.k_ways) rfl (by omega) dX3_endsAs_27 ?_
    refine y_goto hg 55 dX3_endsAs_28 (by decide) ?_
    refine y_lret hg hr ⟨_, rfl, ?_⟩ dX3_endsAs_55 (Nat.le_refl _) (Nat.le_refl _)
    exact ⟨hv h0, rfl⟩
theorem wy_s {P : Pb} (hP : WFP P) (r k : Nat) : sm (cw P r k) P.1 = wy P r k := by
  by_cases h : r = 0
  · subst h
    rw [wy, if_pos rfl]
    have : ∀ w, w < P.1 → cw P 0 k w ≤ 0 := by
      intro w hw
      unfold cw
      by_cases hm : mayB P w 0 k = true
      · have := stp_le (may_fit hm)
        have := stp_pos hP hw
        omega
      · rw [if_neg hm]; exact Nat.le_refl _
    have := sm_le_mul P.1 this
    omega
  · rw [wy, if_neg h, cnt_s hP k (by omega)]
/-- the ways are laid -/
def WyM (σ : Mem) (P : Pb) : Prop := ∀ r k, r < nS P → k < 5 → σ.2.2.2.1 179 (5 * r + k) = lN (wy P r k)
theorem cM_layWays {P : Pb} (hP : WFP P) (hX : PM B σ P) :
    MT ll B 2 0 0 yX3_layWays cX3_layWays 6 none [.ref (B.1 + 157)] σ (pV fun σ' => FrR (fun a _ => a = 179) σ σ' ∧ WyM σ' P) := by
  have h10 := hP.1
  have hnS := nS_le hP
  have hpos := nS_pos P
  have hn := hX.1.n
  refine MT.of (by decide) (Nat.le_of_ble_eq_true rfl) (fun g hg hr => ?_)
  refine y_iconst (v := nI 0) hg dX3_layWays_0 rfl ?_
  refine y_istore_n hg dX3_layWays_1 (by decide) (lv1 := [(0, _), (1, _)]) rfl ?_
  refine (loop_st (S := Mem) (G := fun r s => YY g 6 s 0 0 2 [(0, .ref (B.1 + 157)), (1, .int (nI r))] []) (I := fun r s => FrR (fun a _ => a = 179) σ s ∧ ∀ q k, q < r → k < 5 → s.2.2.2.1 179 (5 * q + k) = lN (wy P q k)) (nS P) (fun r s hrS hI ih => ?_) (fun s hI => ?_) 0 _ (Nat.zero_le _) ⟨FrR.rf, fun q k hq => absurd hq (by omega)⟩)
  · obtain ⟨hf, h1⟩ := hI
    have hXs := hX.fr hf (fun a j h => by unfold EM; omega)
    have hM := hXs.1
    have hwh := hXs.2.2.2.2.1
    refine y_iload_n hg dX3_layWays_2 rfl ?_
    refine y_aload_n hg dX3_layWays_3 rfl ?_
    refine y_geti (j := 31) hg cf3 (hM.m) (by decide) rfl q942 dX3_layWays_4 ?_
    refine y_ti (hwh) ?_
    refine y_icmp_gt hg 89 dX3_layWays_7 (by decide) (fun hT => absurd hT (nI_nlt (by omega) (by omega))) (fun _ => ?_)
    refine y_iconst (v := nI 0) hg dX3_layWays_10 rfl ?_
    refine y_istore_n hg dX3_layWays_11 (by decide) (lv1 := [(0, _), (1, _), (2, _)]) rfl ?_
    refine (loop_st (S := Mem) (G := fun k s => YY g 6 s 0 0 12 [(0, .ref (B.1 + 157)), (1, .int (nI r)), (2, .int (nI k))] []) (I := fun k s => FrR (fun a _ => a = 179) σ s ∧ (∀ q k, q < r → k < 5 → s.2.2.2.1 179 (5 * q + k) = lN (wy P q k)) ∧ ∀ k', k' < k → s.2.2.2.1 179 (5 * r + k') = lN (wy P r k')) 5 (fun k s hk hI ih2 => ?_) (fun s hI => ?_) 0 s (Nat.zero_le _) ⟨hf, h1, fun k' h => absurd h (by omega)⟩)
    · obtain ⟨hf, h1, h2⟩ := hI
      have hXs := hX.fr hf (fun a j h => by unfold EM; omega)
      have hM := hXs.1
      have hW := hXs.2.1
      refine y_iload_n hg dX3_layWays_12 rfl ?_
      refine y_iconst (v := nI 4) hg dX3_layWays_13 rfl ?_
      refine y_icmp_gt hg 83 dX3_layWays_14 (by decide) (fun hT => absurd hT (nI_nlt (by omega) (by decide))) (fun _ => ?_)
      refine y_lconst (v := 0) hg dX3_layWays_17 rfl ?_
      refine y_lstore_n hg dX3_layWays_18 (by decide) (lv1 := [(0, _), (1, _), (2, _), (3, _)]) rfl ?_
      refine y_iconst (v := nI 0) hg dX3_layWays_19 rfl ?_
      refine y_istore hg dX3_layWays_20 (by decide) (lv1 := [(0, _), (1, _), (2, _), (3, _), (5, _)]) rfl ?_
      refine (loop_up (G := fun w => YY g 6 s 0 0 22 [(0, .ref (B.1 + 157)), (1, .int (nI r)), (2, .int (nI k)), (3, .long (lN (sm (cw P r k) w))), (5, .int (nI w))] []) P.1 (fun w hw ih3 => ?_) ?_ 0 (Nat.zero_le _))
      · have J : ∀ v : Int64, v = lN (cw P r k w) → YY g 6 s 0 0 58 [(0, .ref (B.1 + 157)), (1, .int (nI r)), (2, .int (nI k)), (3, .long (lN (sm (cw P r k) w))), (5, .int (nI w))] [.long v, .long (lN (sm (cw P r k) w))] := by
          intro v hv
          subst hv
          refine y_ladd hg dX3_layWays_58 ?_
          refine y_tl (lN_add _ _) ?_
          refine y_lstore_n hg dX3_layWays_59 (by decide) (lv1 := [(0, _), (1, _), (2, _), (3, _), (5, _)]) rfl ?_
          refine y_iinc hg dX3_layWays_60 rfl (inc1 _) (by decide) (lv1 := [(0, _), (1, _), (2, _), (3, _), (5, _)]) rfl ?_
          refine y_goto hg 22 dX3_layWays_63 (by decide) ?_
          exact ih3
        refine y_iload hg dX3_layWays_22 rfl ?_
        refine y_aload_n hg dX3_layWays_24 rfl ?_
        refine y_geti (j := 2) hg cf3 (hM.m) (by decide) rfl q913 dX3_layWays_25 ?_
        refine y_ti (hW.1) ?_
        refine y_icmp_ge hg 66 dX3_layWays_28 (by decide) (fun hT => absurd hT (ge_c hw (by omega))) (fun _ => ?_)
        refine y_lload_n hg dX3_layWays_31 rfl ?_
        refine y_aload_n hg dX3_layWays_32 rfl ?_
        refine y_iload_n hg dX3_layWays_33 rfl ?_
        refine y_iload_n hg dX3_layWays_34 rfl ?_
        refine y_iload hg dX3_layWays_35 rfl ?_
        refine y_cVi hg (cM_mayCome hP hXs hw hrS hk) iX3_mayCome q1150 (hM.m) cf3 rfl rfl (by simp [Value.category]) (Nat.le_refl _) (Nat.le_refl _) (by decide) dX3_layWays_37 (fun r σ1 hp => ?_)
        obtain ⟨rfl, rfl⟩ := hp
        refine y_if_eq hg 57 dX3_layWays_40 (by decide) (fun hc => ?_) (fun hc => ?_)
        · refine y_lconst (v := 0) hg dX3_layWays_57 rfl ?_
          exact J _ (by rw [cw, if_neg (by rw [(b2_eq _).mp hc]; decide)]; rfl)
        · have hmay := (b2_ne _).mp hc
          have hfit := may_fit hmay
          have hle := stp_le hfit
          have hpos := stp_pos hP hw
          have hkd4 := (hP.2.1 w hw).1
          refine y_aload_n hg dX3_layWays_43 rfl ?_
          refine y_aload_n hg dX3_layWays_44 rfl ?_
          refine y_getr (j := 34) hg cf3 (hM.m) (by decide) rfl (hM.r_ways) q945 dX3_layWays_45 ?_
          refine y_iload_n hg dX3_layWays_48 rfl ?_
          refine y_iload hg dX3_layWays_49 rfl ?_
          refine y_cVl hg (cM_endsAs hP hXs hw hrS hfit (fun h => by rw [h1 (r - stp P w) (P.2.2.1 w) (by omega) (by omega), wy, if_neg (by omega)])) iX3_endsAs q1154 (hM.m) cf3 rfl rfl (by simp [Value.category]) (Nat.le_refl _) (Nat.le_refl _) (by decide) dX3_layWays_51 (fun r σ1 hp => ?_)
          obtain ⟨rfl, rfl⟩ := hp
          refine y_goto hg 58 dX3_layWays_54 (by decide) ?_
          exact J _ (by rw [cw, if_pos hmay])
      · refine y_iload hg dX3_layWays_22 rfl ?_
        refine y_aload_n hg dX3_layWays_24 rfl ?_
        refine y_geti (j := 2) hg cf3 (hM.m) (by decide) rfl q913 dX3_layWays_25 ?_
        refine y_ti (hW.1) ?_
        refine y_icmp_ge hg 66 dX3_layWays_28 (by decide) (fun _ => ?_) (fun hF => absurd (le_c (Nat.le_refl _) (by omega)) hF)
        refine y_aload_n hg dX3_layWays_66 rfl ?_
        refine y_getr (j := 34) hg cf3 (hM.m) (by decide) rfl (hM.r_ways) q945 dX3_layWays_67 ?_
        refine y_iconst (v := nI 5) hg dX3_layWays_70 rfl ?_
        refine y_iload_n hg dX3_layWays_71 rfl ?_
        refine y_imul hg dX3_layWays_72 ?_
        refine y_ti (pk_mul _ _) ?_
        refine y_iload_n hg dX3_layWays_73 rfl ?_
        refine y_iadd hg dX3_layWays_74 ?_
        refine y_ti (nI_add _ _) ?_
        refine y_lload_n hg dX3_layWays_75 rfl ?_
        refine y_last hg _ (hM.k_ways) rfl (by omega) dX3_layWays_76 ?_
        refine y_iinc hg dX3_layWays_77 rfl (inc1 _) (by decide) (lv1 := [(0, _), (1, _), (2, _), (3, _), (5, _)]) rfl ?_
        refine y_goto hg 12 dX3_layWays_80 (by decide) ?_
        refine y_sub [0, 1, 2] rfl (ih2 _ ⟨hf.stL rfl, fun q k' hq hk' => (gL_n (by omega)).trans (h1 q k' hq hk'), fun k' h => ?_⟩)
        by_cases e : k' = k
        · subst e; exact gL_s.trans (by rw [wy_s hP])
        · exact (gL_n (by omega)).trans (h2 k' (by omega))
    · obtain ⟨hf, h1, h2⟩ := hI
      refine y_iload_n hg dX3_layWays_12 rfl ?_
      refine y_iconst (v := nI 4) hg dX3_layWays_13 rfl ?_
      refine y_icmp_gt hg 83 dX3_layWays_14 (by decide) (fun _ => ?_) (fun hF => absurd (nI_lt (by omega) (by decide)) hF)
      refine y_iinc hg dX3_layWays_83 rfl (inc1 _) (by decide) (lv1 := [(0, _), (1, _), (2, _)]) rfl ?_
      refine y_goto hg 2 dX3_layWays_86 (by decide) ?_
      refine y_sub [0, 1] rfl (ih _ ⟨hf, fun q k hq hk => ?_⟩)
      by_cases e : q = r
      · subst e; exact h2 k hk
      · exact h1 q k (by omega) hk
  · obtain ⟨hf, h1⟩ := hI
    have hXs := hX.fr hf (fun a j h => by unfold EM; omega)
    have hM := hXs.1
    have hwh := hXs.2.2.2.2.1
    refine y_iload_n hg dX3_layWays_2 rfl ?_
    refine y_aload_n hg dX3_layWays_3 rfl ?_
    refine y_geti (j := 31) hg cf3 (hM.m) (by decide) rfl q942 dX3_layWays_4 ?_
    refine y_ti (hwh) ?_
    refine y_icmp_gt hg 89 dX3_layWays_7 (by decide) (fun _ => ?_) (fun hF => absurd (nI_lt (by omega) (by omega)) hF)
    refine y_vret hg hr ⟨rfl, ?_⟩ dX3_layWays_89 (Nat.le_refl _) (Nat.le_refl _)
    exact ⟨hf, h1⟩
theorem cM_all {P : Pb} (hP : WFP P) (hX : PM B σ P) (hC : WyM σ P) : MT ll B 0 0 0 yX3_all cX3_all 1 (some .long) [.ref (B.1 + 157)] σ (pL fun v σ' => v = lN (tot P) ∧ σ' = σ) := by
  have hnS := nS_le hP
  have hpos := nS_pos P
  have hM := hX.1
  have hwh := hX.2.2.2.2.1
  refine MT.of (by decide) (Nat.le_of_ble_eq_true rfl) (fun g hg hr => ?_)
  refine y_aload_n hg dX3_all_0 rfl ?_
  refine y_getr (j := 34) hg cf3 (hM.m) (by decide) rfl (hM.r_ways) q945 dX3_all_1 ?_
  refine y_iconst (v := nI 5) hg dX3_all_4 rfl ?_
  refine y_aload_n hg dX3_all_5 rfl ?_
  refine y_geti (j := 31) hg cf3 (hM.m) (by decide) rfl q942 dX3_all_6 ?_
  refine y_ti (hwh) ?_
  refine y_imul hg dX3_all_9 ?_
  refine y_ti (pk_mul _ _) ?_
  refine y_iconst (v := nI 4) hg dX3_all_10 rfl ?_
  refine y_iadd hg dX3_all_11 ?_
  refine y_ti (nI_add _ _) ?_
  refine y_lald hg _ (hM.k_ways) rfl (by omega) dX3_all_12 ?_
  refine y_lret hg hr ⟨_, rfl, ?_⟩ dX3_all_13 (Nat.le_refl _) (Nat.le_refl _)
  refine ⟨?_, rfl⟩
  rw [hC (nS P - 1) 4 (by omega) (by omega), wy, tot]
  by_cases h : nS P = 1
  · rw [if_pos h, if_pos (by omega)]
  · rw [if_neg h, if_neg (by omega)]
/-- the places of manyOf -/
def MyP : Nat → Nat → Prop := fun a j => MkP a j ∨ a = 179
theorem cM_manyOf {kr : Nat} {P : Pb} (hM : LM B σ) (hkr : kr = 163 ∨ kr = 164) (hP : WFP P) (hW0 : WMm σ P) (hr0 : ∀ j, j < 25 → σ.2.2.1 kr j = P.2.2.2.1 j) (hu0 : ∀ w, w < P.1 → (!hasB (P.2.2.2.1 8) (nI w)) = P.2.2.2.2 w) :
    MT ll B 3 0 0 yX3_manyOf cX3_manyOf 2 (some .long) [.ref (B.1 + 157), .ref (B.1 + kr)] σ (pL fun v σ' => v = lN (tot P) ∧ PM B σ' P ∧ WyM σ' P ∧ FrR MyP σ σ') := by
  refine MT.of (by decide) (Nat.le_of_ble_eq_true rfl) (fun g hg hr => ?_)
  refine y_aload_n hg dX3_manyOf_0 rfl ?_
  refine y_aload_n hg dX3_manyOf_1 rfl ?_
  refine y_cVv hg (cM_look hM hkr hP hW0 hr0 hu0) iX3_look q1118 (hM.m) cf3 rfl rfl (by simp [Value.category]) (Nat.le_refl _) (Nat.le_refl _) (by decide) dX3_manyOf_2 (fun σ1 hp => ?_)
  obtain ⟨hX1, hf1⟩ := hp
  have hM := hX1.1
  refine y_aload_n hg dX3_manyOf_5 rfl ?_
  refine y_cVv hg (cM_layWays hP hX1) iX3_layWays q1146 (hM.m) cf3 rfl rfl (by simp [Value.category]) (Nat.le_refl _) (Nat.le_refl _) (by decide) dX3_manyOf_6 (fun σ2 hp2 => ?_)
  obtain ⟨hf2, hC⟩ := hp2
  have hX2 := hX1.fr hf2 (fun a j h => by unfold EM; omega)
  have hM := hX2.1
  refine y_aload_n hg dX3_manyOf_9 rfl ?_
  refine y_cVl hg (cM_all hP hX2 hC) iX3_all q1158 (hM.m) cf3 rfl rfl (by simp [Value.category]) (Nat.le_refl _) (Nat.le_refl _) (by decide) dX3_manyOf_10 (fun r σ3 hp => ?_)
  obtain ⟨rfl, rfl⟩ := hp
  refine y_lret hg hr ⟨_, rfl, ?_⟩ dX3_manyOf_13 (Nat.le_refl _) (Nat.le_refl _)
  exact ⟨rfl, hX2, hC, (hf1.mono (fun a j h => Or.inl h)).tr (hf2.mono (fun a j h => Or.inr h))⟩
end MWays

