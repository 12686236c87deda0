section XLayers
variable {ll : Launch} {B : Bs} {σ : Mem}
theorem gR_s {σ : Mem} {k j : Nat} {v : Option Nat} : (setR σ k j v).2.2.2.2 k j = v := up2_s
theorem gR_n {σ : Mem} {k j a b : Nat} {v : Option Nat} (h : ¬ (a = k ∧ b = j)) : (setR σ k j v).2.2.2.2 a b = σ.2.2.2.2 a b := up2_n h
/-- the two layers of X -/
def LyR (B : Bs) (σ : Mem) (ka kb : Nat) : Prop := (ka = 16 ∧ kb = 17 ∨ ka = 17 ∧ kb = 16) ∧ σ.2.2.2.2 0 14 = some (B.1 + ka) ∧ σ.2.2.2.2 0 15 = some (B.1 + kb)
theorem LyR.ka {B : Bs} {σ : Mem} {ka kb : Nat} (h : LyR B σ ka kb) (hL : LX B σ) : KA σ ka 1 8000 := by
  rcases h.1 with ⟨e, -⟩ | ⟨e, -⟩
  · rw [e]; exact hL.k_la
  · rw [e]; exact hL.k_lb
theorem LyR.kb {B : Bs} {σ : Mem} {ka kb : Nat} (h : LyR B σ ka kb) (hL : LX B σ) : KA σ kb 1 8000 := by
  rcases h.1 with ⟨-, e⟩ | ⟨-, e⟩
  · rw [e]; exact hL.k_lb
  · rw [e]; exact hL.k_la
theorem LyR.fr {B : Bs} {σ σ' : Mem} {ka kb : Nat} {Q : Nat → Nat → Prop} (h : LyR B σ ka kb) (hf : FrR Q σ σ') : LyR B σ' ka kb := ⟨h.1, by rw [hf.2]; exact h.2.1, by rw [hf.2]; exact h.2.2⟩
def LyX (B : Bs) (σ : Mem) (P : Pb) (t ka kb : Nat) (F : Nat → Nat) : Prop := LyR B σ ka kb ∧ (∀ i, i < 4 * nS P → σ.2.2.2.1 ka i = lN (F i)) ∧ LyF P t F
def YP : Nat → Nat → Prop := fun a _ => a = 16 ∨ a = 17
theorem cX_beginLayers {P : Pb} {ko ka kb : Nat} (hP : WFP P) (hX : PX B σ P ko) (hY : LyR B σ ka kb) :
    MT ll B 2 0 0 yX0_beginLayers cX0_beginLayers 2 none [.ref (B.1 + 0)] σ (pV fun σ' => FrR YP σ σ' ∧ ∃ F, LyX B σ' P 1 ka kb F) := by
  have h10 := hP.1
  have hnS := nS_le hP
  have hpos := nS_pos P
  have hn := hX.1.n
  have hab := hY.1
  have hEP : ∀ a j, YP a j → EP a j := fun a j h => by unfold YP at h; unfold EP; omega
  refine MT.of (by decide) (Nat.le_of_ble_eq_true rfl) (fun g hg hr => ?_)
  refine y_iconst (v := nI 0) hg dX0_beginLayers_0 rfl ?_
  refine y_istore_n hg dX0_beginLayers_1 (by decide) (lv1 := [(0, _), (1, _)]) rfl ?_
  refine (loop_st (S := Mem) (G := fun i s => YY g 2 s 0 0 2 [(0, .ref (B.1 + 0)), (1, .int (nI i))] []) (I := fun i s => FrR YP σ s ∧ ∀ q, q < i → s.2.2.2.1 ka q = lN 0) (nS P * 4) (fun i s hi hI ih => ?_) (fun s hI => ?_) 0 _ (Nat.zero_le _) ⟨FrR.rf, fun q hq => absurd hq (by omega)⟩)
  · obtain ⟨hf, h1⟩ := hI
    have hXs := hX.fr12 hP hf hEP
    have hL := hXs.1
    have hs := hXs.2.2.2.2.2.2.2.1
    have hLa := (hY.fr hf).2.1
    have hLaK := (hY.fr hf).ka hL
    refine y_iload_n hg dX0_beginLayers_2 rfl ?_
    refine y_aload_n hg dX0_beginLayers_3 rfl ?_
    refine y_geti (j := 11) hg cf0 (hL.x) (by decide) rfl q183 dX0_beginLayers_4 ?_
    refine y_ti (hs) ?_
    refine y_iconst (v := nI 4) hg dX0_beginLayers_7 rfl ?_
    refine y_imul hg dX0_beginLayers_8 ?_
    refine y_ti (pk_mul _ _) ?_
    refine y_icmp_ge hg 25 dX0_beginLayers_9 (by decide) (fun hT => absurd hT (ge_c hi (by omega))) (fun _ => ?_)
    refine y_aload_n hg dX0_beginLayers_12 rfl ?_
    refine y_getr (j := 14) hg cf0 (hL.x) (by decide) rfl (hLa) q186 dX0_beginLayers_13 ?_
    refine y_iload_n hg dX0_beginLayers_16 rfl ?_
    refine y_lconst (v := 0) hg dX0_beginLayers_17 rfl ?_
    refine y_last hg _ (hLaK) rfl (by omega) dX0_beginLayers_18 ?_
    refine y_iinc hg dX0_beginLayers_19 rfl (inc1 _) (by decide) (lv1 := [(0, _), (1, _)]) rfl ?_
    refine y_goto hg 2 dX0_beginLayers_22 (by decide) ?_
    refine ih _ ⟨hf.stL (by unfold YP; omega), fun q hq => ?_⟩
    by_cases e : q = i
    · subst e; exact gL_s
    · exact (gL_n (by omega)).trans (h1 q (by omega))
  obtain ⟨hf, h1⟩ := hI
  have hXs := hX.fr12 hP hf hEP
  have hL := hXs.1
  have hs := hXs.2.2.2.2.2.2.2.1
  refine y_iload_n hg dX0_beginLayers_2 rfl ?_
  refine y_aload_n hg dX0_beginLayers_3 rfl ?_
  refine y_geti (j := 11) hg cf0 (hL.x) (by decide) rfl q183 dX0_beginLayers_4 ?_
  refine y_ti (hs) ?_
  refine y_iconst (v := nI 4) hg dX0_beginLayers_7 rfl ?_
  refine y_imul hg dX0_beginLayers_8 ?_
  refine y_ti (pk_mul _ _) ?_
  refine y_icmp_ge hg 25 dX0_beginLayers_9 (by decide) (fun _ => ?_) (fun hF => absurd (le_c (Nat.le_refl _) (by omega)) hF)
  refine y_iconst (v := nI 0) hg dX0_beginLayers_25 rfl ?_
  refine y_istore_n hg dX0_beginLayers_26 (by decide) (lv1 := [(0, _), (1, _)]) rfl ?_
  by_cases hS1 : nS P = 1
  · have E : YY g 2 s 0 0 98 [(0, .ref (B.1 + 0)), (1, .int (nI 0))] [] := by
      refine y_vret hg hr ⟨rfl, ?_⟩ dX0_beginLayers_98 (Nat.le_refl _) (Nat.le_refl _)
      refine ⟨hf, fun _ => 0, hY.fr hf, fun i hi => h1 i (by omega), fun j => ?_, ?_⟩
      · rw [wt_0, hS1, Nat.add_comm]; exact (gJ_z hP j 4).symm
      · rw [wt_0]; exact Nat.zero_le _
    refine y_iload_n hg dX0_beginLayers_27 rfl ?_
    refine y_aload_n hg dX0_beginLayers_28 rfl ?_
    refine y_geti (j := 1) hg cf0 (hL.x) (by decide) rfl q173 dX0_beginLayers_29 ?_
    refine y_icmp_ge hg 98 dX0_beginLayers_32 (by decide) (fun hc => ?_) (fun hc => ?_)
    · exact E
    · refine y_aload_n hg dX0_beginLayers_35 rfl ?_
      refine y_geti (j := 11) hg cf0 (hL.x) (by decide) rfl q183 dX0_beginLayers_36 ?_
      refine y_ti (hs) ?_
      refine y_iconst (v := nI 1) hg dX0_beginLayers_39 rfl ?_
      refine y_icmp_le hg 98 dX0_beginLayers_40 (by decide) (fun _ => ?_) (fun hF => absurd (le_c (by omega) (by decide)) hF)
      exact E
  refine (loop_st (S := Mem × (Nat → Nat)) (G := fun w s => YY g 2 s.1 0 0 27 [(0, .ref (B.1 + 0)), (1, .int (nI w))] []) (I := fun w s => FrR YP σ s.1 ∧ (∀ i, i < 4 * nS P → s.1.2.2.2.1 ka i = lN (s.2 i)) ∧ ∀ h, wt s.2 h (4 * nS P) = sm (fun v => if mayB P v (nS P - 1) 4 = true then h (4 * (nS P - 1 - stp P v) + P.2.2.1 v) else 0) w) P.1 (fun w s hw hI ih => ?_) (fun s hI => ?_) 0 (s, fun _ => 0) (Nat.zero_le _) ⟨hf, fun i hi => h1 i (by omega), fun h => wt_0 h _⟩)
  · obtain ⟨s, F⟩ := s
    obtain ⟨hf, hF, hw1⟩ := hI
    have hXs := hX.fr12 hP hf hEP
    have hL := hXs.1
    have hs := hXs.2.2.2.2.2.2.2.1
    have hW := hXs.2.2.2.1
    have hst := hXs.2.2.2.2.2.2.2.2.1 w hw
    have hLa := (hY.fr hf).2.1
    have hLaK := (hY.fr hf).ka hL
    have hWw := hL.w_words (i := w) (by omega)
    have hkd4 := (hP.2.1 w hw).1
    refine y_iload_n hg dX0_beginLayers_27 rfl ?_
    refine y_aload_n hg dX0_beginLayers_28 rfl ?_
    refine y_geti (j := 1) hg cf0 (hL.x) (by decide) rfl q173 dX0_beginLayers_29 ?_
    refine y_ti (hW.1) ?_
    refine y_icmp_ge hg 98 dX0_beginLayers_32 (by decide) (fun hT => absurd hT (ge_c hw (by omega))) (fun _ => ?_)
    refine y_aload_n hg dX0_beginLayers_35 rfl ?_
    refine y_geti (j := 11) hg cf0 (hL.x) (by decide) rfl q183 dX0_beginLayers_36 ?_
    refine y_ti (hs) ?_
    refine y_iconst (v := nI 1) hg dX0_beginLayers_39 rfl ?_
    refine y_icmp_le hg 98 dX0_beginLayers_40 (by decide) (fun hT => absurd hT (nI_ge (by omega) (by omega))) (fun _ => ?_)
    refine y_aload_n hg dX0_beginLayers_43 rfl ?_
    refine y_iload_n hg dX0_beginLayers_44 rfl ?_
    refine y_aload_n hg dX0_beginLayers_45 rfl ?_
    refine y_geti (j := 11) hg cf0 (hL.x) (by decide) rfl q183 dX0_beginLayers_46 ?_
    refine y_ti (hs) ?_
    refine y_iconst (v := nI 1) hg dX0_beginLayers_49 rfl ?_
    refine y_isub hg dX0_beginLayers_50 ?_
    refine y_ti (pk_sub (by omega)) ?_
    refine y_iconst (v := nI 4) hg dX0_beginLayers_51 rfl ?_
    refine y_cVi hg (cX_mayCome hP hXs hw (show nS P - 1 < nS P by omega) (by omega)) iX0_mayCome q416 (hL.x) cf0 rfl rfl (by simp [Value.category]) (Nat.le_refl _) (Nat.le_refl _) (by decide) dX0_beginLayers_52 (fun r σ1 hp => ?_)
    obtain ⟨rfl, rfl⟩ := hp
    refine y_if_eq hg 92 dX0_beginLayers_55 (by decide) (fun hc => ?_) (fun hc => ?_)
    · refine y_iinc hg dX0_beginLayers_92 rfl (inc1 _) (by decide) (lv1 := [(0, _), (1, _)]) rfl ?_
      refine y_goto hg 27 dX0_beginLayers_95 (by decide) ?_
      refine ih (_, F) ⟨hf, hF, fun h => ?_⟩
      rw [hw1]
      simp only [sm]
      rw [if_neg (by rw [(b2_eq _).mp hc]; decide), Nat.add_zero]
    · have hmay := (b2_ne _).mp hc
      have hle := stp_le (may_fit hmay)
      refine y_aload_n hg dX0_beginLayers_58 rfl ?_
      refine y_getr (j := 14) hg cf0 (hL.x) (by decide) rfl (hLa) q186 dX0_beginLayers_59 ?_
      refine y_iconst (v := nI 4) hg dX0_beginLayers_62 rfl ?_
      refine y_aload_n hg dX0_beginLayers_63 rfl ?_
      refine y_geti (j := 11) hg cf0 (hL.x) (by decide) rfl q183 dX0_beginLayers_64 ?_
      refine y_ti (hs) ?_
      refine y_iconst (v := nI 1) hg dX0_beginLayers_67 rfl ?_
      refine y_isub hg dX0_beginLayers_68 ?_
      refine y_ti (pk_sub (by omega)) ?_
      refine y_aload_n hg dX0_beginLayers_69 rfl ?_
      refine y_getr (j := 10) hg cf0 (hL.x) (by decide) rfl (hL.r_steps) q182 dX0_beginLayers_70 ?_
      refine y_iload_n hg dX0_beginLayers_73 rfl ?_
      refine y_iald hg _ (hL.k_steps) rfl (by omega) dX0_beginLayers_74 ?_
      refine y_ti (hst) ?_
      refine y_isub hg dX0_beginLayers_75 ?_
      refine y_ti (pk_sub hle) ?_
      refine y_imul hg dX0_beginLayers_76 ?_
      refine y_ti (pk_mul _ _) ?_
      refine y_aload_n hg dX0_beginLayers_77 rfl ?_
      refine y_getr (j := 0) hg cf0 (hL.x) (by decide) rfl (hL.r_words) q172 dX0_beginLayers_78 ?_
      refine y_iload_n hg dX0_beginLayers_81 rfl ?_
      refine y_aald3 hg _ (hL.k_words) rfl (by omega) (hL.e_words (i := w) (by omega)) dX0_beginLayers_82 ?_
      refine y_getiN (j := 2) hg cf2 (hWw.o) (by decide) rfl nf8 dX0_beginLayers_83 ?_
      refine y_ti ((hW.2 w hw).1) ?_
      refine y_iadd hg dX0_beginLayers_86 ?_
      refine y_ti (nI_add _ _) ?_
      refine y_dup2 hg dX0_beginLayers_87 rfl rfl ?_
      refine y_lald hg _ (hLaK) rfl (by omega) dX0_beginLayers_88 ?_
      refine y_lconst (v := 1) hg dX0_beginLayers_89 rfl ?_
      refine y_ladd hg dX0_beginLayers_90 ?_
      refine y_last hg _ (hLaK) rfl (by omega) dX0_beginLayers_91 ?_
      refine y_iinc hg dX0_beginLayers_92 rfl (inc1 _) (by decide) (lv1 := [(0, _), (1, _)]) rfl ?_
      refine y_goto hg 27 dX0_beginLayers_95 (by decide) ?_
      refine ih (_, upN F (4 * (nS P - 1 - stp P w) + P.2.2.1 w) (F (4 * (nS P - 1 - stp P w) + P.2.2.1 w) + 1)) ⟨hf.stL (by unfold YP; omega), fun i hi => ?_, fun h => ?_⟩
      · show (setL _ _ _ _).2.2.2.1 ka i = lN (upN _ _ _ i)
        unfold upN
        by_cases e : i = 4 * (nS P - 1 - stp P w) + P.2.2.1 w
        · rw [if_pos e, e, gL_s, hF _ (by omega)]
          exact lN_1 _
        · rw [if_neg e, gL_n (by omega)]
          exact hF i hi
      · rw [wt_up _ _ _ (by omega), hw1, Nat.one_mul]
        simp only [sm]
        rw [if_pos hmay]
  · obtain ⟨s, F⟩ := s
    obtain ⟨hf, hF, hw1⟩ := hI
    have hXs := hX.fr12 hP hf hEP
    have hL := hXs.1
    have hW := hXs.2.2.2.1
    refine y_iload_n hg dX0_beginLayers_27 rfl ?_
    refine y_aload_n hg dX0_beginLayers_28 rfl ?_
    refine y_geti (j := 1) hg cf0 (hL.x) (by decide) rfl q173 dX0_beginLayers_29 ?_
    refine y_ti (hW.1) ?_
    refine y_icmp_ge hg 98 dX0_beginLayers_32 (by decide) (fun _ => ?_) (fun hF => absurd (le_c (Nat.le_refl _) (by omega)) hF)
    refine y_vret hg hr ⟨rfl, ?_⟩ dX0_beginLayers_98 (Nat.le_refl _) (Nat.le_refl _)
    refine ⟨hf, F, hY.fr hf, hF, fun j => ?_, ?_⟩
    · rw [hw1, Nat.add_comm 1 j]
      show _ = sm _ P.1
      refine sm_congr P.1 (fun w hw => ?_)
      have hkd4 := (hP.2.1 w hw).1
      unfold hJ
      rw [show (4 * (nS P - 1 - stp P w) + P.2.2.1 w) / 4 = nS P - 1 - stp P w by omega, show (4 * (nS P - 1 - stp P w) + P.2.2.1 w) % 4 = P.2.2.1 w by omega]
    · rw [hw1]
      refine Nat.le_trans (sm_le_mul (c := 1) P.1 (fun w hw => ?_)) (by omega)
      split
      · exact Nat.le_refl _
      · exact Nat.zero_le _
theorem cX_goOnLayers {P : Pb} {ko ka kb t : Nat} {F : Nat → Nat} (hP : WFP P) (hX : PX B σ P ko) (hY : LyX B σ P t ka kb F) (ht : t ≤ 14) :
    MT ll B 2 0 0 yX0_goOnLayers cX0_goOnLayers 3 none [.ref (B.1 + 0)] σ (pV fun σ' => Fr YP σ σ' ∧ σ'.2.2.2.2 0 4 = σ.2.2.2.2 0 4 ∧ ∃ N, LyX B σ' P (t + 1) kb ka N) := by
  have h10 := hP.1
  have hnS := nS_le hP
  have hpos := nS_pos P
  have hn := hX.1.n
  obtain ⟨hR, hF, hLF⟩ := hY
  have hab := hR.1
  have hFb : ∀ i, i < 4 * nS P → F i ≤ 100000000000000 := fun i hi => Nat.le_trans (wt_ge _ hi) (Nat.le_trans hLF.2 (Nat.le_trans (Nat.pow_le_pow_right (by omega) ht) (by decide)))
  have hEP : ∀ a j, a = kb → EP a j := fun a j h => by unfold EP; omega
  refine MT.of (by decide) (Nat.le_of_ble_eq_true rfl) (fun g hg hr => ?_)
  refine y_iconst (v := nI 0) hg dX0_goOnLayers_0 rfl ?_
  refine y_istore_n hg dX0_goOnLayers_1 (by decide) (lv1 := [(0, _), (1, _)]) rfl ?_
  refine (loop_st (S := Mem) (G := fun i s => YY g 3 s 0 0 2 [(0, .ref (B.1 + 0)), (1, .int (nI i))] []) (I := fun i s => FrR (fun a _ => a = kb) σ s ∧ ∀ q, q < i → s.2.2.2.1 kb q = lN 0) (nS P * 4) (fun i s hi hI ih => ?_) (fun s hI => ?_) 0 _ (Nat.zero_le _) ⟨FrR.rf, fun q hq => absurd hq (by omega)⟩)
  · obtain ⟨hf, h1⟩ := hI
    have hXs := hX.fr12 hP hf hEP
    have hL := hXs.1
    have hs := hXs.2.2.2.2.2.2.2.1
    have hLb := (hR.fr hf).2.2
    have hLbK := (hR.fr hf).kb hL
    refine y_iload_n hg dX0_goOnLayers_2 rfl ?_
    refine y_aload_n hg dX0_goOnLayers_3 rfl ?_
    refine y_geti (j := 11) hg cf0 (hL.x) (by decide) rfl q183 dX0_goOnLayers_4 ?_
    refine y_ti (hs) ?_
    refine y_iconst (v := nI 4) hg dX0_goOnLayers_7 rfl ?_
    refine y_imul hg dX0_goOnLayers_8 ?_
    refine y_ti (pk_mul _ _) ?_
    refine y_icmp_ge hg 25 dX0_goOnLayers_9 (by decide) (fun hT => absurd hT (ge_c hi (by omega))) (fun _ => ?_)
    refine y_aload_n hg dX0_goOnLayers_12 rfl ?_
    refine y_getr (j := 15) hg cf0 (hL.x) (by decide) rfl (hLb) q187 dX0_goOnLayers_13 ?_
    refine y_iload_n hg dX0_goOnLayers_16 rfl ?_
    refine y_lconst (v := 0) hg dX0_goOnLayers_17 rfl ?_
    refine y_last hg _ (hLbK) rfl (by omega) dX0_goOnLayers_18 ?_
    refine y_iinc hg dX0_goOnLayers_19 rfl (inc1 _) (by decide) (lv1 := [(0, _), (1, _)]) rfl ?_
    refine y_goto hg 2 dX0_goOnLayers_22 (by decide) ?_
    refine ih _ ⟨hf.stL rfl, fun q hq => ?_⟩
    by_cases e : q = i
    · subst e; exact gL_s
    · exact (gL_n (by omega)).trans (h1 q (by omega))
  obtain ⟨hf, h1⟩ := hI
  have hXs := hX.fr12 hP hf hEP
  have hL := hXs.1
  have hs := hXs.2.2.2.2.2.2.2.1
  have hla : ∀ (s : Mem), FrR (fun a _ => a = kb) σ s → ∀ i, i < 4 * nS P → s.2.2.2.1 ka i = lN (F i) := fun s hf i hi => (hf.l (by omega) (by omega)).trans (hF i hi)
  refine y_iload_n hg dX0_goOnLayers_2 rfl ?_
  refine y_aload_n hg dX0_goOnLayers_3 rfl ?_
  refine y_geti (j := 11) hg cf0 (hL.x) (by decide) rfl q183 dX0_goOnLayers_4 ?_
  refine y_ti (hs) ?_
  refine y_iconst (v := nI 4) hg dX0_goOnLayers_7 rfl ?_
  refine y_imul hg dX0_goOnLayers_8 ?_
  refine y_ti (pk_mul _ _) ?_
  refine y_icmp_ge hg 25 dX0_goOnLayers_9 (by decide) (fun _ => ?_) (fun hF => absurd (le_c (Nat.le_refl _) (by omega)) hF)
  refine y_iconst (v := nI 4) hg dX0_goOnLayers_25 rfl ?_
  refine y_istore_n hg dX0_goOnLayers_26 (by decide) (lv1 := [(0, _), (1, _)]) rfl ?_
  have w4 : ∀ h, wt F (tr P h) 4 = 0 := by
    intro h
    show 0 + _ + _ + _ + _ = 0
    rw [tr_z hP h (i := 0) (by omega), tr_z hP h (i := 1) (by omega), tr_z hP h (i := 2) (by omega), tr_z hP h (i := 3) (by omega)]
    omega
  refine (loop_st (S := Mem × (Nat → Nat)) (G := fun i s => YY g 3 s.1 0 0 27 [(0, .ref (B.1 + 0)), (1, .int (nI i))] []) (I := fun i s => 4 ≤ i ∧ FrR (fun a _ => a = kb) σ s.1 ∧ (∀ q, q < 4 * nS P → s.1.2.2.2.1 kb q = lN (s.2 q)) ∧ ∀ h, wt s.2 h (4 * nS P) = wt F (tr P h) i) (4 * nS P) (fun i s hi hI ih => ?_) (fun s hI => ?_) 4 (s, fun _ => 0) (by omega) ⟨Nat.le_refl _, hf, fun i hi => h1 i (by omega), fun h => by rw [wt_0, w4]⟩)
  · obtain ⟨s, N⟩ := s
    obtain ⟨h4, hf, hN, hw1⟩ := hI
    have hXs := hX.fr12 hP hf hEP
    have hL := hXs.1
    have hs := hXs.2.2.2.2.2.2.2.1
    have hFi := hFb i hi
    have hla1 := hla s hf i hi
    have hrS : i / 4 < nS P := by omega
    have hk : i % 4 < 5 := by omega
    have hdv : nI i / nI 4 = nI (i / 4) := pk_div (by omega) (by omega) (by omega)
    have hrm : nI i - nI i / nI 4 * nI 4 = nI (i % 4) := pk_rem (by omega) (by omega) (by omega)
    have E : ∀ (s : Mem) (N : Nat → Nat) (x2 : Int32), FrR (fun a _ => a = kb) σ s → (∀ q, q < 4 * nS P → s.2.2.2.1 kb q = lN (N q)) → (∀ h, wt N h (4 * nS P) = wt F (tr P h) (i + 1)) → YY g 3 s 0 0 114 [(0, .ref (B.1 + 0)), (1, .int (nI i)), (2, .int x2)] [] := by
      intro s N x2 hf hN hw
      refine y_iinc hg dX0_goOnLayers_114 rfl (inc1 _) (by decide) (lv1 := [(0, _), (1, _), (2, _)]) rfl ?_
      refine y_goto hg 27 dX0_goOnLayers_117 (by decide) ?_
      exact y_sub [0, 1] rfl (ih (s, N) ⟨by omega, hf, hN, hw⟩)
    refine y_iload_n hg dX0_goOnLayers_27 rfl ?_
    refine y_aload_n hg dX0_goOnLayers_28 rfl ?_
    refine y_geti (j := 11) hg cf0 (hL.x) (by decide) rfl q183 dX0_goOnLayers_29 ?_
    refine y_ti (hs) ?_
    refine y_iconst (v := nI 4) hg dX0_goOnLayers_32 rfl ?_
    refine y_imul hg dX0_goOnLayers_33 ?_
    refine y_ti (pk_mul _ _) ?_
    refine y_icmp_ge hg 120 dX0_goOnLayers_34 (by decide) (fun hT => absurd hT (ge_c (show i < nS P * 4 by omega) (by omega))) (fun _ => ?_)
    refine y_iconst (v := nI 0) hg dX0_goOnLayers_37 rfl ?_
    refine y_istore_n hg dX0_goOnLayers_38 (by decide) (lv1 := [(0, _), (1, _), (2, _)]) rfl ?_
    by_cases hF0 : F i = 0
    · have hw2 : ∀ h, wt N h (4 * nS P) = wt F (tr P h) (i + 1) := fun h => by
        show _ = wt F (tr P h) i + F i * tr P h i
        rw [hw1, hF0, Nat.zero_mul, Nat.add_zero]
      have hLa := (hR.fr hf).2.1
      have hLaK := (hR.fr hf).ka hL
      refine y_iload_n hg dX0_goOnLayers_39 rfl ?_
      refine y_aload_n hg dX0_goOnLayers_40 rfl ?_
      refine y_geti (j := 1) hg cf0 (hL.x) (by decide) rfl q173 dX0_goOnLayers_41 ?_
      refine y_icmp_ge hg 114 dX0_goOnLayers_44 (by decide) (fun hc => ?_) (fun hc => ?_)
      · exact E _ _ _ hf hN hw2
      · refine y_aload_n hg dX0_goOnLayers_47 rfl ?_
        refine y_getr (j := 14) hg cf0 (hL.x) (by decide) rfl (hLa) q186 dX0_goOnLayers_48 ?_
        refine y_iload_n hg dX0_goOnLayers_51 rfl ?_
        refine y_lald hg _ (hLaK) rfl (by omega) dX0_goOnLayers_52 ?_
        refine y_tl (hla1.trans (by rw [hF0])) ?_
        refine y_lconst (v := 0) hg dX0_goOnLayers_53 rfl ?_
        refine y_lc_le hg 114 dX0_goOnLayers_54 dX0_goOnLayers_55 (by decide) (fun _ => ?_) (fun hF => absurd ((show lN 0 ≤ 0 by decide)) hF)
        exact E _ _ _ hf hN hw2
    refine (loop_st (S := Mem × (Nat → Nat)) (G := fun w s => YY g 3 s.1 0 0 39 [(0, .ref (B.1 + 0)), (1, .int (nI i)), (2, .int (nI w))] []) (I := fun w s => FrR (fun a _ => a = kb) σ s.1 ∧ (∀ q, q < 4 * nS P → s.1.2.2.2.1 kb q = lN (s.2 q)) ∧ ∀ h, wt s.2 h (4 * nS P) = wt F (tr P h) i + F i * sm (fun w => if mayB P w (i / 4) (i % 4) = true then h (4 * (i / 4 - stp P w) + P.2.2.1 w) else 0) w) P.1 (fun w s hw hI ih2 => ?_) (fun s hI => ?_) 0 (s, N) (Nat.zero_le _) ⟨hf, hN, fun h => by rw [hw1]; rfl⟩)
    · obtain ⟨s, N⟩ := s
      obtain ⟨hf, hN, hw1⟩ := hI
      have hXs := hX.fr12 hP hf hEP
      have hL := hXs.1
      have hW := hXs.2.2.2.1
      have hst := hXs.2.2.2.2.2.2.2.2.1 w hw
      have hLa := (hR.fr hf).2.1
      have hLaK := (hR.fr hf).ka hL
      have hLb := (hR.fr hf).2.2
      have hLbK := (hR.fr hf).kb hL
      have hla1 := hla s hf i hi
      have hWw := hL.w_words (i := w) (by omega)
      have hkd4 := (hP.2.1 w hw).1
      refine y_iload_n hg dX0_goOnLayers_39 rfl ?_
      refine y_aload_n hg dX0_goOnLayers_40 rfl ?_
      refine y_geti (j := 1) hg cf0 (hL.x) (by decide) rfl q173 dX0_goOnLayers_41 ?_
      refine y_ti (hW.1) ?_
      refine y_icmp_ge hg 114 dX0_goOnLayers_44 (by decide) (fun hT => absurd hT (ge_c hw (by omega))) (fun _ => ?_)
      refine y_aload_n hg dX0_goOnLayers_47 rfl ?_
      refine y_getr (j := 14) hg cf0 (hL.x) (by decide) rfl (hLa) q186 dX0_goOnLayers_48 ?_
      refine y_iload_n hg dX0_goOnLayers_51 rfl ?_
      refine y_lald hg _ (hLaK) rfl (by omega) dX0_goOnLayers_52 ?_
      refine y_tl (hla1) ?_
      refine y_lconst (v := 0) hg dX0_goOnLayers_53 rfl ?_
      refine y_lc_le hg 114 dX0_goOnLayers_54 dX0_goOnLayers_55 (by decide) (fun hT => absurd hT ((fun h => by have := (pk_lLE (a := F i) (b := 0) (by omega) (by omega)).mp h; omega))) (fun _ => ?_)
      refine y_aload_n hg dX0_goOnLayers_58 rfl ?_
      refine y_iload_n hg dX0_goOnLayers_59 rfl ?_
      refine y_iload_n hg dX0_goOnLayers_60 rfl ?_
      refine y_iconst (v := nI 4) hg dX0_goOnLayers_61 rfl ?_
      refine y_idiv hg dX0_goOnLayers_62 (by decide) ?_
      refine y_ti (hdv) ?_
      refine y_iload_n hg dX0_goOnLayers_63 rfl ?_
      refine y_iconst (v := nI 4) hg dX0_goOnLayers_64 rfl ?_
      refine y_irem hg dX0_goOnLayers_65 (by decide) ?_
      refine y_ti (hrm) ?_
      refine y_cVi hg (cX_mayCome hP hXs hw hrS hk) iX0_mayCome q416 (hL.x) cf0 rfl rfl (by simp [Value.category]) (Nat.le_refl _) (Nat.le_refl _) (by decide) dX0_goOnLayers_66 (fun r σ1 hp => ?_)
      obtain ⟨rfl, rfl⟩ := hp
      refine y_if_eq hg 108 dX0_goOnLayers_69 (by decide) (fun hc => ?_) (fun hc => ?_)
      · refine y_iinc hg dX0_goOnLayers_108 rfl (inc1 _) (by decide) (lv1 := [(0, _), (1, _), (2, _)]) rfl ?_
        refine y_goto hg 39 dX0_goOnLayers_111 (by decide) ?_
        refine ih2 (_, N) ⟨hf, hN, fun h => ?_⟩
        rw [hw1]
        simp only [sm]
        rw [if_neg (by rw [(b2_eq _).mp hc]; decide), Nat.add_zero]
      · have hmay := (b2_ne _).mp hc
        have hle := stp_le (may_fit hmay)
        refine y_aload_n hg dX0_goOnLayers_72 rfl ?_
        refine y_getr (j := 15) hg cf0 (hL.x) (by decide) rfl (hLb) q187 dX0_goOnLayers_73 ?_
        refine y_iconst (v := nI 4) hg dX0_goOnLayers_76 rfl ?_
        refine y_iload_n hg dX0_goOnLayers_77 rfl ?_
        refine y_iconst (v := nI 4) hg dX0_goOnLayers_78 rfl ?_
        refine y_idiv hg dX0_goOnLayers_79 (by decide) ?_
        refine y_ti (hdv) ?_
        refine y_aload_n hg dX0_goOnLayers_80 rfl ?_
        refine y_getr (j := 10) hg cf0 (hL.x) (by decide) rfl (hL.r_steps) q182 dX0_goOnLayers_81 ?_
        refine y_iload_n hg dX0_goOnLayers_84 rfl ?_
        refine y_iald hg _ (hL.k_steps) rfl (by omega) dX0_goOnLayers_85 ?_
        refine y_ti (hst) ?_
        refine y_isub hg dX0_goOnLayers_86 ?_
        refine y_ti (pk_sub hle) ?_
        refine y_imul hg dX0_goOnLayers_87 ?_
        refine y_ti (pk_mul _ _) ?_
        refine y_aload_n hg dX0_goOnLayers_88 rfl ?_
        refine y_getr (j := 0) hg cf0 (hL.x) (by decide) rfl (hL.r_words) q172 dX0_goOnLayers_89 ?_
        refine y_iload_n hg dX0_goOnLayers_92 rfl ?_
        refine y_aald3 hg _ (hL.k_words) rfl (by omega) (hL.e_words (i := w) (by omega)) dX0_goOnLayers_93 ?_
        refine y_getiN (j := 2) hg cf2 (hWw.o) (by decide) rfl nf8 dX0_goOnLayers_94 ?_
        refine y_ti ((hW.2 w hw).1) ?_
        refine y_iadd hg dX0_goOnLayers_97 ?_
        refine y_ti (nI_add _ _) ?_
        refine y_dup2 hg dX0_goOnLayers_98 rfl rfl ?_
        refine y_lald hg _ (hLbK) rfl (by omega) dX0_goOnLayers_99 ?_
        refine y_aload_n hg dX0_goOnLayers_100 rfl ?_
        refine y_getr (j := 14) hg cf0 (hL.x) (by decide) rfl (hLa) q186 dX0_goOnLayers_101 ?_
        refine y_iload_n hg dX0_goOnLayers_104 rfl ?_
        refine y_lald hg _ (hLaK) rfl (by omega) dX0_goOnLayers_105 ?_
        refine y_tl (hla1) ?_
        refine y_ladd hg dX0_goOnLayers_106 ?_
        refine y_last hg _ (hLbK) rfl (by omega) dX0_goOnLayers_107 ?_
        refine y_iinc hg dX0_goOnLayers_108 rfl (inc1 _) (by decide) (lv1 := [(0, _), (1, _), (2, _)]) rfl ?_
        refine y_goto hg 39 dX0_goOnLayers_111 (by decide) ?_
        refine ih2 (_, upN N (4 * (i / 4 - stp P w) + P.2.2.1 w) (N (4 * (i / 4 - stp P w) + P.2.2.1 w) + F i)) ⟨hf.stL rfl, fun q hq => ?_, fun h => ?_⟩
        · show (setL _ _ _ _).2.2.2.1 kb q = lN (upN _ _ _ q)
          unfold upN
          by_cases e : q = 4 * (i / 4 - stp P w) + P.2.2.1 w
          · rw [if_pos e, e, gL_s, hN _ (by omega), lN_add]
          · rw [if_neg e, gL_n (by omega)]
            exact hN q hq
        · rw [wt_up _ _ _ (by omega), hw1]
          simp only [sm]
          rw [if_pos hmay, Nat.mul_add, Nat.add_assoc]
    · obtain ⟨s, N⟩ := s
      obtain ⟨hf, hN, hw1⟩ := hI
      have hXs := hX.fr12 hP hf hEP
      have hL := hXs.1
      have hW := hXs.2.2.2.1
      refine y_iload_n hg dX0_goOnLayers_39 rfl ?_
      refine y_aload_n hg dX0_goOnLayers_40 rfl ?_
      refine y_geti (j := 1) hg cf0 (hL.x) (by decide) rfl q173 dX0_goOnLayers_41 ?_
      refine y_ti (hW.1) ?_
      refine y_icmp_ge hg 114 dX0_goOnLayers_44 (by decide) (fun _ => ?_) (fun hF => absurd (le_c (Nat.le_refl _) (by omega)) hF)
      exact E _ _ _ hf hN hw1
  · obtain ⟨s, N⟩ := s
    obtain ⟨h4, hf, hN, hw1⟩ := hI
    have hXs := hX.fr12 hP hf hEP
    have hL := hXs.1
    have hs := hXs.2.2.2.2.2.2.2.1
    have hLa := (hR.fr hf).2.1
    have hLaK := (hR.fr hf).ka hL
    have hLb := (hR.fr hf).2.2
    have hLbK := (hR.fr hf).kb hL
    refine y_iload_n hg dX0_goOnLayers_27 rfl ?_
    refine y_aload_n hg dX0_goOnLayers_28 rfl ?_
    refine y_geti (j := 11) hg cf0 (hL.x) (by decide) rfl q183 dX0_goOnLayers_29 ?_
    refine y_ti (hs) ?_
    refine y_iconst (v := nI 4) hg dX0_goOnLayers_32 rfl ?_
    refine y_imul hg dX0_goOnLayers_33 ?_
    refine y_ti (pk_mul _ _) ?_
    refine y_icmp_ge hg 120 dX0_goOnLayers_34 (by decide) (fun _ => ?_) (fun hF => absurd (le_c (show nS P * 4 ≤ 4 * nS P by omega) (by omega)) hF)
    refine y_aload_n hg dX0_goOnLayers_120 rfl ?_
    refine y_getr (j := 14) hg cf0 (hL.x) (by decide) rfl (hLa) q186 dX0_goOnLayers_121 ?_
    refine y_astore_n hg dX0_goOnLayers_124 (by decide) (lv1 := [(0, _), (1, _)]) rfl ?_
    refine y_aload_n hg dX0_goOnLayers_125 rfl ?_
    refine y_aload_n hg dX0_goOnLayers_126 rfl ?_
    refine y_getr (j := 15) hg cf0 (hL.x) (by decide) rfl (hLb) q187 dX0_goOnLayers_127 ?_
    refine y_putr (j := 14) hg cf0 (hL.x) (by decide) rfl rfl q186 dX0_goOnLayers_130 ?_
    refine y_aload_n hg dX0_goOnLayers_133 rfl ?_
    refine y_aload_n hg dX0_goOnLayers_134 rfl ?_
    refine y_putr (j := 15) hg cf0 (hL.x) (by decide) rfl rfl q187 dX0_goOnLayers_135 ?_
    refine y_vret hg hr ⟨rfl, ?_⟩ dX0_goOnLayers_138 (Nat.le_refl _) (Nat.le_refl _)
    refine ⟨Fr.stR (Fr.stR (hf.1.mono (fun a j h => by unfold YP; omega)) (Or.inr (Or.inl rfl))) (Or.inr (Or.inr rfl)), ?_, N, ⟨⟨by omega, ?_, ?_⟩, hN, hLF.next hP hw1⟩⟩
    · rw [gR_n (by omega), gR_n (by omega), hf.2]
    · rw [gR_n (by omega), gR_s]
    · rw [gR_s]
theorem cX_endedNow {P : Pb} {ko ka kb t : Nat} {F : Nat → Nat} (hP : WFP P) (hX : PX B σ P ko) (hY : LyX B σ P t ka kb F) :
    MT ll B 1 0 0 yX0_endedNow cX0_endedNow 4 (some .long) [.ref (B.1 + 0)] σ (pL fun v σ' => v = lN (gJ P t (nS P - 1) 4) ∧ σ' = σ) := by
  have hpos := nS_pos P
  obtain ⟨hR, hF, hLF⟩ := hY
  obtain ⟨hL, hOS, hOp, hW, hrow, hu, hb, hs, hst, hko⟩ := hX
  have hend : σ.2.2.1 ko 4 = P.2.2.2.1 20 := by rw [← ro_ends]; exact hrow 20 (by omega)
  have hLa := hR.2.1
  have hLaK := hR.ka hL
  refine MT.of (by decide) (Nat.le_of_ble_eq_true rfl) (fun g hg hr => ?_)
  refine y_lconst (v := 0) hg dX0_endedNow_0 rfl ?_
  refine y_lstore_n hg dX0_endedNow_1 (by decide) (lv1 := [(0, _), (1, _)]) rfl ?_
  refine y_iconst (v := nI 0) hg dX0_endedNow_2 rfl ?_
  refine y_istore_n hg dX0_endedNow_3 (by decide) (lv1 := [(0, _), (1, _), (3, _)]) rfl ?_
  refine (loop_up (G := fun k => YY g 4 σ 0 0 4 [(0, .ref (B.1 + 0)), (1, .long (lN (sm (fun k => if hasB (P.2.2.2.1 20) (nI k) = true then F k else 0) k))), (3, .int (nI k))] []) 4 (fun k hk ih => ?_) ?_ 0 (by decide))
  · have J : ∀ v : Int64, v = lN (if hasB (P.2.2.2.1 20) (nI k) = true then F k else 0) → YY g 4 σ 0 0 34 [(0, .ref (B.1 + 0)), (1, .long (lN (sm (fun k => if hasB (P.2.2.2.1 20) (nI k) = true then F k else 0) k))), (3, .int (nI k))] [.long v, .long (lN (sm (fun k => if hasB (P.2.2.2.1 20) (nI k) = true then F k else 0) k))] := by
      intro v hv
      subst hv
      refine y_ladd hg dX0_endedNow_34 ?_
      refine y_tl (lN_add _ _) ?_
      refine y_lstore_n hg dX0_endedNow_35 (by decide) (lv1 := [(0, _), (1, _), (3, _)]) rfl ?_
      refine y_iinc hg dX0_endedNow_36 rfl (inc1 _) (by decide) (lv1 := [(0, _), (1, _), (3, _)]) rfl ?_
      refine y_goto hg 4 dX0_endedNow_39 (by decide) ?_
      exact ih
    refine y_iload_n hg dX0_endedNow_4 rfl ?_
    refine y_iconst (v := nI 4) hg dX0_endedNow_5 rfl ?_
    refine y_icmp_ge hg 42 dX0_endedNow_6 (by decide) (fun hT => absurd hT (ge_c hk (by decide))) (fun _ => ?_)
    refine y_lload_n hg dX0_endedNow_9 rfl ?_
    refine y_aload_n hg dX0_endedNow_10 rfl ?_
    refine y_getr (j := 4) hg cf0 (hL.x) (by decide) rfl (hOp) q176 dX0_endedNow_11 ?_
    refine y_getiN (j := 4) hg cf1 (hOS.o) (by decide) rfl nf4 dX0_endedNow_14 ?_
    refine y_ti (hend) ?_
    refine y_iload_n hg dX0_endedNow_17 rfl ?_
    refine y_cSi hg (cX_has _ _) iX0_has q344 rfl rfl (by simp [Value.category]) (Nat.le_refl _) (Nat.le_refl _) (by decide) dX0_endedNow_18 (fun r σ1 hp => ?_)
    obtain ⟨rfl, rfl⟩ := hp
    refine y_if_eq hg 33 dX0_endedNow_21 (by decide) (fun hc => ?_) (fun hc => ?_)
    · refine y_lconst (v := 0) hg dX0_endedNow_33 rfl ?_
      exact J _ (by rw [if_neg (by rw [(b2_eq _).mp hc]; decide)]; rfl)
    · refine y_aload_n hg dX0_endedNow_24 rfl ?_
      refine y_getr (j := 14) hg cf0 (hL.x) (by decide) rfl (hLa) q186 dX0_endedNow_25 ?_
      refine y_iload_n hg dX0_endedNow_28 rfl ?_
      refine y_lald hg _ (hLaK) rfl (by omega) dX0_endedNow_29 ?_
      refine y_goto hg 34 dX0_endedNow_30 (by decide) ?_
      exact J _ (by rw [if_pos ((b2_ne _).mp hc)]; exact hF k (by omega))
  · refine y_iload_n hg dX0_endedNow_4 rfl ?_
    refine y_iconst (v := nI 4) hg dX0_endedNow_5 rfl ?_
    refine y_icmp_ge hg 42 dX0_endedNow_6 (by decide) (fun _ => ?_) (fun hF => absurd (le_c (Nat.le_refl 4) (by decide)) hF)
    refine y_lload_n hg dX0_endedNow_42 rfl ?_
    refine y_lret hg hr ⟨_, rfl, ?_⟩ dX0_endedNow_43 (Nat.le_refl _) (Nat.le_refl _)
    exact ⟨by rw [hLF.ended], rfl⟩
end XLayers

