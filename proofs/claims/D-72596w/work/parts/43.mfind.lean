section MFind
variable {ll : Launch} {B : Bs} {σ : Mem}
theorem FdM.fr {σ σ' : Mem} {P : Pb} {c : Wy → Nat × Nat} {q : Wy} {n : Nat} {Q : Nat → Nat → Prop} (h : FdM σ P c q n) (hf : FrR Q σ σ') (hn : 184 < σ.2.1) (hq : ∀ j, ¬ Q 184 j) : FdM σ' P c q n := fun i hi => (hf.i hn (hq i)).trans (h i hi)
theorem mlead {P : Pb} {r k w : Nat} (h : ¬ wor P r k = -9) : (mayB P w r k = true ∧ bwi P r w = wor P r k) ↔ leadB P r k w = true := by
  rw [leadB, Bool.and_eq_true, Bool.and_eq_true, decide_eq_true_iff, decide_eq_true_iff]
  unfold bwi
  by_cases h9 : wb P r w = -9
  · rw [if_pos h9]
    exact ⟨fun q => absurd q.2.symm h, fun q => absurd h9 q.2.1⟩
  · rw [if_neg h9]
    exact ⟨fun q => ⟨q.1, h9, q.2⟩, fun q => ⟨q.1, q.2.2⟩⟩
theorem cM_findBest {P : Pb} (hP : WFP P) (hR : WFR P) (h12 : sm (bg P.2.2.2.1) 8 ≤ 12) (hX : PM B σ P) :
    MT ll B 3 0 0 yX3_findBest cX3_findBest 5 (some .int) [.ref (B.1 + 157)] σ (pI fun v σ' => v = (if bw P = -9 then -9 else nI (wlen P (cbest P) (nS P - 1, 4, 0))) ∧ FrR (fun a _ => a = 182 ∨ a = 184) σ σ' ∧ (¬ bw P = -9 → FdM σ' P (cbest P) (nS P - 1, 4, 0) (wlen P (cbest P) (nS P - 1, 4, 0)))) := by
  have h10 := hP.1
  have hnS := nS_le hP
  have hpos := nS_pos P
  have hM := hX.1
  have hn := hM.n
  have hd12 : ∀ r, ds P r ≤ 12 := fun r => Nat.le_trans (sm_mono 8 (fun x _ => dg_le _ _ _)) h12
  refine MT.of (by decide) (Nat.le_of_ble_eq_true rfl) (fun g hg hr => ?_)
  refine y_aload_n hg dX3_findBest_0 rfl ?_
  refine y_cVv hg (cM_layBest hP hR hX) iX3_layBest q1252 (hM.m) cf3 rfl rfl (by simp [Value.category]) (Nat.le_refl _) (Nat.le_refl _) (by decide) dX3_findBest_1 (fun σ1 hp => ?_)
  obtain ⟨hf0, hC0⟩ := hp
  have hX1 := hX.fr hf0 (fun a j h => by unfold EM; omega)
  have hM := hX1.1
  have hn1 := hM.n
  have hwh := hX1.2.2.2.2.1
  have hfr1 : FrR (fun a _ => a = 182 ∨ a = 184) σ σ1 := hf0.mono (fun a j h => Or.inl h)
  refine y_aload_n hg dX3_findBest_4 rfl ?_
  refine y_geti (j := 31) hg cf3 (hM.m) (by decide) rfl q942 dX3_findBest_5 ?_
  refine y_ti (hwh) ?_
  refine y_istore_n hg dX3_findBest_8 (by decide) (lv1 := [(0, _), (1, _)]) rfl ?_
  refine y_iconst (v := nI 4) hg dX3_findBest_9 rfl ?_
  refine y_istore_n hg dX3_findBest_10 (by decide) (lv1 := [(0, _), (1, _), (2, _)]) rfl ?_
  refine y_iconst (v := nI 0) hg dX3_findBest_11 rfl ?_
  refine y_istore_n hg dX3_findBest_12 (by decide) (lv1 := [(0, _), (1, _), (2, _), (3, _)]) rfl ?_
  by_cases h1 : nS P = 1
  · have ebw : bw P = -9 := by rw [bw, if_pos h1]
    rw [h1]
    refine y_iload_n hg dX3_findBest_13 rfl ?_
    refine y_if_le hg 102 dX3_findBest_14 (by decide) (fun _ => ?_) (fun hF => absurd ((by decide)) hF)
    refine y_iload_n hg dX3_findBest_102 rfl ?_
    refine y_if_ne hg 111 dX3_findBest_103 (by decide) (fun hT => absurd hT ((by decide))) (fun _ => ?_)
    refine y_bipush (v := -9) hg dX3_findBest_106 rfl ?_
    refine y_goto hg 112 dX3_findBest_108 (by decide) ?_
    refine y_iret hg hr ⟨_, rfl, ?_⟩ dX3_findBest_112 (Nat.le_refl _) (Nat.le_refl _)
    exact ⟨by rw [if_pos ebw], hfr1, fun h => absurd ebw h⟩
  have ebw : bw P = wor P (nS P - 1) 4 := by rw [bw, if_neg h1]
  have hat : ∀ (s : Mem) (r k : Nat), FrR (fun a _ => a = 184) σ1 s → 0 < r → r < nS P → k < 5 → s.2.2.1 182 (5 * r + k) = wor P r k := fun s r k hf h0 hr hk => (hf.i (by omega) (by omega)).trans ((hC0.at hr hk).trans (wv_s hP k h0))
  by_cases h9 : wor P (nS P - 1) 4 = -9
  · refine y_iload_n hg dX3_findBest_13 rfl ?_
    refine y_if_le hg 102 dX3_findBest_14 (by decide) (fun hT => absurd hT (nI_nle (by omega) (by omega))) (fun _ => ?_)
    refine y_aload_n hg dX3_findBest_17 rfl ?_
    refine y_getr (j := 37) hg cf3 (hM.m) (by decide) rfl (hM.r_best) q948 dX3_findBest_18 ?_
    refine y_iconst (v := nI 5) hg dX3_findBest_21 rfl ?_
    refine y_iload_n hg dX3_findBest_22 rfl ?_
    refine y_imul hg dX3_findBest_23 ?_
    refine y_ti (pk_mul _ _) ?_
    refine y_iload_n hg dX3_findBest_24 rfl ?_
    refine y_iadd hg dX3_findBest_25 ?_
    refine y_ti (nI_add _ _) ?_
    refine y_iald hg _ (hM.k_best) rfl (by omega) dX3_findBest_26 ?_
    refine y_ti ((hat σ1 _ _ FrR.rf (by omega) (by omega) (by omega)).trans h9) ?_
    refine y_if_lt hg 102 dX3_findBest_27 (by decide) (fun _ => ?_) (fun hF => absurd ((by decide)) hF)
    refine y_iload_n hg dX3_findBest_102 rfl ?_
    refine y_if_ne hg 111 dX3_findBest_103 (by decide) (fun hT => absurd hT ((by decide))) (fun _ => ?_)
    refine y_bipush (v := -9) hg dX3_findBest_106 rfl ?_
    refine y_goto hg 112 dX3_findBest_108 (by decide) ?_
    refine y_iret hg hr ⟨_, rfl, ?_⟩ dX3_findBest_112 (Nat.le_refl _) (Nat.le_refl _)
    exact ⟨by rw [if_pos (ebw.trans h9)], hfr1, fun h => absurd (ebw.trans h9) h⟩
  obtain ⟨q0, hq0⟩ : ∃ q0 : Wy, q0 = (nS P - 1, 4, 0) := ⟨_, rfl⟩
  have hI0 : ¬ wor P q0.1 q0.2.1 = -9 := by rw [hq0]; exact h9
  have hqS : q0.1 < nS P := by rw [hq0]; show nS P - 1 < nS P; omega
  obtain ⟨w1, w2, w3⟩ := wlen_ok hP (best_on hP) (I := fun q => ¬ wor P q.1 q.2.1 = -9) hI0 hqS
  have w12 := hd12 q0.1
  have hin := fun i (hi : i ≤ wlen P (cbest P) q0) => wpath_in hP (best_on hP) (I := fun q => ¬ wor P q.1 q.2.1 = -9) hI0 hqS i (fun j hj => w3 j (by omega))
  have hkind : ∀ i, i ≤ wlen P (cbest P) q0 → (wpath P (cbest P) q0 i).2.1 < 5 := by
    intro i hi
    cases i with
    | zero => rw [hq0]; show 4 < 5; omega
    | succ i =>
      have h2 := (best_on hP _ (hin i (by omega)).1 (w3 i (by omega)) (hin i (by omega)).2.1).1
      have := (hP.2.1 _ h2).1
      show P.2.2.1 _ < 5
      omega
  have wpos : 0 < wlen P (cbest P) q0 := by
    rcases Nat.eq_zero_or_pos (wlen P (cbest P) q0) with z | z
    · rw [z] at w2
      rw [show wpath P (cbest P) q0 0 = q0 from rfl, hq0] at w2
      have : nS P - 1 = 0 := w2
      omega
    · exact z
  have LOOP := loop_st (S := Mem) (G := fun i s => YY g 5 s 0 0 13 [(0, .ref (B.1 + 157)), (1, .int (nI (wpath P (cbest P) q0 i).1)), (2, .int (nI (wpath P (cbest P) q0 i).2.1)), (3, .int (nI i))] []) (I := fun i s => FrR (fun a _ => a = 184) σ1 s ∧ FdM s P (cbest P) q0 i) (wlen P (cbest P) q0) ?_ ?_ 0 σ1 (Nat.zero_le _) ⟨FrR.rf, fun i hi => absurd hi (by omega)⟩
  · rw [show wpath P (cbest P) q0 0 = q0 from rfl, hq0] at LOOP
    exact LOOP
  · intro i s hi hI ih
    obtain ⟨hf, hfd⟩ := hI
    have hXs := hX1.fr hf (fun a j h => by unfold EM; omega)
    have hM := hXs.1
    have hri := w3 i hi
    obtain ⟨hIi, hSi, -⟩ := hin i (by omega)
    have hki := hkind i (by omega)
    obtain ⟨x1, x2, x3⟩ := lw_ex (lead_ex hP hri hIi)
    have ew : lw (leadB P (wpath P (cbest P) q0 i).1 (wpath P (cbest P) q0 i).2.1) P.1 = wword P (cbest P) q0 i := rfl
    rw [ew] at x1 x2 x3
    have e1 : (wpath P (cbest P) q0 (i + 1)).1 = (wpath P (cbest P) q0 i).1 - stp P (wword P (cbest P) q0 i) := rfl
    have e2 : (wpath P (cbest P) q0 (i + 1)).2.1 = P.2.2.1 (wword P (cbest P) q0 i) := rfl
    rw [e1, e2] at ih
    have x4 := (mlead hIi).mpr x2
    have hle := stp_le (may_fit x4.1)
    have hup := wor_up hP hR _ (wpath P (cbest P) q0 i).2.1 hSi
    have hd13 := ds_le hP (wpath P (cbest P) q0 i).1
    generalize (wpath P (cbest P) q0 i).1 = r at *
    generalize (wpath P (cbest P) q0 i).2.1 = k at *
    generalize hwq : wword P (cbest P) q0 i = wq at *
    have hvv : s.2.2.1 182 (5 * r + k) = wor P r k := hat s r k hf hri hSi hki
    have hnn : ¬ wor P r k < 0 := fun h => hIi ((up9_lt hup (by omega)).mp h)
    have hbv : ∀ w, w < P.1 → fitB P w r = true → 0 < r - stp P w → s.2.2.1 182 (5 * (r - stp P w) + P.2.2.1 w) = wor P (r - stp P w) (P.2.2.1 w) := fun w hw hft h0 => hat s _ _ hf h0 (by have := stp_pos hP hw; omega) (by have := (hP.2.1 w hw).1; omega)
    refine y_iload_n hg dX3_findBest_13 rfl ?_
    refine y_if_le hg 102 dX3_findBest_14 (by decide) (fun hT => absurd hT (nI_nle hri (by omega))) (fun _ => ?_)
    refine y_aload_n hg dX3_findBest_17 rfl ?_
    refine y_getr (j := 37) hg cf3 (hM.m) (by decide) rfl (hM.r_best) q948 dX3_findBest_18 ?_
    refine y_iconst (v := nI 5) hg dX3_findBest_21 rfl ?_
    refine y_iload_n hg dX3_findBest_22 rfl ?_
    refine y_imul hg dX3_findBest_23 ?_
    refine y_ti (pk_mul _ _) ?_
    refine y_iload_n hg dX3_findBest_24 rfl ?_
    refine y_iadd hg dX3_findBest_25 ?_
    refine y_ti (nI_add _ _) ?_
    refine y_iald hg _ (hM.k_best) rfl (by omega) dX3_findBest_26 ?_
    refine y_ti (hvv) ?_
    refine y_if_lt hg 102 dX3_findBest_27 (by decide) (fun hT => absurd hT (hnn)) (fun _ => ?_)
    refine y_iconst (v := nI 0) hg dX3_findBest_30 rfl ?_
    refine y_istore hg dX3_findBest_31 (by decide) (lv1 := [(0, _), (1, _), (2, _), (3, _), (4, _)]) rfl ?_
    refine (loop_up (G := fun w => YY g 5 s 0 0 33 [(0, .ref (B.1 + 157)), (1, .int (nI r)), (2, .int (nI k)), (3, .int (nI i)), (4, .int (nI w))] []) wq (fun w hw ih2 => ?_) ?_ 0 (Nat.zero_le _))
    · have hwP : w < P.1 := by omega
      refine y_aload_n hg dX3_findBest_33 rfl ?_
      refine y_iload_n hg dX3_findBest_34 rfl ?_
      refine y_iload_n hg dX3_findBest_35 rfl ?_
      refine y_iload hg dX3_findBest_36 rfl ?_
      refine y_cVi hg (cM_mayCome hP hXs hwP hSi hki) iX3_mayCome q1150 (hM.m) cf3 rfl rfl (by simp [Value.category]) (Nat.le_refl _) (Nat.le_refl _) (by decide) dX3_findBest_38 (fun r σ1 hp => ?_)
      obtain ⟨rfl, rfl⟩ := hp
      refine y_if_eq hg 64 dX3_findBest_41 (by decide) (fun hc => ?_) (fun hc => ?_)
      · refine y_iinc hg dX3_findBest_64 rfl (inc1 _) (by decide) (lv1 := [(0, _), (1, _), (2, _), (3, _), (4, _)]) rfl ?_
        refine y_goto hg 33 dX3_findBest_67 (by decide) ?_
        exact ih2
      · have hmay := (b2_ne _).mp hc
        refine y_aload_n hg dX3_findBest_44 rfl ?_
        refine y_iload_n hg dX3_findBest_45 rfl ?_
        refine y_iload hg dX3_findBest_46 rfl ?_
        refine y_cVi hg (cM_bestWith hP hR hXs hwP hSi (may_fit hmay) (hbv w hwP (may_fit hmay))) iX3_bestWith q1256 (hM.m) cf3 rfl rfl (by simp [Value.category]) (Nat.le_refl _) (Nat.le_refl _) (by decide) dX3_findBest_48 (fun r σ1 hp => ?_)
        obtain ⟨rfl, rfl⟩ := hp
        refine y_aload_n hg dX3_findBest_51 rfl ?_
        refine y_getr (j := 37) hg cf3 (hM.m) (by decide) rfl (hM.r_best) q948 dX3_findBest_52 ?_
        refine y_iconst (v := nI 5) hg dX3_findBest_55 rfl ?_
        refine y_iload_n hg dX3_findBest_56 rfl ?_
        refine y_imul hg dX3_findBest_57 ?_
        refine y_ti (pk_mul _ _) ?_
        refine y_iload_n hg dX3_findBest_58 rfl ?_
        refine y_iadd hg dX3_findBest_59 ?_
        refine y_ti (nI_add _ _) ?_
        refine y_iald hg _ (hM.k_best) rfl (by omega) dX3_findBest_60 ?_
        refine y_ti (hvv) ?_
        refine y_icmp_eq hg 70 dX3_findBest_61 (by decide) (fun hT => absurd hT ((fun e => by have := (mlead hIi).mp ⟨hmay, e⟩; rw [x3 w hw] at this; cases this))) (fun _ => ?_)
        refine y_iinc hg dX3_findBest_64 rfl (inc1 _) (by decide) (lv1 := [(0, _), (1, _), (2, _), (3, _), (4, _)]) rfl ?_
        refine y_goto hg 33 dX3_findBest_67 (by decide) ?_
        exact ih2
    · refine y_aload_n hg dX3_findBest_33 rfl ?_
      refine y_iload_n hg dX3_findBest_34 rfl ?_
      refine y_iload_n hg dX3_findBest_35 rfl ?_
      refine y_iload hg dX3_findBest_36 rfl ?_
      refine y_cVi hg (cM_mayCome hP hXs x1 hSi hki) iX3_mayCome q1150 (hM.m) cf3 rfl rfl (by simp [Value.category]) (Nat.le_refl _) (Nat.le_refl _) (by decide) dX3_findBest_38 (fun r σ1 hp => ?_)
      obtain ⟨rfl, rfl⟩ := hp
      refine y_if_eq hg 64 dX3_findBest_41 (by decide) (fun hT => absurd hT ((by rw [x4.1]; decide))) (fun _ => ?_)
      have hpr := hXs.2.2.2.2.2.2.1 wq x1
      have hkd := (hXs.2.1.2 wq x1).1
      refine y_aload_n hg dX3_findBest_44 rfl ?_
      refine y_iload_n hg dX3_findBest_45 rfl ?_
      refine y_iload hg dX3_findBest_46 rfl ?_
      refine y_cVi hg (cM_bestWith hP hR hXs x1 hSi (may_fit x4.1) (hbv wq x1 (may_fit x4.1))) iX3_bestWith q1256 (hM.m) cf3 rfl rfl (by simp [Value.category]) (Nat.le_refl _) (Nat.le_refl _) (by decide) dX3_findBest_48 (fun r σ1 hp => ?_)
      obtain ⟨rfl, rfl⟩ := hp
      refine y_aload_n hg dX3_findBest_51 rfl ?_
      refine y_getr (j := 37) hg cf3 (hM.m) (by decide) rfl (hM.r_best) q948 dX3_findBest_52 ?_
      refine y_iconst (v := nI 5) hg dX3_findBest_55 rfl ?_
      refine y_iload_n hg dX3_findBest_56 rfl ?_
      refine y_imul hg dX3_findBest_57 ?_
      refine y_ti (pk_mul _ _) ?_
      refine y_iload_n hg dX3_findBest_58 rfl ?_
      refine y_iadd hg dX3_findBest_59 ?_
      refine y_ti (nI_add _ _) ?_
      refine y_iald hg _ (hM.k_best) rfl (by omega) dX3_findBest_60 ?_
      refine y_ti (hvv) ?_
      refine y_icmp_eq hg 70 dX3_findBest_61 (by decide) (fun _ => ?_) (fun hF => absurd (x4.2) hF)
      refine y_aload_n hg dX3_findBest_70 rfl ?_
      refine y_getr (j := 39) hg cf3 (hM.m) (by decide) rfl (hM.r_found) q950 dX3_findBest_71 ?_
      refine y_iload_n hg dX3_findBest_74 rfl ?_
      refine y_iload hg dX3_findBest_75 rfl ?_
      refine y_iast hg _ (hM.k_found) rfl (by omega) dX3_findBest_77 ?_
      refine y_iinc hg dX3_findBest_78 rfl (inc1 _) (by decide) (lv1 := [(0, _), (1, _), (2, _), (3, _), (4, _)]) rfl ?_
      refine y_iload_n hg dX3_findBest_81 rfl ?_
      refine y_aload_n hg dX3_findBest_82 rfl ?_
      refine y_getr (j := 33) hg cf3 (hM.m) (by decide) rfl (hM.r_price) q944 dX3_findBest_83 ?_
      refine y_iload hg dX3_findBest_86 rfl ?_
      refine y_iald hg _ (hM.k_price) rfl (by omega) dX3_findBest_88 ?_
      refine y_ti ((gI_n (by omega)).trans hpr) ?_
      refine y_isub hg dX3_findBest_89 ?_
      refine y_ti (pk_sub hle) ?_
      refine y_istore_n hg dX3_findBest_90 (by decide) (lv1 := [(0, _), (1, _), (2, _), (3, _), (4, _)]) rfl ?_
      refine y_aload_n hg dX3_findBest_91 rfl ?_
      refine y_getr (j := 5) hg cf3 (hM.m) (by decide) rfl (hM.r_kind) q916 dX3_findBest_92 ?_
      refine y_iload hg dX3_findBest_95 rfl ?_
      refine y_iald hg _ (hM.k_kind) rfl (by omega) dX3_findBest_97 ?_
      refine y_ti ((gI_n (by omega)).trans hkd) ?_
      refine y_istore_n hg dX3_findBest_98 (by decide) (lv1 := [(0, _), (1, _), (2, _), (3, _), (4, _)]) rfl ?_
      refine y_goto hg 13 dX3_findBest_99 (by decide) ?_
      refine y_sub [0, 1, 2, 3] rfl (ih _ ⟨hf.stI rfl, fun j hj => ?_⟩)
      by_cases e : j = i
      · subst e; rw [hwq]; exact gI_s
      · exact (gI_n (by omega)).trans (hfd j (by omega))
  · intro s hI
    obtain ⟨hf, hfd⟩ := hI
    rw [w2]
    refine y_iload_n hg dX3_findBest_13 rfl ?_
    refine y_if_le hg 102 dX3_findBest_14 (by decide) (fun _ => ?_) (fun hF => absurd ((by decide)) hF)
    refine y_iload_n hg dX3_findBest_102 rfl ?_
    refine y_if_ne hg 111 dX3_findBest_103 (by decide) (fun _ => ?_) (fun hF => absurd hF (nI_ne0 wpos (by omega)))
    refine y_iload_n hg dX3_findBest_111 rfl ?_
    refine y_iret hg hr ⟨_, rfl, ?_⟩ dX3_findBest_112 (Nat.le_refl _) (Nat.le_refl _)
    refine ⟨?_, hfr1.tr (hf.mono (fun a j h => Or.inr h)), fun _ => ?_⟩
    · rw [if_neg (by rw [ebw]; exact h9), ← hq0]
    · rw [← hq0]; exact hfd
theorem cM_find {P : Pb} {m : Nat} (hP : WFP P) (h12 : sm (bg P.2.2.2.1) 8 ≤ 12) (hX : PM B σ P) (hC : WyM σ P) (hm0 : m < tot P) :
    MT ll B 2 0 0 yX3_find cX3_find 11 (some .int) [.ref (B.1 + 157), .long (lN m)] σ (pI fun v σ' => v = nI (wlen P (cnum P) (nS P - 1, 4, m)) ∧ FrR (fun a _ => a = 184) σ σ' ∧ FdM σ' P (cnum P) (nS P - 1, 4, m) (wlen P (cnum P) (nS P - 1, 4, m))) := by
  have h10 := hP.1
  have hnS := nS_le hP
  have hpos := nS_pos P
  have h1 : nS P ≠ 1 := fun e => by rw [tot, if_pos e] at hm0; omega
  have hmc : m < cnt P (nS P - 1) 4 := by rw [tot, if_neg h1] at hm0; exact hm0
  have hM := hX.1
  have hn := hM.n
  have hwh := hX.2.2.2.2.1
  have hd12 : ∀ r, ds P r ≤ 12 := fun r => Nat.le_trans (sm_mono 8 (fun x _ => dg_le _ _ _)) h12
  obtain ⟨q0, hq0⟩ : ∃ q0 : Wy, q0 = (nS P - 1, 4, m) := ⟨_, rfl⟩
  have hI0 : q0.2.2 < cnt P q0.1 q0.2.1 := by rw [hq0]; exact hmc
  have hqS : q0.1 < nS P := by rw [hq0]; show nS P - 1 < nS P; omega
  obtain ⟨w1, w2, w3⟩ := wlen_ok hP (num_on hP) (I := fun q => q.2.2 < cnt P q.1 q.2.1) hI0 hqS
  have w12 := hd12 q0.1
  have hin := fun i (hi : i ≤ wlen P (cnum P) q0) => wpath_in hP (num_on hP) (I := fun q => q.2.2 < cnt P q.1 q.2.1) hI0 hqS i (fun j hj => w3 j (by omega))
  have hkind : ∀ i, i ≤ wlen P (cnum P) q0 → (wpath P (cnum P) q0 i).2.1 < 5 := by
    intro i hi
    cases i with
    | zero => rw [hq0]; show 4 < 5; omega
    | succ i =>
      have h2 := (num_on hP _ (hin i (by omega)).1 (w3 i (by omega)) (hin i (by omega)).2.1).1
      have := (hP.2.1 _ h2).1
      show P.2.2.1 _ < 5
      omega
  rw [← hq0]
  refine MT.of (by decide) (Nat.le_of_ble_eq_true rfl) (fun g hg hr => ?_)
  refine y_lload_n hg dX3_find_0 rfl ?_
  refine y_lstore_n hg dX3_find_1 (by decide) (lv1 := [(0, _), (1, _), (3, _)]) rfl ?_
  refine y_aload_n hg dX3_find_2 rfl ?_
  refine y_geti (j := 31) hg cf3 (hM.m) (by decide) rfl q942 dX3_find_3 ?_
  refine y_ti (hwh) ?_
  refine y_istore hg dX3_find_6 (by decide) (lv1 := [(0, _), (1, _), (3, _), (5, _)]) rfl ?_
  refine y_iconst (v := nI 4) hg dX3_find_8 rfl ?_
  refine y_istore hg dX3_find_9 (by decide) (lv1 := [(0, _), (1, _), (3, _), (5, _), (6, _)]) rfl ?_
  refine y_iconst (v := nI 0) hg dX3_find_11 rfl ?_
  refine y_istore hg dX3_find_12 (by decide) (lv1 := [(0, _), (1, _), (3, _), (5, _), (6, _), (7, _)]) rfl ?_
  have LOOP := loop_st (S := Mem) (G := fun i s => YY g 11 s 0 0 14 [(0, .ref (B.1 + 157)), (1, .long (lN m)), (3, .long (lN (wpath P (cnum P) q0 i).2.2)), (5, .int (nI (wpath P (cnum P) q0 i).1)), (6, .int (nI (wpath P (cnum P) q0 i).2.1)), (7, .int (nI i))] []) (I := fun i s => FrR (fun a _ => a = 184) σ s ∧ FdM s P (cnum P) q0 i) (wlen P (cnum P) q0) ?_ ?_ 0 σ (Nat.zero_le _) ⟨FrR.rf, fun i hi => absurd hi (by omega)⟩
  · rw [show wpath P (cnum P) q0 0 = q0 from rfl, hq0] at LOOP
    exact LOOP
  · intro i s hi hI ih
    obtain ⟨hf, hfd⟩ := hI
    have hXs := hX.fr hf (fun a j h => by unfold EM; omega)
    have hM := hXs.1
    have hri := w3 i hi
    obtain ⟨hIi, hSi, -⟩ := hin i (by omega)
    have hki := hkind i (by omega)
    obtain ⟨y1, y2, y3⟩ := num_on hP _ hIi hri hSi
    have hle := stp_le y2
    have e1 : (wpath P (cnum P) q0 (i + 1)).1 = (wpath P (cnum P) q0 i).1 - stp P (wword P (cnum P) q0 i) := rfl
    have e2 : (wpath P (cnum P) q0 (i + 1)).2.1 = P.2.2.1 (wword P (cnum P) q0 i) := rfl
    have e3 : (wpath P (cnum P) q0 (i + 1)).2.2 = (wpath P (cnum P) q0 i).2.2 - sm (cw P (wpath P (cnum P) q0 i).1 (wpath P (cnum P) q0 i).2.1) (wword P (cnum P) q0 i) := rfl
    have y4 : (wpath P (cnum P) q0 i).2.2 < sm (cw P (wpath P (cnum P) q0 i).1 (wpath P (cnum P) q0 i).2.1) (wword P (cnum P) q0 i + 1) ∧ ∀ v, v < wword P (cnum P) q0 i → sm (cw P (wpath P (cnum P) q0 i).1 (wpath P (cnum P) q0 i).2.1) (v + 1) ≤ (wpath P (cnum P) q0 i).2.2 := by
      have hex : ∃ w, w < P.1 ∧ decide ((wpath P (cnum P) q0 i).2.2 < sm (cw P (wpath P (cnum P) q0 i).1 (wpath P (cnum P) q0 i).2.1) (w + 1)) = true := by
        have := hIi
        rw [cnt_s hP _ hri] at this
        rcases Nat.eq_zero_or_pos P.1 with z | z
        · rw [z] at this; exact absurd this (Nat.not_lt_zero _)
        · exact ⟨P.1 - 1, by omega, by rw [show P.1 - 1 + 1 = P.1 by omega]; exact decide_eq_true this⟩
      obtain ⟨-, z2, z3⟩ := lw_ex hex
      exact ⟨of_decide_eq_true z2, fun v hv => Nat.not_lt.mp (of_decide_eq_false (z3 v hv))⟩
    have ew : wword P (cnum P) q0 i = (cnum P (wpath P (cnum P) q0 i)).1 := rfl
    rw [← ew] at y1 y2 hle
    rw [e1, e2, e3] at ih
    have hcb := cnt_b hP (wpath P (cnum P) q0 i).2.1 hSi
    clear e1 e2 e3 ew y3
    generalize (wpath P (cnum P) q0 i).1 = r at *
    generalize (wpath P (cnum P) q0 i).2.1 = k at *
    generalize (wpath P (cnum P) q0 i).2.2 = mm at *
    generalize hwq : wword P (cnum P) q0 i = wq at *
    obtain ⟨y4, y5⟩ := y4
    have hcw : ∀ w, w < P.1 → cw P r k w ≤ 10000000000000 := by
      intro w hw
      unfold cw
      by_cases hmy : mayB P w r k = true
      · rw [if_pos hmy]
        have := stp_pos hP hw
        exact cnt_b hP _ (by omega)
      · rw [if_neg hmy]; omega
    have hev : ∀ w, w < P.1 → fitB P w r = true → 0 < r - stp P w → s.2.2.2.1 179 (5 * (r - stp P w) + P.2.2.1 w) = lN (cnt P (r - stp P w) (P.2.2.1 w)) := fun w hw hft h0 => by
      have h2 := stp_pos hP hw
      have h3 := (hP.2.1 w hw).1
      rw [hf.l (by omega) (by omega), hC _ _ (by omega) (by omega), wy, if_neg (by omega)]
    -- the word w is tried, from its number on
    have T : ∀ (w : Nat) (x9 : Int64), w ≤ wq → (YY g 11 s 0 0 64 [(0, .ref (B.1 + 157)), (1, .long (lN m)), (3, .long (lN (mm - sm (cw P r k) w))), (5, .int (nI r)), (6, .int (nI k)), (7, .int (nI i)), (8, .int (nI w)), (9, .long (lN (cw P r k w)))] []) → YY g 11 s 0 0 33 [(0, .ref (B.1 + 157)), (1, .long (lN m)), (3, .long (lN (mm - sm (cw P r k) w))), (5, .int (nI r)), (6, .int (nI k)), (7, .int (nI i)), (8, .int (nI w)), (9, .long x9)] [] := by
      intro w x9 hw hK
      have hwP : w < P.1 := by omega
      refine y_aload_n hg dX3_find_33 rfl ?_
      refine y_iload hg dX3_find_34 rfl ?_
      refine y_iload hg dX3_find_36 rfl ?_
      refine y_iload hg dX3_find_38 rfl ?_
      refine y_cVi hg (cM_mayCome hP hXs hwP hSi hki) iX3_mayCome q1150 (hM.m) cf3 rfl rfl (by simp [Value.category]) (Nat.le_refl _) (Nat.le_refl _) (by decide) dX3_find_40 (fun r σ1 hp => ?_)
      obtain ⟨rfl, rfl⟩ := hp
      refine y_if_eq hg 61 dX3_find_43 (by decide) (fun hc => ?_) (fun hc => ?_)
      · refine y_lconst (v := 0) hg dX3_find_61 rfl ?_
        refine y_lstore hg dX3_find_62 (by decide) (lv1 := [(0, _), (1, _), (3, _), (5, _), (6, _), (7, _), (8, _), (9, _)]) rfl ?_
        have e : lN (cw P r k w) = 0 := by rw [cw, if_neg (by rw [(b2_eq _).mp hc]; decide)]; rfl
        rw [e] at hK
        exact hK
      · have hmay := (b2_ne _).mp hc
        refine y_aload_n hg dX3_find_46 rfl ?_
        refine y_aload_n hg dX3_find_47 rfl ?_
        refine y_getr (j := 34) hg cf3 (hM.m) (by decide) rfl (hM.r_ways) q945 dX3_find_48 ?_
        refine y_iload hg dX3_find_51 rfl ?_
        refine y_iload hg dX3_find_53 rfl ?_
        refine y_cVl hg (cM_endsAs hP hXs hwP hSi (may_fit hmay) (hev w hwP (may_fit hmay))) iX3_endsAs q1154 (hM.m) cf3 rfl rfl (by simp [Value.category]) (Nat.le_refl _) (Nat.le_refl _) (by decide) dX3_find_55 (fun r σ1 hp => ?_)
        obtain ⟨rfl, rfl⟩ := hp
        refine y_goto hg 62 dX3_find_58 (by decide) ?_
        refine y_lstore hg dX3_find_62 (by decide) (lv1 := [(0, _), (1, _), (3, _), (5, _), (6, _), (7, _), (8, _), (9, _)]) rfl ?_
        have e : lN (cw P r k w) = lN (cnt P (r - stp P w) (P.2.2.1 w)) := by rw [cw, if_pos hmay]
        rw [e] at hK
        exact hK
    have K := loop_up (G := fun w => YY g 11 s 0 0 64 [(0, .ref (B.1 + 157)), (1, .long (lN m)), (3, .long (lN (mm - sm (cw P r k) w))), (5, .int (nI r)), (6, .int (nI k)), (7, .int (nI i)), (8, .int (nI w)), (9, .long (lN (cw P r k w)))] []) wq (by
      intro w hw ih2
      have hge := y5 w hw
      have hge' : sm (cw P r k) w + cw P r k w ≤ mm := hge
      have hcc := hcw w (by omega)
      have hsub : lN (mm - sm (cw P r k) w) - lN (cw P r k w) = lN (mm - sm (cw P r k) (w + 1)) := by
        rw [lN_sub (by omega), show sm (cw P r k) (w + 1) = sm (cw P r k) w + cw P r k w from rfl, Nat.sub_sub]
      refine y_lload_n hg dX3_find_64 rfl ?_
      refine y_lload hg dX3_find_65 rfl ?_
      refine y_lc_ge hg 25 dX3_find_67 dX3_find_68 (by decide) (fun _ => ?_) (fun hF => absurd ((pk_lLE (by omega) (by omega)).mpr (by omega)) hF)
      refine y_lload_n hg dX3_find_25 rfl ?_
      refine y_lload hg dX3_find_26 rfl ?_
      refine y_lsub hg dX3_find_28 ?_
      refine y_tl (hsub) ?_
      refine y_lstore_n hg dX3_find_29 (by decide) (lv1 := [(0, _), (1, _), (3, _), (5, _), (6, _), (7, _), (8, _), (9, _)]) rfl ?_
      refine y_iinc hg dX3_find_30 rfl (inc1 _) (by decide) (lv1 := [(0, _), (1, _), (3, _), (5, _), (6, _), (7, _), (8, _), (9, _)]) rfl ?_
      exact T (w + 1) _ (by omega) ih2) (by
      have hcc := hcw wq y1
      have hlt : mm - sm (cw P r k) wq < cw P r k wq := by
        have : sm (cw P r k) (wq + 1) = sm (cw P r k) wq + cw P r k wq := rfl
        have h0 : sm (cw P r k) wq ≤ mm := by
          cases wq with
          | zero => exact Nat.zero_le _
          | succ v => exact y5 v (by omega)
        omega
      have hpr := hXs.2.2.2.2.2.2.1 wq y1
      have hkd := (hXs.2.1.2 wq y1).1
      refine y_lload_n hg dX3_find_64 rfl ?_
      refine y_lload hg dX3_find_65 rfl ?_
      refine y_lc_ge hg 25 dX3_find_67 dX3_find_68 (by decide) (fun hT => absurd hT ((fun h => by have := (pk_lLE (by omega) (by omega)).mp h; omega))) (fun _ => ?_)
      refine y_aload_n hg dX3_find_71 rfl ?_
      refine y_getr (j := 39) hg cf3 (hM.m) (by decide) rfl (hM.r_found) q950 dX3_find_72 ?_
      refine y_iload hg dX3_find_75 rfl ?_
      refine y_iload hg dX3_find_77 rfl ?_
      refine y_iast hg _ (hM.k_found) rfl (by omega) dX3_find_79 ?_
      refine y_iinc hg dX3_find_80 rfl (inc1 _) (by decide) (lv1 := [(0, _), (1, _), (3, _), (5, _), (6, _), (7, _), (8, _), (9, _)]) rfl ?_
      refine y_iload hg dX3_find_83 rfl ?_
      refine y_aload_n hg dX3_find_85 rfl ?_
      refine y_getr (j := 33) hg cf3 (hM.m) (by decide) rfl (hM.r_price) q944 dX3_find_86 ?_
      refine y_iload hg dX3_find_89 rfl ?_
      refine y_iald hg _ (hM.k_price) rfl (by omega) dX3_find_91 ?_
      refine y_ti ((gI_n (by omega)).trans hpr) ?_
      refine y_isub hg dX3_find_92 ?_
      refine y_ti (pk_sub hle) ?_
      refine y_istore hg dX3_find_93 (by decide) (lv1 := [(0, _), (1, _), (3, _), (5, _), (6, _), (7, _), (8, _), (9, _)]) rfl ?_
      refine y_aload_n hg dX3_find_95 rfl ?_
      refine y_getr (j := 5) hg cf3 (hM.m) (by decide) rfl (hM.r_kind) q916 dX3_find_96 ?_
      refine y_iload hg dX3_find_99 rfl ?_
      refine y_iald hg _ (hM.k_kind) rfl (by omega) dX3_find_101 ?_
      refine y_ti ((gI_n (by omega)).trans hkd) ?_
      refine y_istore hg dX3_find_102 (by decide) (lv1 := [(0, _), (1, _), (3, _), (5, _), (6, _), (7, _), (8, _), (9, _)]) rfl ?_
      refine y_goto hg 14 dX3_find_104 (by decide) ?_
      refine y_sub [0, 1, 2, 3, 4, 5] rfl (ih _ ⟨hf.stI rfl, fun j hj => ?_⟩)
      by_cases e : j = i
      · subst e; rw [hwq]; exact gI_s
      · exact (gI_n (by omega)).trans (hfd j (by omega))) 0 (Nat.zero_le _)
    refine y_iload hg dX3_find_14 rfl ?_
    refine y_if_le hg 107 dX3_find_16 (by decide) (fun hT => absurd hT (nI_nle hri (by omega))) (fun _ => ?_)
    refine y_iconst (v := -1) hg dX3_find_19 rfl ?_
    refine y_istore hg dX3_find_20 (by decide) (lv1 := [(0, _), (1, _), (3, _), (5, _), (6, _), (7, _), (8, _)]) rfl ?_
    refine y_lconst (v := 0) hg dX3_find_22 rfl ?_
    refine y_lstore hg dX3_find_23 (by decide) (lv1 := [(0, _), (1, _), (3, _), (5, _), (6, _), (7, _), (8, _), (9, _)]) rfl ?_
    refine y_lload_n hg dX3_find_25 rfl ?_
    refine y_lload hg dX3_find_26 rfl ?_
    refine y_lsub hg dX3_find_28 ?_
    refine y_tl (Int64.sub_zero _) ?_
    refine y_lstore_n hg dX3_find_29 (by decide) (lv1 := [(0, _), (1, _), (3, _), (5, _), (6, _), (7, _), (8, _), (9, _)]) rfl ?_
    refine y_iinc hg dX3_find_30 rfl (show (-1 : Int32) + Int32.ofInt 1 = nI 0 from rfl) (by decide) (lv1 := [(0, _), (1, _), (3, _), (5, _), (6, _), (7, _), (8, _), (9, _)]) rfl ?_
    exact T 0 0 (Nat.zero_le _) K
  · intro s hI
    obtain ⟨hf, hfd⟩ := hI
    rw [w2]
    refine y_iload hg dX3_find_14 rfl ?_
    refine y_if_le hg 107 dX3_find_16 (by decide) (fun _ => ?_) (fun hF => absurd ((by decide)) hF)
    refine y_iload hg dX3_find_107 rfl ?_
    refine y_iret hg hr ⟨_, rfl, ?_⟩ dX3_find_109 (Nat.le_refl _) (Nat.le_refl _)
    exact ⟨rfl, hf, hfd⟩
end MFind

