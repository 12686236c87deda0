section XLay
variable {ll : Launch} {B : Bs}
/-- what is found is a way's row -/
def FdX (σ : Mem) (P : Pb) (c : Wy → Nat × Nat) (q : Wy) (n : Nat) : Prop := σ.2.2.1 0 13 = nI n ∧ ∀ i, i < n → σ.2.2.1 15 i = nI (wword P c q i)
theorem FdX.fr {σ σ' : Mem} {P : Pb} {c : Wy → Nat × Nat} {q : Wy} {n : Nat} {Q : Nat → Nat → Prop} (h : FdX σ P c q n) (hf : FrR Q σ σ') (hn : 15 < σ.2.1) (hq : ¬ Q 0 13 ∧ ∀ j, ¬ Q 15 j) : FdX σ' P c q n := ⟨(hf.i (by omega) hq.1).trans h.1, fun i hi => (hf.i hn (hq.2 i)).trans (h.2 i hi)⟩
theorem sub_iff (a d p : Int32) : (a = d - p) ↔ (a + p = d) := ⟨fun h => by rw [h, Int32.sub_add_cancel], fun h => by rw [← h, Int32.add_sub_cancel]⟩
theorem lead_eq (P : Pb) (r k w : Nat) : (mayB P w r k && (decide (¬ wb P r w = -9) && decide (wb P r w = wor P r k - rk P w))) = leadB P r k w := by
  have e : decide (wb P r w = wor P r k - rk P w) = decide (wb P r w + rk P w = wor P r k) := decide_eq_decide.mpr (sub_iff _ _ _)
  rw [leadB, e]
/-- the greatest worth; none -/
def bw (P : Pb) : Int32 := if nS P = 1 then -9 else wor P (nS P - 1) 4
def BP : Nat → Nat → Prop := fun a j => a = 13 ∨ a = 15 ∨ (a = 0 ∧ j = 13)
theorem cX_layBest {P : Pb} {ko : Nat} {σ : Mem} (hP : WFP P) (hR : WFR P) (h12 : sm (bg P.2.2.2.1) 8 ≤ 12) (hX : PX B σ P ko) (hC : MWm σ P) :
    MT ll B 17 0 0 yX0_layBest cX0_layBest 6 (some .int) [.ref (B.1 + 0)] σ (pI fun v σ' => v = bw P ∧ FrR BP σ σ' ∧ MWm σ' P ∧ (¬ bw P = -9 → FdX σ' P (cbest P) (nS P - 1, 4, 0) (wlen P (cbest P) (nS P - 1, 4, 0)))) := by
  have h10 := hP.1
  have hnS := nS_le hP
  have hpos := nS_pos P
  have hL0 := hX.1
  have hL := hL0
  have hn := hL.n
  have hs := hX.2.2.2.2.2.2.2.1
  have hd12 : ∀ r, ds P r ≤ 12 := fun r => Nat.le_trans (sm_mono 8 (fun x _ => dg_le _ _ _)) h12
  have hepb : ∀ a j, BP a j → EP a j := fun a j h => by unfold BP at h; unfold EP; omega
  refine MT.of (by decide) (Nat.le_of_ble_eq_true rfl) (fun g hg hr => ?_)
  refine y_aload_n hg dX0_layBest_0 rfl ?_
  refine y_iconst (v := nI 0) hg dX0_layBest_1 rfl ?_
  refine y_puti (j := 13) hg cf0 (hL.x) (by decide) rfl rfl q185 dX0_layBest_2 ?_
  refine y_aload_n hg dX0_layBest_5 rfl ?_
  refine y_geti (j := 11) hg cf0 (hL.x) (by decide) rfl q183 dX0_layBest_6 ?_
  refine y_ti ((gI_n (by omega)).trans hs) ?_
  refine y_iconst (v := nI 1) hg dX0_layBest_9 rfl ?_
  refine y_icmp_ne hg 18 dX0_layBest_10 (by decide) (fun hc => ?_) (fun hc => ?_)
  · -- more than nothing in the bag
    have h1 : nS P ≠ 1 := fun e => hc (by rw [e])
    have hf0 : FrR BP σ (setI σ 0 13 (nI 0)) := FrR.rf.stI (by unfold BP; omega)
    have hX0 := hX.fr12 hP hf0 hepb
    have hC0 : MWm (setI σ 0 13 (nI 0)) P := fun r k hr hk => by rw [gI_n (by omega)]; exact hC r k hr hk
    have hz : (setI σ 0 13 (nI 0)).2.2.1 0 13 = nI 0 := gI_s
    generalize setI σ 0 13 (nI 0) = s0 at hf0 hX0 hC0 hz ⊢
    have hL := hX0.1
    have hs0 := hX0.2.2.2.2.2.2.2.1
    have hdd := hd12 (nS P - 1)
    refine y_aload_n hg dX0_layBest_18 rfl ?_
    refine y_aload_n hg dX0_layBest_19 rfl ?_
    refine y_geti (j := 11) hg cf0 (hL.x) (by decide) rfl q183 dX0_layBest_20 ?_
    refine y_ti (hs0) ?_
    refine y_iconst (v := nI 1) hg dX0_layBest_23 rfl ?_
    refine y_isub hg dX0_layBest_24 ?_
    refine y_ti (pk_sub (by omega)) ?_
    refine y_iconst (v := nI 4) hg dX0_layBest_25 rfl ?_
    refine y_cVi hg (cX_worthFrom hP hR (nS P - 1) 4 _ hX0 hC0 (by omega) (by omega)) iX0_worthFrom q530 (hL.x) cf0 rfl rfl (by simp [Value.category]) (Nat.le_refl _) (Nat.le_refl _) (by omega) dX0_layBest_26 (fun r σ1 hp => ?_)
    obtain ⟨rfl, hf1, hm1⟩ := hp
    have hn0 := hX0.1.n
    have hX1 := hX0.fr12 hP hf1 (fun a j h => Or.inr (Or.inl h))
    have hz1 : σ1.2.2.1 0 13 = nI 0 := (hf1.i (by omega) (by omega)).trans hz
    have hfr1 : FrR BP σ σ1 := hf0.tr (hf1.mono (fun a j h => by unfold BP; omega))
    have hL := hX1.1
    have hs1 := hX1.2.2.2.2.2.2.2.1
    have ebw : bw P = wor P (nS P - 1) 4 := by rw [bw, if_neg h1]
    refine y_istore_n hg dX0_layBest_29 (by decide) (lv1 := [(0, _), (1, _)]) rfl ?_
    refine y_iload_n hg dX0_layBest_30 rfl ?_
    refine y_istore_n hg dX0_layBest_31 (by decide) (lv1 := [(0, _), (1, _), (2, _)]) rfl ?_
    refine y_aload_n hg dX0_layBest_32 rfl ?_
    refine y_geti (j := 11) hg cf0 (hL.x) (by decide) rfl q183 dX0_layBest_33 ?_
    refine y_ti (hs1) ?_
    refine y_iconst (v := nI 1) hg dX0_layBest_36 rfl ?_
    refine y_isub hg dX0_layBest_37 ?_
    refine y_ti (pk_sub (by omega)) ?_
    refine y_istore_n hg dX0_layBest_38 (by decide) (lv1 := [(0, _), (1, _), (2, _), (3, _)]) rfl ?_
    refine y_iconst (v := nI 4) hg dX0_layBest_39 rfl ?_
    refine y_istore hg dX0_layBest_40 (by decide) (lv1 := [(0, _), (1, _), (2, _), (3, _), (4, _)]) rfl ?_
    by_cases h9 : wor P (nS P - 1) 4 = -9
    · refine y_iload_n hg dX0_layBest_42 rfl ?_
      refine y_bipush (v := -9) hg dX0_layBest_43 rfl ?_
      refine y_icmp_eq hg 133 dX0_layBest_45 (by decide) (fun _ => ?_) (fun hF => absurd (h9) hF)
      refine y_iload_n hg dX0_layBest_133 rfl ?_
      refine y_iret hg hr ⟨_, rfl, ?_⟩ dX0_layBest_134 (Nat.le_refl _) (Nat.le_refl _)
      exact ⟨ebw.symm, hfr1, hm1, fun h => absurd (ebw.trans h9) h⟩
    · obtain ⟨q0, hq0⟩ : ∃ q0 : Wy, q0 = (nS P - 1, 4, 0) := ⟨_, rfl⟩
      have hI0 : ¬ wor P q0.1 q0.2.1 = -9 := by rw [hq0]; exact h9
      have hqS : q0.1 < nS P := by rw [hq0]; show nS P - 1 < nS P; omega
      obtain ⟨w1, w2, w3⟩ := wlen_ok hP (best_on hP) (I := fun q => ¬ wor P q.1 q.2.1 = -9) hI0 hqS
      have w12 := hd12 q0.1
      have hin := fun i (hi : i ≤ wlen P (cbest P) q0) => wpath_in hP (best_on hP) (I := fun q => ¬ wor P q.1 q.2.1 = -9) hI0 hqS i (fun j hj => w3 j (by omega))
      have hkind : ∀ i, i ≤ wlen P (cbest P) q0 → (wpath P (cbest P) q0 i).2.1 < 5 := by
        intro i hi
        cases i with
        | zero => rw [hq0]; show 4 < 5; omega
        | succ i =>
          have h2 := (best_on hP _ (hin i (by omega)).1 (w3 i (by omega)) (hin i (by omega)).2.1).1
          have := (hP.2.1 _ h2).1
          show P.2.2.1 _ < 5
          omega
      have LOOP := loop_st (S := Mem) (G := fun i s => YY g 6 s 0 0 42 [(0, .ref (B.1 + 0)), (1, .int (wor P (wpath P (cbest P) q0 i).1 (wpath P (cbest P) q0 i).2.1)), (2, .int (wor P (nS P - 1) 4)), (3, .int (nI (wpath P (cbest P) q0 i).1)), (4, .int (nI (wpath P (cbest P) q0 i).2.1))] []) (I := fun i s => FrR BP σ s ∧ MWm s P ∧ FdX s P (cbest P) q0 i) (wlen P (cbest P) q0) ?_ ?_ 0 σ1 (Nat.zero_le _) ⟨hfr1, hm1, hz1, fun i hi => absurd hi (by omega)⟩
      · rw [show wpath P (cbest P) q0 0 = q0 from rfl, hq0] at LOOP
        exact LOOP
      · intro i s hi hI ih
        obtain ⟨hf, hm, hfd⟩ := hI
        have hXs := hX.fr12 hP hf hepb
        have hri := w3 i hi
        obtain ⟨hIi, hSi, -⟩ := hin i (by omega)
        have hki := hkind i (by omega)
        have hrr : wpath P (cbest P) q0 (i + 1) = wstep P (cbest P) (wpath P (cbest P) q0 i) := rfl
        obtain ⟨x1, x2, x3⟩ := lw_ex (lead_ex hP hri hIi)
        have ew : lw (leadB P (wpath P (cbest P) q0 i).1 (wpath P (cbest P) q0 i).2.1) P.1 = wword P (cbest P) q0 i := rfl
        rw [ew] at x1 x2 x3
        have e1 : (wpath P (cbest P) q0 (i + 1)).1 = (wpath P (cbest P) q0 i).1 - stp P (wword P (cbest P) q0 i) := rfl
        have e2 : (wpath P (cbest P) q0 (i + 1)).2.1 = P.2.2.1 (wword P (cbest P) q0 i) := rfl
        have x2' := x2
        rw [leadB, Bool.and_eq_true, Bool.and_eq_true] at x2'
        have hle := stp_le (may_fit x2'.1)
        have hdue : wor P (wpath P (cbest P) q0 i).1 (wpath P (cbest P) q0 i).2.1 - rk P (wword P (cbest P) q0 i) = wor P (wpath P (cbest P) q0 (i + 1)).1 (wpath P (cbest P) q0 (i + 1)).2.1 := ((sub_iff _ _ _).mpr (of_decide_eq_true x2'.2.2)).symm
        rw [e1, e2] at hdue ih
        have hdi := hd12 (wpath P (cbest P) q0 i).1
        generalize (wpath P (cbest P) q0 i).1 = r at *
        generalize (wpath P (cbest P) q0 i).2.1 = k at *
        generalize hwq : wword P (cbest P) q0 i = wq at *
        have hlead := lead_eq P r k
        refine y_iload_n hg dX0_layBest_42 rfl ?_
        refine y_bipush (v := -9) hg dX0_layBest_43 rfl ?_
        refine y_icmp_eq hg 133 dX0_layBest_45 (by decide) (fun hT => absurd hT (hIi)) (fun _ => ?_)
        refine y_iload_n hg dX0_layBest_48 rfl ?_
        refine y_if_le hg 133 dX0_layBest_49 (by decide) (fun hT => absurd hT (nI_nle hri (by omega))) (fun _ => ?_)
        refine y_iconst (v := nI 0) hg dX0_layBest_52 rfl ?_
        refine y_istore hg dX0_layBest_53 (by decide) (lv1 := [(0, _), (1, _), (2, _), (3, _), (4, _), (5, _)]) rfl ?_
        refine (loop_st (S := Mem) (G := fun w s => YY g 6 s 0 0 55 [(0, .ref (B.1 + 0)), (1, .int (wor P r k)), (2, .int (wor P (nS P - 1) 4)), (3, .int (nI r)), (4, .int (nI k)), (5, .int (nI w))] []) (I := fun w s => FrR BP σ s ∧ MWm s P ∧ FdX s P (cbest P) q0 i) wq (fun w s hw hI ih2 => ?_) (fun s hI => ?_) 0 s (Nat.zero_le _) ⟨hf, hm, hfd⟩)
        · obtain ⟨hf, hm, hfd⟩ := hI
          have hXs := hX.fr12 hP hf hepb
          have hns := hXs.1.n
          have hL := hXs.1
          refine y_aload_n hg dX0_layBest_55 rfl ?_
          refine y_iload hg dX0_layBest_56 rfl ?_
          refine y_iload_n hg dX0_layBest_58 rfl ?_
          refine y_iload hg dX0_layBest_59 rfl ?_
          refine y_iload_n hg dX0_layBest_61 rfl ?_
          refine y_cVi hg (cX_leads hP hR hXs hm hSi hki (by omega)) iX0_leads q537 (hL.x) cf0 rfl rfl (by simp [Value.category]) (Nat.le_refl _) (Nat.le_refl _) (by omega) dX0_layBest_62 (fun r σ1 hp => ?_)
          obtain ⟨hv, hf2, hm2⟩ := hp
          refine y_if_ne hg 74 dX0_layBest_65 (by decide) (fun hT => absurd hT ((by rw [hv, hlead, x3 w hw]; decide))) (fun _ => ?_)
          refine y_iinc hg dX0_layBest_68 rfl (inc1 _) (by decide) (lv1 := [(0, _), (1, _), (2, _), (3, _), (4, _), (5, _)]) rfl ?_
          refine y_goto hg 55 dX0_layBest_71 (by decide) ?_
          exact ih2 _ ⟨hf.tr (hf2.mono (fun a j h => by unfold BP; omega)), hm2, hfd.fr hf2 (by omega) ⟨by omega, fun j => by omega⟩⟩
        · obtain ⟨hf, hm, hfd⟩ := hI
          have hXs := hX.fr12 hP hf hepb
          have hns := hXs.1.n
          have hL := hXs.1
          refine y_aload_n hg dX0_layBest_55 rfl ?_
          refine y_iload hg dX0_layBest_56 rfl ?_
          refine y_iload_n hg dX0_layBest_58 rfl ?_
          refine y_iload hg dX0_layBest_59 rfl ?_
          refine y_iload_n hg dX0_layBest_61 rfl ?_
          refine y_cVi hg (cX_leads hP hR hXs hm hSi hki x1) iX0_leads q537 (hL.x) cf0 rfl rfl (by simp [Value.category]) (Nat.le_refl _) (Nat.le_refl _) (by omega) dX0_layBest_62 (fun r σ1 hp => ?_)
          obtain ⟨hv, hf2, hm2⟩ := hp
          refine y_if_ne hg 74 dX0_layBest_65 (by decide) (fun _ => ?_) (fun hF => absurd hF ((by rw [hv, hlead, x2]; decide)))
          have hfd2 := hfd.fr hf2 (by omega) ⟨by omega, fun j => by omega⟩
          have hX2 := hXs.fr12 hP hf2 (fun a j h => Or.inr (Or.inl h))
          have hfr2 := hf.tr (hf2.mono (P' := BP) (fun a j h => by unfold BP; omega))
          have hL := hX2.1
          have hOS := hX2.2.1
          have hOp := hX2.2.2.1
          have hW := hX2.2.2.2.1
          have hrk := hX2.rk hP x1
          have hst := hX2.2.2.2.2.2.2.2.2.1 wq x1
          have hWw := hL.w_words (i := wq) (by omega)
          have hkd := (hW.2 wq x1).1
          have hko := hX2.2.2.2.2.2.2.2.2.2
          have g1 : ∀ (t : Mem) (a j : Nat) (v v' : Int32) (x y : Nat), a ≠ 0 → a ≠ 15 → (setI (setI t 15 x v) 0 13 v').2.2.1 a j = t.2.2.1 a j := fun t a j v v' x y h0 h15 => (gI_n (by omega)).trans (gI_n (by omega))
          refine y_aload_n hg dX0_layBest_74 rfl ?_
          refine y_getr (j := 12) hg cf0 (hL.x) (by decide) rfl (hL.r_found) q184 dX0_layBest_75 ?_
          refine y_aload_n hg dX0_layBest_78 rfl ?_
          refine y_geti (j := 13) hg cf0 (hL.x) (by decide) rfl q185 dX0_layBest_79 ?_
          refine y_ti (hfd2.1) ?_
          refine y_iload hg dX0_layBest_82 rfl ?_
          refine y_iast hg _ (hL.k_found) rfl (by omega) dX0_layBest_84 ?_
          refine y_aload_n hg dX0_layBest_85 rfl ?_
          refine y_dup hg dX0_layBest_86 rfl ?_
          refine y_geti (j := 13) hg cf0 (hL.x) (by decide) rfl q185 dX0_layBest_87 ?_
          refine y_ti ((gI_n (by omega)).trans hfd2.1) ?_
          refine y_iconst (v := nI 1) hg dX0_layBest_90 rfl ?_
          refine y_iadd hg dX0_layBest_91 ?_
          refine y_ti (nI_add _ _) ?_
          refine y_puti (j := 13) hg cf0 (hL.x) (by decide) rfl rfl q185 dX0_layBest_92 ?_
          refine y_iload_n hg dX0_layBest_95 rfl ?_
          refine y_aload_n hg dX0_layBest_96 rfl ?_
          refine y_getr (j := 4) hg cf0 (hL.x) (by decide) rfl (hOp) q176 dX0_layBest_97 ?_
          refine y_getrN (j := 2) hg cf1 (hOS.o) (by decide) rfl (hOS.r_ranks) nf2 dX0_layBest_100 ?_
          refine y_iload hg dX0_layBest_103 rfl ?_
          refine y_iald hg _ (hOS.k_ranks) rfl (by omega) dX0_layBest_105 ?_
          refine y_ti ((g1 _ _ _ _ _ _ 0 (by omega) (by omega)).trans hrk) ?_
          refine y_isub hg dX0_layBest_106 ?_
          refine y_ti (hdue) ?_
          refine y_istore_n hg dX0_layBest_107 (by decide) (lv1 := [(0, _), (1, _), (2, _), (3, _), (4, _), (5, _)]) rfl ?_
          refine y_iload_n hg dX0_layBest_108 rfl ?_
          refine y_aload_n hg dX0_layBest_109 rfl ?_
          refine y_getr (j := 10) hg cf0 (hL.x) (by decide) rfl (hL.r_steps) q182 dX0_layBest_110 ?_
          refine y_iload hg dX0_layBest_113 rfl ?_
          refine y_iald hg _ (hL.k_steps) rfl (by omega) dX0_layBest_115 ?_
          refine y_ti ((g1 _ _ _ _ _ _ 0 (by omega) (by omega)).trans hst) ?_
          refine y_isub hg dX0_layBest_116 ?_
          refine y_ti (pk_sub hle) ?_
          refine y_istore_n hg dX0_layBest_117 (by decide) (lv1 := [(0, _), (1, _), (2, _), (3, _), (4, _), (5, _)]) rfl ?_
          refine y_aload_n hg dX0_layBest_118 rfl ?_
          refine y_getr (j := 0) hg cf0 (hL.x) (by decide) rfl (hL.r_words) q172 dX0_layBest_119 ?_
          refine y_iload hg dX0_layBest_122 rfl ?_
          refine y_aald3 hg _ (hL.k_words) rfl (by omega) (hL.e_words (i := wq) (by omega)) dX0_layBest_124 ?_
          refine y_getiN (j := 2) hg cf2 (hWw.o) (by decide) rfl nf8 dX0_layBest_125 ?_
          refine y_ti ((g1 _ _ _ _ _ _ 0 (by omega) (by omega)).trans hkd) ?_
          refine y_istore hg dX0_layBest_128 (by decide) (lv1 := [(0, _), (1, _), (2, _), (3, _), (4, _), (5, _)]) rfl ?_
          refine y_goto hg 42 dX0_layBest_130 (by decide) ?_
          refine y_sub [0, 1, 2, 3, 4] rfl (ih _ ⟨(hfr2.stI (by unfold BP; omega)).stI (by unfold BP; omega), fun r k hr hk => ?_, gI_s, fun j hj => ?_⟩)
          · rw [g1 _ _ _ _ _ _ 0 (by omega) (by omega)]; exact hm2 r k hr hk
          · rw [gI_n (by omega)]
            by_cases e : j = i
            · subst e; rw [hwq]; exact gI_s
            · rw [gI_n (by omega)]; exact hfd2.2 j (by omega)
      · intro s hI
        obtain ⟨hf, hm, hfd⟩ := hI
        obtain ⟨hIi, hSi, -⟩ := hin _ (Nat.le_refl _)
        rw [w2] at hIi ⊢
        refine y_iload_n hg dX0_layBest_42 rfl ?_
        refine y_bipush (v := -9) hg dX0_layBest_43 rfl ?_
        refine y_icmp_eq hg 133 dX0_layBest_45 (by decide) (fun hT => absurd hT (hIi)) (fun _ => ?_)
        refine y_iload_n hg dX0_layBest_48 rfl ?_
        refine y_if_le hg 133 dX0_layBest_49 (by decide) (fun _ => ?_) (fun hF => absurd ((by decide)) hF)
        refine y_iload_n hg dX0_layBest_133 rfl ?_
        refine y_iret hg hr ⟨_, rfl, ?_⟩ dX0_layBest_134 (Nat.le_refl _) (Nat.le_refl _)
        exact ⟨ebw.symm, hf, hm, fun _ => by rw [← hq0]; exact hfd⟩
  · have h1 : nS P = 1 := nI_inj (by omega) (by decide) hc
    have ebw : bw P = -9 := by rw [bw, if_pos h1]
    refine y_bipush (v := -9) hg dX0_layBest_13 rfl ?_
    refine y_goto hg 29 dX0_layBest_15 (by decide) ?_
    refine y_istore_n hg dX0_layBest_29 (by decide) (lv1 := [(0, _), (1, _)]) rfl ?_
    refine y_iload_n hg dX0_layBest_30 rfl ?_
    refine y_istore_n hg dX0_layBest_31 (by decide) (lv1 := [(0, _), (1, _), (2, _)]) rfl ?_
    refine y_aload_n hg dX0_layBest_32 rfl ?_
    refine y_geti (j := 11) hg cf0 (hL.x) (by decide) rfl q183 dX0_layBest_33 ?_
    refine y_ti ((gI_n (by omega)).trans hs) ?_
    refine y_iconst (v := nI 1) hg dX0_layBest_36 rfl ?_
    refine y_isub hg dX0_layBest_37 ?_
    refine y_ti (pk_sub (by omega)) ?_
    refine y_istore_n hg dX0_layBest_38 (by decide) (lv1 := [(0, _), (1, _), (2, _), (3, _)]) rfl ?_
    refine y_iconst (v := nI 4) hg dX0_layBest_39 rfl ?_
    refine y_istore hg dX0_layBest_40 (by decide) (lv1 := [(0, _), (1, _), (2, _), (3, _), (4, _)]) rfl ?_
    refine y_iload_n hg dX0_layBest_42 rfl ?_
    refine y_bipush (v := -9) hg dX0_layBest_43 rfl ?_
    refine y_icmp_eq hg 133 dX0_layBest_45 (by decide) (fun _ => ?_) (fun hF => absurd (rfl) hF)
    refine y_iload_n hg dX0_layBest_133 rfl ?_
    refine y_iret hg hr ⟨_, rfl, ?_⟩ dX0_layBest_134 (Nat.le_refl _) (Nat.le_refl _)
    exact ⟨ebw.symm, FrR.rf.stI (by unfold BP; omega), fun r k hr hk => by rw [gI_n (by omega)]; exact hC r k hr hk, fun h => absurd ebw h⟩
end XLay

