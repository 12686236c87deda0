section XNum
variable {ll : Launch} {B : Bs}
def NP : Nat → Nat → Prop := fun a j => a = 12 ∨ a = 15 ∨ (a = 0 ∧ j = 13)
theorem MC.st {σ : Mem} {P : Pb} {k j : Nat} {v : Int32} (h : MC σ P) : MC (setI σ k j v) P := h
theorem cX_layNumber {P : Pb} {ko m : Nat} {σ : Mem} (hP : WFP P) (h12 : sm (bg P.2.2.2.1) 8 ≤ 12) (hX : PX B σ P ko) (hC : MC σ P) (hm0 : m < tot P) :
    MT ll B 17 0 0 yX0_layNumber cX0_layNumber 11 (some .int) [.ref (B.1 + 0), .long (lN m)] σ (pI fun v σ' => v = wsum P (cnum P) (nS P - 1, 4, m) (wlen P (cnum P) (nS P - 1, 4, m)) ∧ FrR NP σ σ' ∧ MC σ' P ∧ FdX σ' P (cnum P) (nS P - 1, 4, m) (wlen P (cnum P) (nS P - 1, 4, m))) := by
  have h10 := hP.1
  have hnS := nS_le hP
  have hpos := nS_pos P
  have h1 : nS P ≠ 1 := fun e => by rw [tot, if_pos e] at hm0; omega
  have hmc : m < cnt P (nS P - 1) 4 := by rw [tot, if_neg h1] at hm0; exact hm0
  have hL := hX.1
  have hn := hL.n
  have hs := hX.2.2.2.2.2.2.2.1
  have hd12 : ∀ r, ds P r ≤ 12 := fun r => Nat.le_trans (sm_mono 8 (fun x _ => dg_le _ _ _)) h12
  have hepb : ∀ a j, NP a j → EP a j := fun a j h => by unfold NP at h; unfold EP; omega
  obtain ⟨q0, hq0⟩ : ∃ q0 : Wy, q0 = (nS P - 1, 4, m) := ⟨_, rfl⟩
  have hI0 : q0.2.2 < cnt P q0.1 q0.2.1 := by rw [hq0]; exact hmc
  have hqS : q0.1 < nS P := by rw [hq0]; show nS P - 1 < nS P; omega
  obtain ⟨w1, w2, w3⟩ := wlen_ok hP (num_on hP) (I := fun q => q.2.2 < cnt P q.1 q.2.1) hI0 hqS
  have w12 := hd12 q0.1
  have hin := fun i (hi : i ≤ wlen P (cnum P) q0) => wpath_in hP (num_on hP) (I := fun q => q.2.2 < cnt P q.1 q.2.1) hI0 hqS i (fun j hj => w3 j (by omega))
  have hkind : ∀ i, i ≤ wlen P (cnum P) q0 → (wpath P (cnum P) q0 i).2.1 < 5 := by
    intro i hi
    cases i with
    | zero => rw [hq0]; show 4 < 5; omega
    | succ i =>
      have h2 := (num_on hP _ (hin i (by omega)).1 (w3 i (by omega)) (hin i (by omega)).2.1).1
      have := (hP.2.1 _ h2).1
      show P.2.2.1 _ < 5
      omega
  rw [← hq0]
  refine MT.of (by decide) (Nat.le_of_ble_eq_true rfl) (fun g hg hr => ?_)
  refine y_aload_n hg dX0_layNumber_0 rfl ?_
  refine y_iconst (v := nI 0) hg dX0_layNumber_1 rfl ?_
  refine y_puti (j := 13) hg cf0 (hL.x) (by decide) rfl rfl q185 dX0_layNumber_2 ?_
  refine y_lload_n hg dX0_layNumber_5 rfl ?_
  refine y_lstore_n hg dX0_layNumber_6 (by decide) (lv1 := [(0, _), (1, _), (3, _)]) rfl ?_
  refine y_iconst (v := nI 0) hg dX0_layNumber_7 rfl ?_
  refine y_istore hg dX0_layNumber_8 (by decide) (lv1 := [(0, _), (1, _), (3, _), (5, _)]) rfl ?_
  refine y_aload_n hg dX0_layNumber_10 rfl ?_
  refine y_geti (j := 11) hg cf0 (hL.x) (by decide) rfl q183 dX0_layNumber_11 ?_
  refine y_ti ((gI_n (by omega)).trans hs) ?_
  refine y_iconst (v := nI 1) hg dX0_layNumber_14 rfl ?_
  refine y_isub hg dX0_layNumber_15 ?_
  refine y_ti (pk_sub (by omega)) ?_
  refine y_istore hg dX0_layNumber_16 (by decide) (lv1 := [(0, _), (1, _), (3, _), (5, _), (6, _)]) rfl ?_
  refine y_iconst (v := nI 4) hg dX0_layNumber_18 rfl ?_
  refine y_istore hg dX0_layNumber_19 (by decide) (lv1 := [(0, _), (1, _), (3, _), (5, _), (6, _), (7, _)]) rfl ?_
  have LOOP := loop_st (S := Mem) (G := fun i s => YY g 11 s 0 0 21 [(0, .ref (B.1 + 0)), (1, .long (lN m)), (3, .long (lN (wpath P (cnum P) q0 i).2.2)), (5, .int (wsum P (cnum P) q0 i)), (6, .int (nI (wpath P (cnum P) q0 i).1)), (7, .int (nI (wpath P (cnum P) q0 i).2.1))] []) (I := fun i s => FrR NP σ s ∧ MC s P ∧ FdX s P (cnum P) q0 i) (wlen P (cnum P) q0) ?_ ?_ 0 (setI σ 0 13 (nI 0)) (Nat.zero_le _) ⟨FrR.rf.stI (by unfold NP; omega), hC, gI_s, fun i hi => absurd hi (by omega)⟩
  · rw [show wpath P (cnum P) q0 0 = q0 from rfl, hq0] at LOOP
    exact LOOP
  · intro i s hi hI ih
    obtain ⟨hf, hm, hfd⟩ := hI
    have hri := w3 i hi
    obtain ⟨hIi, hSi, -⟩ := hin i (by omega)
    have hki := hkind i (by omega)
    obtain ⟨y1, y2, y3⟩ := num_on hP _ hIi hri hSi
    have hle := stp_le y2
    have e1 : (wpath P (cnum P) q0 (i + 1)).1 = (wpath P (cnum P) q0 i).1 - stp P (wword P (cnum P) q0 i) := rfl
    have e2 : (wpath P (cnum P) q0 (i + 1)).2.1 = P.2.2.1 (wword P (cnum P) q0 i) := rfl
    have e3 : (wpath P (cnum P) q0 (i + 1)).2.2 = (wpath P (cnum P) q0 i).2.2 - sm (cw P (wpath P (cnum P) q0 i).1 (wpath P (cnum P) q0 i).2.1) (wword P (cnum P) q0 i) := rfl
    have e4 : wsum P (cnum P) q0 (i + 1) = wsum P (cnum P) q0 i + rk P (wword P (cnum P) q0 i) := rfl
    have y4 : (wpath P (cnum P) q0 i).2.2 < sm (cw P (wpath P (cnum P) q0 i).1 (wpath P (cnum P) q0 i).2.1) (wword P (cnum P) q0 i + 1) ∧ ∀ v, v < wword P (cnum P) q0 i → sm (cw P (wpath P (cnum P) q0 i).1 (wpath P (cnum P) q0 i).2.1) (v + 1) ≤ (wpath P (cnum P) q0 i).2.2 := by
      have hex : ∃ w, w < P.1 ∧ decide ((wpath P (cnum P) q0 i).2.2 < sm (cw P (wpath P (cnum P) q0 i).1 (wpath P (cnum P) q0 i).2.1) (w + 1)) = true := by
        have := hIi
        rw [cnt_s hP _ hri] at this
        rcases Nat.eq_zero_or_pos P.1 with z | z
        · rw [z] at this; exact absurd this (Nat.not_lt_zero _)
        · exact ⟨P.1 - 1, by omega, by rw [show P.1 - 1 + 1 = P.1 by omega]; exact decide_eq_true this⟩
      obtain ⟨-, z2, z3⟩ := lw_ex hex
      exact ⟨of_decide_eq_true z2, fun v hv => Nat.not_lt.mp (of_decide_eq_false (z3 v hv))⟩
    have ew : wword P (cnum P) q0 i = (cnum P (wpath P (cnum P) q0 i)).1 := rfl
    rw [← ew] at y1 y2 hle
    rw [e1, e2, e3, e4] at ih
    have hdi := hd12 (wpath P (cnum P) q0 i).1
    have hcb := cnt_b hP (wpath P (cnum P) q0 i).2.1 hSi
    clear e1 e2 e3 e4 ew y3
    generalize (wpath P (cnum P) q0 i).1 = r at *
    generalize (wpath P (cnum P) q0 i).2.1 = k at *
    generalize (wpath P (cnum P) q0 i).2.2 = mm at *
    generalize hwq : wword P (cnum P) q0 i = wq at *
    generalize wsum P (cnum P) q0 i = ws at *
    obtain ⟨y4, y5⟩ := y4
    have hcw : ∀ w, w < P.1 → cw P r k w ≤ 10000000000000 := by
      intro w hw
      unfold cw
      by_cases hmy : mayB P w r k = true
      · rw [if_pos hmy]
        have := stp_pos hP hw
        exact cnt_b hP _ (by omega)
      · rw [if_neg hmy]; omega
    have K := loop_st (S := Mem) (G := fun w s => YY g 11 s 0 0 72 [(0, .ref (B.1 + 0)), (1, .long (lN m)), (3, .long (lN (mm - sm (cw P r k) w))), (5, .int ws), (6, .int (nI r)), (7, .int (nI k)), (8, .int (nI w)), (9, .long (lN (cw P r k w)))] []) (I := fun w s => FrR NP σ s ∧ MC s P ∧ FdX s P (cnum P) q0 i) wq (by
      intro w s hw hI ih2
      obtain ⟨hf, hm, hfd⟩ := hI
      have hXs := hX.fr12 hP hf hepb
      have hns := hXs.1.n
      have hL := hXs.1
      have hW := hXs.2.2.2.1
      have hst := hXs.2.2.2.2.2.2.2.2.1
      have hw1 : w + 1 < P.1 := by omega
      have hWw := hL.w_words (i := w + 1) (by omega)
      have hkd4 := (hP.2.1 (w + 1) hw1).1
      have hge := y5 w hw
      have hge' : sm (cw P r k) w + cw P r k w ≤ mm := hge
      have hcc := hcw w (by omega)
      have hsub : lN (mm - sm (cw P r k) w) - lN (cw P r k w) = lN (mm - sm (cw P r k) (w + 1)) := by
        rw [lN_sub (by omega), show sm (cw P r k) (w + 1) = sm (cw P r k) w + cw P r k w from rfl, Nat.sub_sub]
      have J : ∀ (s' : Mem) (v : Int64) (x9 : Int64), v = lN (cw P r k (w + 1)) → FrR NP σ s' → MC s' P → FdX s' P (cnum P) q0 i → YY g 11 s' 0 0 128 [(0, .ref (B.1 + 0)), (1, .long (lN m)), (3, .long (lN (mm - sm (cw P r k) (w + 1)))), (5, .int ws), (6, .int (nI r)), (7, .int (nI k)), (8, .int (nI (w + 1))), (9, .long x9)] [.long v] := by
        intro s' v x9 hv hf' hm' hfd'
        subst hv
        refine y_lstore hg dX0_layNumber_128 (by decide) (lv1 := [(0, _), (1, _), (3, _), (5, _), (6, _), (7, _), (8, _), (9, _)]) rfl ?_
        refine y_goto hg 72 dX0_layNumber_130 (by decide) ?_
        exact ih2 _ ⟨hf', hm', hfd'⟩
      refine y_lload hg dX0_layNumber_72 rfl ?_
      refine y_lload_n hg dX0_layNumber_74 rfl ?_
      refine y_lc_gt hg 133 dX0_layNumber_75 dX0_layNumber_76 (by decide) (fun hT => absurd hT ((fun h => by have := (pk_lLT (by omega) (by omega)).mp h; omega))) (fun _ => ?_)
      refine y_lload_n hg dX0_layNumber_79 rfl ?_
      refine y_lload hg dX0_layNumber_80 rfl ?_
      refine y_lsub hg dX0_layNumber_82 ?_
      refine y_tl (hsub) ?_
      refine y_lstore_n hg dX0_layNumber_83 (by decide) (lv1 := [(0, _), (1, _), (3, _), (5, _), (6, _), (7, _), (8, _), (9, _)]) rfl ?_
      refine y_iinc hg dX0_layNumber_84 rfl (inc1 _) (by decide) (lv1 := [(0, _), (1, _), (3, _), (5, _), (6, _), (7, _), (8, _), (9, _)]) rfl ?_
      refine y_aload_n hg dX0_layNumber_87 rfl ?_
      refine y_iload hg dX0_layNumber_88 rfl ?_
      refine y_iload hg dX0_layNumber_90 rfl ?_
      refine y_iload hg dX0_layNumber_92 rfl ?_
      refine y_cVi hg (cX_mayCome hP hXs hw1 hSi hki) iX0_mayCome q416 (hL.x) cf0 rfl rfl (by simp [Value.category]) (Nat.le_refl _) (Nat.le_refl _) (by omega) dX0_layNumber_94 (fun r σ1 hp => ?_)
      obtain ⟨rfl, rfl⟩ := hp
      refine y_if_eq hg 127 dX0_layNumber_97 (by decide) (fun hc3 => ?_) (fun hc3 => ?_)
      · refine y_lconst (v := 0) hg dX0_layNumber_127 rfl ?_
        refine J _ _ _ ?_ hf hm hfd
        rw [cw, if_neg (by rw [(b2_eq _).mp hc3]; decide)]
        rfl
      · have hmay := (b2_ne _).mp hc3
        have hfit := may_fit hmay
        have hle := stp_le hfit
        have hds := ds_sub hP hw1 hfit hSi
        refine y_aload_n hg dX0_layNumber_100 rfl ?_
        refine y_iload hg dX0_layNumber_101 rfl ?_
        refine y_aload_n hg dX0_layNumber_103 rfl ?_
        refine y_getr (j := 10) hg cf0 (hL.x) (by decide) rfl (hL.r_steps) q182 dX0_layNumber_104 ?_
        refine y_iload hg dX0_layNumber_107 rfl ?_
        refine y_iald hg _ (hL.k_steps) rfl (by omega) dX0_layNumber_109 ?_
        refine y_ti (hst _ hw1) ?_
        refine y_isub hg dX0_layNumber_110 ?_
        refine y_ti (pk_sub hle) ?_
        refine y_aload_n hg dX0_layNumber_111 rfl ?_
        refine y_getr (j := 0) hg cf0 (hL.x) (by decide) rfl (hL.r_words) q172 dX0_layNumber_112 ?_
        refine y_iload hg dX0_layNumber_115 rfl ?_
        refine y_aald3 hg _ (hL.k_words) rfl (by omega) (hL.e_words (i := w + 1) (by omega)) dX0_layNumber_117 ?_
        refine y_getiN (j := 2) hg cf2 (hWw.o) (by decide) rfl nf8 dX0_layNumber_118 ?_
        refine y_ti ((hW.2 _ hw1).1) ?_
        refine y_cVl hg (cX_countFrom hP (r - stp P (w + 1)) (P.2.2.1 (w + 1)) _ hXs hm (by omega) (by omega)) iX0_countFrom q408 (hL.x) cf0 rfl rfl (by simp [Value.category]) (Nat.le_refl _) (Nat.le_refl _) (by omega) dX0_layNumber_121 (fun r σ1 hp => ?_)
        obtain ⟨rfl, hf1, hm1⟩ := hp
        refine y_goto hg 128 dX0_layNumber_124 (by decide) ?_
        refine J _ _ _ ?_ (hf.tr (hf1.mono (fun a j h => Or.inl h))) hm1 (hfd.fr hf1 (by omega) ⟨by omega, fun j => by omega⟩)
        rw [cw, if_pos hmay]) (by
      intro s hI
      obtain ⟨hf, hm, hfd⟩ := hI
      have hXs := hX.fr12 hP hf hepb
      have hns := hXs.1.n
      have hL := hXs.1
      have hOS := hXs.2.1
      have hOp := hXs.2.2.1
      have hW := hXs.2.2.2.1
      have hrk := hXs.rk hP y1
      have hst := hXs.2.2.2.2.2.2.2.2.1 wq y1
      have hWw := hL.w_words (i := wq) (by omega)
      have hkd := (hW.2 wq y1).1
      have hko := hXs.2.2.2.2.2.2.2.2.2
      have hcc := hcw wq y1
      have hlt : mm - sm (cw P r k) wq < cw P r k wq := by
        have : sm (cw P r k) (wq + 1) = sm (cw P r k) wq + cw P r k wq := rfl
        have h0 : sm (cw P r k) wq ≤ mm := by
          cases wq with
          | zero => exact Nat.zero_le _
          | succ v => exact y5 v (by omega)
        omega
      have g1 : ∀ (t : Mem) (a j : Nat) (v v' : Int32) (x : Nat), a ≠ 0 → a ≠ 15 → (setI (setI t 15 x v) 0 13 v').2.2.1 a j = t.2.2.1 a j := fun t a j v v' x h0 h15 => (gI_n (by omega)).trans (gI_n (by omega))
      refine y_lload hg dX0_layNumber_72 rfl ?_
      refine y_lload_n hg dX0_layNumber_74 rfl ?_
      refine y_lc_gt hg 133 dX0_layNumber_75 dX0_layNumber_76 (by decide) (fun _ => ?_) (fun hF => absurd ((pk_lLT (by omega) (by omega)).mpr hlt) hF)
      refine y_aload_n hg dX0_layNumber_133 rfl ?_
      refine y_getr (j := 12) hg cf0 (hL.x) (by decide) rfl (hL.r_found) q184 dX0_layNumber_134 ?_
      refine y_aload_n hg dX0_layNumber_137 rfl ?_
      refine y_geti (j := 13) hg cf0 (hL.x) (by decide) rfl q185 dX0_layNumber_138 ?_
      refine y_ti (hfd.1) ?_
      refine y_iload hg dX0_layNumber_141 rfl ?_
      refine y_iast hg _ (hL.k_found) rfl (by omega) dX0_layNumber_143 ?_
      refine y_aload_n hg dX0_layNumber_144 rfl ?_
      refine y_dup hg dX0_layNumber_145 rfl ?_
      refine y_geti (j := 13) hg cf0 (hL.x) (by decide) rfl q185 dX0_layNumber_146 ?_
      refine y_ti ((gI_n (by omega)).trans hfd.1) ?_
      refine y_iconst (v := nI 1) hg dX0_layNumber_149 rfl ?_
      refine y_iadd hg dX0_layNumber_150 ?_
      refine y_ti (nI_add _ _) ?_
      refine y_puti (j := 13) hg cf0 (hL.x) (by decide) rfl rfl q185 dX0_layNumber_151 ?_
      refine y_iload hg dX0_layNumber_154 rfl ?_
      refine y_aload_n hg dX0_layNumber_156 rfl ?_
      refine y_getr (j := 4) hg cf0 (hL.x) (by decide) rfl (hOp) q176 dX0_layNumber_157 ?_
      refine y_getrN (j := 2) hg cf1 (hOS.o) (by decide) rfl (hOS.r_ranks) nf2 dX0_layNumber_160 ?_
      refine y_iload hg dX0_layNumber_163 rfl ?_
      refine y_iald hg _ (hOS.k_ranks) rfl (by omega) dX0_layNumber_165 ?_
      refine y_ti ((g1 _ _ _ _ _ _ (by omega) (by omega)).trans hrk) ?_
      refine y_iadd hg dX0_layNumber_166 ?_
      refine y_istore hg dX0_layNumber_167 (by decide) (lv1 := [(0, _), (1, _), (3, _), (5, _), (6, _), (7, _), (8, _), (9, _)]) rfl ?_
      refine y_iload hg dX0_layNumber_169 rfl ?_
      refine y_aload_n hg dX0_layNumber_171 rfl ?_
      refine y_getr (j := 10) hg cf0 (hL.x) (by decide) rfl (hL.r_steps) q182 dX0_layNumber_172 ?_
      refine y_iload hg dX0_layNumber_175 rfl ?_
      refine y_iald hg _ (hL.k_steps) rfl (by omega) dX0_layNumber_177 ?_
      refine y_ti ((g1 _ _ _ _ _ _ (by omega) (by omega)).trans hst) ?_
      refine y_isub hg dX0_layNumber_178 ?_
      refine y_ti (pk_sub hle) ?_
      refine y_istore hg dX0_layNumber_179 (by decide) (lv1 := [(0, _), (1, _), (3, _), (5, _), (6, _), (7, _), (8, _), (9, _)]) rfl ?_
      refine y_aload_n hg dX0_layNumber_181 rfl ?_
      refine y_getr (j := 0) hg cf0 (hL.x) (by decide) rfl (hL.r_words) q172 dX0_layNumber_182 ?_
      refine y_iload hg dX0_layNumber_185 rfl ?_
      refine y_aald3 hg _ (hL.k_words) rfl (by omega) (hL.e_words (i := wq) (by omega)) dX0_layNumber_187 ?_
      refine y_getiN (j := 2) hg cf2 (hWw.o) (by decide) rfl nf8 dX0_layNumber_188 ?_
      refine y_ti ((g1 _ _ _ _ _ _ (by omega) (by omega)).trans hkd) ?_
      refine y_istore hg dX0_layNumber_191 (by decide) (lv1 := [(0, _), (1, _), (3, _), (5, _), (6, _), (7, _), (8, _), (9, _)]) rfl ?_
      refine y_goto hg 21 dX0_layNumber_193 (by decide) ?_
      refine y_sub [0, 1, 2, 3, 4, 5] rfl (ih _ ⟨(hf.stI (by unfold NP; omega)).stI (by unfold NP; omega), hm, gI_s, fun j hj => ?_⟩)
      rw [gI_n (by omega)]
      by_cases e : j = i
      · subst e; rw [hwq]; exact gI_s
      · rw [gI_n (by omega)]; exact hfd.2 j (by omega)) 0
    have hXs := hX.fr12 hP hf hepb
    have hns := hXs.1.n
    have hL := hXs.1
    have hW := hXs.2.2.2.1
    have hst := hXs.2.2.2.2.2.2.2.2.1
    have hw0 : 0 < P.1 := by omega
    have hWw := hL.w_words (i := 0) (by omega)
    have hkd4 := (hP.2.1 0 hw0).1
    have J : ∀ (s' : Mem) (v : Int64), v = lN (cw P r k 0) → FrR NP σ s' → MC s' P → FdX s' P (cnum P) q0 i → YY g 11 s' 0 0 70 [(0, .ref (B.1 + 0)), (1, .long (lN m)), (3, .long (lN mm)), (5, .int ws), (6, .int (nI r)), (7, .int (nI k)), (8, .int (nI 0))] [.long v] := by
      intro s' v hv hf' hm' hfd'
      subst hv
      refine y_lstore hg dX0_layNumber_70 (by decide) (lv1 := [(0, _), (1, _), (3, _), (5, _), (6, _), (7, _), (8, _), (9, _)]) rfl ?_
      exact K s' (Nat.zero_le _) ⟨hf', hm', hfd'⟩
    refine y_iload hg dX0_layNumber_21 rfl ?_
    refine y_if_le hg 196 dX0_layNumber_23 (by decide) (fun hT => absurd hT (nI_nle hri (by omega))) (fun _ => ?_)
    refine y_iconst (v := nI 0) hg dX0_layNumber_26 rfl ?_
    refine y_istore hg dX0_layNumber_27 (by decide) (lv1 := [(0, _), (1, _), (3, _), (5, _), (6, _), (7, _), (8, _)]) rfl ?_
    refine y_aload_n hg dX0_layNumber_29 rfl ?_
    refine y_iload hg dX0_layNumber_30 rfl ?_
    refine y_iload hg dX0_layNumber_32 rfl ?_
    refine y_iload hg dX0_layNumber_34 rfl ?_
    refine y_cVi hg (cX_mayCome hP hXs hw0 hSi hki) iX0_mayCome q416 (hL.x) cf0 rfl rfl (by simp [Value.category]) (Nat.le_refl _) (Nat.le_refl _) (by omega) dX0_layNumber_36 (fun r σ1 hp => ?_)
    obtain ⟨rfl, rfl⟩ := hp
    refine y_if_eq hg 69 dX0_layNumber_39 (by decide) (fun hc3 => ?_) (fun hc3 => ?_)
    · refine y_lconst (v := 0) hg dX0_layNumber_69 rfl ?_
      refine J _ _ ?_ hf hm hfd
      rw [cw, if_neg (by rw [(b2_eq _).mp hc3]; decide)]
      rfl
    · have hmay := (b2_ne _).mp hc3
      have hfit := may_fit hmay
      have hle := stp_le hfit
      have hds := ds_sub hP hw0 hfit hSi
      refine y_aload_n hg dX0_layNumber_42 rfl ?_
      refine y_iload hg dX0_layNumber_43 rfl ?_
      refine y_aload_n hg dX0_layNumber_45 rfl ?_
      refine y_getr (j := 10) hg cf0 (hL.x) (by decide) rfl (hL.r_steps) q182 dX0_layNumber_46 ?_
      refine y_iload hg dX0_layNumber_49 rfl ?_
      refine y_iald hg _ (hL.k_steps) rfl (by omega) dX0_layNumber_51 ?_
      refine y_ti (hst _ hw0) ?_
      refine y_isub hg dX0_layNumber_52 ?_
      refine y_ti (pk_sub hle) ?_
      refine y_aload_n hg dX0_layNumber_53 rfl ?_
      refine y_getr (j := 0) hg cf0 (hL.x) (by decide) rfl (hL.r_words) q172 dX0_layNumber_54 ?_
      refine y_iload hg dX0_layNumber_57 rfl ?_
      refine y_aald3 hg _ (hL.k_words) rfl (by omega) (hL.e_words (i := 0) (by omega)) dX0_layNumber_59 ?_
      refine y_getiN (j := 2) hg cf2 (hWw.o) (by decide) rfl nf8 dX0_layNumber_60 ?_
      refine y_ti ((hW.2 _ hw0).1) ?_
      refine y_cVl hg (cX_countFrom hP (r - stp P 0) (P.2.2.1 0) _ hXs hm (by omega) (by omega)) iX0_countFrom q408 (hL.x) cf0 rfl rfl (by simp [Value.category]) (Nat.le_refl _) (Nat.le_refl _) (by omega) dX0_layNumber_63 (fun r σ1 hp => ?_)
      obtain ⟨rfl, hf1, hm1⟩ := hp
      refine y_goto hg 70 dX0_layNumber_66 (by decide) ?_
      refine J _ _ ?_ (hf.tr (hf1.mono (fun a j h => Or.inl h))) hm1 (hfd.fr hf1 (by omega) ⟨by omega, fun j => by omega⟩)
      rw [cw, if_pos hmay]
  · intro s hI
    obtain ⟨hf, hm, hfd⟩ := hI
    rw [w2]
    refine y_iload hg dX0_layNumber_21 rfl ?_
    refine y_if_le hg 196 dX0_layNumber_23 (by decide) (fun _ => ?_) (fun hF => absurd ((by decide)) hF)
    refine y_iload hg dX0_layNumber_196 rfl ?_
    refine y_iret hg hr ⟨_, rfl, ?_⟩ dX0_layNumber_198 (Nat.le_refl _) (Nat.le_refl _)
    exact ⟨rfl, hf, hm, hfd⟩
end XNum

