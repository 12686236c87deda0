section Drawn
variable {ll : Launch} {B : Bs} {σ : Mem} {A : Ab} {sd : Int64}
def q33 (x : Int64) : Nat := x.toUInt64.toNat / 8589934592
theorem ush33 (x : Int64) : (x.toUInt64 >>> ((nI 33).toInt64.toUInt64 &&& Int64.toUInt64 63)).toInt64 = lN (q33 x) := by
  rw [show (nI 33).toInt64.toUInt64 &&& Int64.toUInt64 63 = 33 by decide]
  apply Int64.toBitVec_inj.mp
  apply BitVec.eq_of_toNat_eq
  show (x.toUInt64 >>> 33).toNat = (BitVec.ofNat 64 (q33 x)).toNat
  have h := x.toUInt64.toNat_lt
  rw [UInt64.toNat_shiftRight, BitVec.toNat_ofNat, Nat.shiftRight_eq_div_pow, Nat.mod_eq_of_lt (a := q33 x) (by unfold q33; omega)]
  rfl
theorem q33_lt (x : Int64) : q33 x < 2147483648 := by
  have h := x.toUInt64.toNat_lt
  unfold q33
  omega
theorem inL1_iff {v : Int32} {M : Int64} (m : Nat) (hM : M.toInt = m) (hm : m < 2147483648) : inL v.toInt64 1 M = true ↔ ∃ n, 1 ≤ n ∧ n ≤ m ∧ v = nI n := by
  unfold inL
  rw [Bool.and_eq_true, decide_eq_true_eq, decide_eq_true_eq, Int64.le_iff_toInt_le, Int64.le_iff_toInt_le, Int32.toInt_toInt64, hM]
  show (1 : Int) ≤ v.toInt ∧ v.toInt ≤ m ↔ _
  constructor
  · intro h
    refine ⟨v.toInt.toNat, by omega, by omega, ?_⟩
    apply Int32.toInt_inj.mp
    rw [nI_toInt (by omega)]
    omega
  · rintro ⟨n, h1, hn, rfl⟩
    rw [nI_toInt (by omega)]
    omega
def nsd (x : Int64) : Int64 := x * 6364136223846793005 + 1442695040888963407
def sdI (x : Int64) : Nat → Int64
  | 0 => x
  | n + 1 => nsd (sdI x n)
def drV (A : Ab) (s : Int64) : Int32 := if tot (pn A) = 0 then nI 0 else wsum (pn A) (cnum (pn A)) (qn (pn A) (q33 s % tot (pn A))) (lnN (pn A) (q33 s % tot (pn A)))
def drS (A : Ab) (sd : Int64) (i : Nat) (a : Int32) : Int32 := a + drV A (sdI sd (i + 1))
def oDrawn (A : Ab) (sd : Int64) (v : Int32) : Int32 × Int64 := if inL v.toInt64 1 20 = true then (fo (drS A sd) (nI 0) v.toNatClampNeg, sdI sd v.toNatClampNeg) else (-2, sd)
theorem RX.seedL {v : Int64} (h : RX B A sd σ) : RX B A v (setL σ 0 33 v) := ⟨h.1, h.2.1, h.2.2.1, gL_s⟩
theorem RMm.seedL {v : Int64} (h : RMm B A sd σ) : RMm B A v (setL σ 157 20 v) := ⟨h.1, h.2.1, gL_s⟩
theorem PX.setL {P : Pb} {ko k j : Nat} {v : Int64} (h : PX B σ P ko) : PX B (setL σ k j v) P ko := h
theorem PM.setL {P : Pb} {k j : Nat} {v : Int64} (h : PM B σ P) : PM B (setL σ k j v) P := h
theorem cX_drawn (hW : WFA A) (hR : RX B A sd σ) (v : Int32) : MT ll B 24 0 0 yX0_drawn cX0_drawn 6 (some .int) [.ref (B.1 + 0), .int v] σ (pI fun r σ' => r = (oDrawn A sd v).1 ∧ RX B A (oDrawn A sd v).2 σ' ∧ Fr (fun a _ => a < 157) σ σ') := by
  have hL := hR.1
  have hP : WFP (pn A) := pb_wr hW hW.now
  have h12 : sm (bg (pn A).2.2.2.1) 8 ≤ 12 := hW.now.2.1
  have ht := tot_b hP
  refine MT.of (by decide) (Nat.le_of_ble_eq_true rfl) (fun g hg hr => ?_)
  refine y_iload_n hg dX0_drawn_0 rfl ?_
  refine y_i2l hg dX0_drawn_1 ?_
  refine y_lconst (v := 1) hg dX0_drawn_2 rfl ?_
  refine y_ldc2 hg dX0_drawn_3 q891 ?_
  refine y_cSi hg (cX_isIn _ _ _) iX0_isIn q286 rfl rfl (by simp [Value.category]) (Nat.le_refl _) (Nat.le_refl _) (by decide) dX0_drawn_6 (fun r σ1 hp => ?_)
  obtain ⟨rfl, rfl⟩ := hp
  refine y_if_ne hg 15 dX0_drawn_9 (by decide) (fun hc => ?_) (fun hc => ?_)
  · have h1 := b2T hc
    obtain ⟨n, hn1, hn, rfl⟩ := (inL1_iff 20 rfl (by decide)).mp h1
    have eo : oDrawn A sd (nI n) = (fo (drS A sd) (nI 0) n, sdI sd n) := by unfold oDrawn; rw [if_pos h1, nI_clamp (by omega)]
    rw [eo] at hr
    refine y_aload_n hg dX0_drawn_15 rfl ?_
    refine y_cVv hg (cX_look0 hW (WX.rf hR)) iX0_look q368 (hL.x) cf0 rfl rfl (by simp [Value.category]) (Nat.le_refl _) (Nat.le_refl _) (by decide) dX0_drawn_16 (fun σ2 hp => ?_)
    obtain ⟨hX, hC, hC2, hw⟩ := hp
    have hL := hw.1.1
    refine y_aload_n hg dX0_drawn_19 rfl ?_
    refine y_cVl hg (cX_countAll hP hX hC) iX0_countAll q404 (hL.x) cf0 rfl rfl (by simp [Value.category]) (Nat.le_refl _) (Nat.le_refl _) (by decide) dX0_drawn_20 (fun r σ3 hp => ?_)
    obtain ⟨rfl, hf3, hC3⟩ := hp
    refine y_lstore_n hg dX0_drawn_23 (by decide) (lv1 := [(0, _), (1, _), (2, _)]) rfl ?_
    refine y_iconst (v := nI 0) hg dX0_drawn_24 rfl ?_
    refine y_istore hg dX0_drawn_25 (by decide) (lv1 := [(0, _), (1, _), (2, _), (4, _)]) rfl ?_
    refine y_iconst (v := nI 0) hg dX0_drawn_27 rfl ?_
    refine y_istore hg dX0_drawn_28 (by decide) (lv1 := [(0, _), (1, _), (2, _), (4, _), (5, _)]) rfl ?_
    have hw3 := hw.goR hW hf3 (fun a j q => by unfold XE; omega)
    have hX3 := hX.fr12 hP hf3 (fun a j q => by unfold EP; omega)
    have LOOP := loop_st (S := Mem) (G := fun i s => YY g 6 s 0 0 30 [(0, .ref (B.1 + 0)), (1, .int (nI n)), (2, .long (lN (tot (pn A)))), (4, .int (fo (drS A sd) (nI 0) i)), (5, .int (nI i))] []) (I := fun i s => RX B A (sdI sd i) s ∧ PX B s (pn A) 2 ∧ MC s (pn A) ∧ Fr (fun a _ => a < 157) σ1 s) n ?_ ?_ 0 σ3 (Nat.zero_le _) ⟨hw3.1, hX3, hC3, hw3.fin.2⟩
    · exact LOOP
    · intro i s hi hI ih
      obtain ⟨hRs, hXs, hCs, hfs⟩ := hI
      have hL := hRs.1
      have hn := hL.n
      have hR1 : RX B A (sdI sd (i + 1)) (setL s 0 33 (sdI sd (i + 1))) := hRs.seedL
      have hX1 : PX B (setL s 0 33 (sdI sd (i + 1))) (pn A) 2 := hXs.setL
      have hC1 : MC (setL s 0 33 (sdI sd (i + 1))) (pn A) := fun r k hr hk => by rw [gL_n (by omega)]; exact hCs r k hr hk
      have hf1 : Fr (fun a _ => a < 157) σ1 (setL s 0 33 (sdI sd (i + 1))) := hfs.stL (by omega)
      have es : s.2.2.2.1 0 33 = sdI sd i := hRs.2.2.2
      have es1 : (setL s 0 33 (sdI sd (i + 1))).2.2.2.1 0 33 = sdI sd (i + 1) := gL_s
      have J : ∀ (t : Mem) (v : Int32), RX B A (sdI sd (i + 1)) t → PX B t (pn A) 2 → MC t (pn A) → Fr (fun a _ => a < 157) σ1 t → v = drV A (sdI sd (i + 1)) → YY g 6 t 0 0 77 [(0, .ref (B.1 + 0)), (1, .int (nI n)), (2, .long (lN (tot (pn A)))), (4, .int (fo (drS A sd) (nI 0) i)), (5, .int (nI i))] [.int v, .int (fo (drS A sd) (nI 0) i)] := by
        intro t v q1 q2 q3 q4 hv
        subst hv
        refine y_iadd hg dX0_drawn_77 ?_
        refine y_istore hg dX0_drawn_78 (by decide) (lv1 := [(0, _), (1, _), (2, _), (4, _), (5, _)]) rfl ?_
        refine y_iinc hg dX0_drawn_80 rfl (inc1 _) (by decide) (lv1 := [(0, _), (1, _), (2, _), (4, _), (5, _)]) rfl ?_
        refine y_goto hg 30 dX0_drawn_83 (by decide) ?_
        exact ih _ ⟨q1, q2, q3, q4⟩
      refine y_iload hg dX0_drawn_30 rfl ?_
      refine y_iload_n hg dX0_drawn_32 rfl ?_
      refine y_icmp_ge hg 86 dX0_drawn_33 (by decide) (fun hT => absurd hT (ge_c hi (by omega))) (fun _ => ?_)
      refine y_aload_n hg dX0_drawn_36 rfl ?_
      refine y_aload_n hg dX0_drawn_37 rfl ?_
      refine y_getl (j := 33) hg cf0 (hL.x) (by decide) rfl q205 dX0_drawn_38 ?_
      refine y_tl es ?_
      refine y_ldc2 hg dX0_drawn_41 q892 ?_
      refine y_lmul hg dX0_drawn_44 ?_
      refine y_ldc2 hg dX0_drawn_45 q893 ?_
      refine y_ladd hg dX0_drawn_48 ?_
      refine y_putl (j := 33) hg cf0 (hL.x) (by decide) rfl rfl q205 dX0_drawn_49 ?_
      show YY g 6 (setL s 0 33 (sdI sd (i + 1))) 0 0 52 _ _
      generalize setL s 0 33 (sdI sd (i + 1)) = s1 at *
      have hL := hR1.1
      refine y_iload hg dX0_drawn_52 rfl ?_
      refine y_lload_n hg dX0_drawn_54 rfl ?_
      refine y_lconst (v := 0) hg dX0_drawn_55 rfl ?_
      refine y_lc_ne hg 64 dX0_drawn_56 dX0_drawn_57 (by decide) (fun hc2 => ?_) (fun hc2 => ?_)
      · have hn0 : ¬ tot (pn A) = 0 := fun z => hc2 (by rw [z]; rfl)
        have hmm : q33 (sdI sd (i + 1)) % tot (pn A) < tot (pn A) := Nat.mod_lt _ (by omega)
        have hq := q33_lt (sdI sd (i + 1))
        obtain ⟨f1, f2⟩ := num_f hP h12 hmm
        refine y_aload_n hg dX0_drawn_64 rfl ?_
        refine y_aload_n hg dX0_drawn_65 rfl ?_
        refine y_getl (j := 33) hg cf0 (hL.x) (by decide) rfl q205 dX0_drawn_66 ?_
        refine y_tl es1 ?_
        refine y_bipush (v := nI 33) hg dX0_drawn_69 rfl ?_
        refine y_lushr hg dX0_drawn_71 ?_
        refine y_tl (ush33 _) ?_
        refine y_lload_n hg dX0_drawn_72 rfl ?_
        refine y_lrem hg dX0_drawn_73 hc2 ?_
        refine y_tl (pk_lRem (by omega) (by omega) (by omega)) ?_
        refine y_cVi hg (cX_layNumber hP h12 hX1 hC1 hmm) iX0_layNumber q545 (hL.x) cf0 rfl rfl (by simp [Value.category]) (Nat.le_refl _) (Nat.le_refl _) (by decide) dX0_drawn_74 (fun r σ6 hp => ?_)
        obtain ⟨rfl, hf6, hC6, g1, g2⟩ := hp
        have hw6 := (WX.rf hR1).goR hW hf6 (fun a j q => by unfold NP at q; unfold XE; omega)
        exact J _ _ hw6.1 (hX1.fr12 hP hf6 (fun a j q => by unfold NP at q; unfold EP; omega)) hC6 (hf1.tr hw6.fin.2) (by unfold drV; rw [if_neg hn0]; rfl)
      · have h0 : tot (pn A) = 0 := (pk_lEQ (b := 0) (by omega) (by omega)).mp hc2
        refine y_iconst (v := nI 0) hg dX0_drawn_60 rfl ?_
        refine y_goto hg 77 dX0_drawn_61 (by decide) ?_
        exact J _ _ hR1 hX1 hC1 hf1 (by unfold drV; rw [if_pos h0])
    · intro s hI
      obtain ⟨hRs, hXs, hCs, hfs⟩ := hI
      refine y_iload hg dX0_drawn_30 rfl ?_
      refine y_iload_n hg dX0_drawn_32 rfl ?_
      refine y_icmp_ge hg 86 dX0_drawn_33 (by decide) (fun _ => ?_) (fun hF => absurd (le_c (Nat.le_refl _) (by omega)) hF)
      refine y_iload hg dX0_drawn_86 rfl ?_
      refine y_iret hg hr ⟨_, rfl, ?_⟩ dX0_drawn_88 (Nat.le_refl _) (Nat.le_refl _)
      exact ⟨rfl, hRs, hfs⟩
  · refine y_bipush (v := -2) hg dX0_drawn_12 rfl ?_
    refine y_iret hg hr ⟨_, rfl, ?_⟩ dX0_drawn_14 (Nat.le_refl _) (Nat.le_refl _)
    have eo : oDrawn A sd v = (-2, sd) := by unfold oDrawn; rw [if_neg (b2F hc)]
    rw [eo]
    exact ⟨rfl, hR, Fr.rf⟩
theorem cM_drawn (hW : WFA A) (hR : RMm B A sd σ) (v : Int32) : MT ll B 24 0 0 yX3_drawn cX3_drawn 6 (some .int) [.ref (B.1 + 157), .int v] σ (pI fun r σ' => r = (oDrawn A sd v).1 ∧ RMm B A (oDrawn A sd v).2 σ' ∧ FrR (fun a _ => 157 ≤ a) σ σ') := by
  have hM := hR.1
  have hP : WFP (pn A) := pb_wr hW hW.now
  have h12 : sm (bg (pn A).2.2.2.1) 8 ≤ 12 := hW.now.2.1
  have ht := tot_b hP
  refine MT.of (by decide) (Nat.le_of_ble_eq_true rfl) (fun g hg hr => ?_)
  refine y_iload_n hg dX3_drawn_0 rfl ?_
  refine y_i2l hg dX3_drawn_1 ?_
  refine y_lconst (v := 1) hg dX3_drawn_2 rfl ?_
  refine y_ldc2 hg dX3_drawn_3 q1377 ?_
  refine y_cSi hg (cM_in _ _ _) iX3_in q1052 rfl rfl (by simp [Value.category]) (Nat.le_refl _) (Nat.le_refl _) (by decide) dX3_drawn_6 (fun r σ1 hp => ?_)
  obtain ⟨rfl, rfl⟩ := hp
  refine y_if_ne hg 15 dX3_drawn_9 (by decide) (fun hc => ?_) (fun hc => ?_)
  · have h1 := b2T hc
    obtain ⟨n, hn1, hn, rfl⟩ := (inL1_iff 20 rfl (by decide)).mp h1
    have eo : oDrawn A sd (nI n) = (fo (drS A sd) (nI 0) n, sdI sd n) := by unfold oDrawn; rw [if_pos h1, nI_clamp (by omega)]
    rw [eo] at hr
    refine y_aload_n hg dX3_drawn_15 rfl ?_
    refine y_aload_n hg dX3_drawn_16 rfl ?_
    refine y_getr (j := 7) hg cf3 (hM.m) (by decide) rfl (hM.r_now) q918 dX3_drawn_17 ?_
    refine y_cVl hg (cM_manyOf (P := pn A) hM (Or.inl rfl) hP (hR.wm hW) (fun j hj => hR.now hj) RMm.hu0) iX3_manyOf q1142 (hM.m) cf3 rfl rfl (by simp [Value.category]) (Nat.le_refl _) (Nat.le_refl _) (by decide) dX3_drawn_20 (fun r σ3 hp => ?_)
    obtain ⟨rfl, hX3, hC3, hf2⟩ := hp
    refine y_lstore_n hg dX3_drawn_23 (by decide) (lv1 := [(0, _), (1, _), (2, _)]) rfl ?_
    refine y_iconst (v := nI 0) hg dX3_drawn_24 rfl ?_
    refine y_istore hg dX3_drawn_25 (by decide) (lv1 := [(0, _), (1, _), (2, _), (4, _)]) rfl ?_
    refine y_iconst (v := nI 0) hg dX3_drawn_27 rfl ?_
    refine y_istore hg dX3_drawn_28 (by decide) (lv1 := [(0, _), (1, _), (2, _), (4, _), (5, _)]) rfl ?_
    have hw3 := (WM.rf hR).go hf2 (fun a j q => by unfold MyP MkP at q; unfold ME; omega)
    have LOOP := loop_st (S := Mem) (G := fun i s => YY g 6 s 0 0 30 [(0, .ref (B.1 + 157)), (1, .int (nI n)), (2, .long (lN (tot (pn A)))), (4, .int (fo (drS A sd) (nI 0) i)), (5, .int (nI i))] []) (I := fun i s => RMm B A (sdI sd i) s ∧ PM B s (pn A) ∧ WyM s (pn A) ∧ FrR (fun a _ => 157 ≤ a) σ1 s) n ?_ ?_ 0 σ3 (Nat.zero_le _) ⟨hw3.1, hX3, hC3, hw3.fin.2⟩
    · exact LOOP
    · intro i s hi hI ih
      obtain ⟨hRs, hXs, hCs, hfs⟩ := hI
      have hM := hRs.1
      have hn := hM.n
      have hR1 : RMm B A (sdI sd (i + 1)) (setL s 157 20 (sdI sd (i + 1))) := hRs.seedL
      have hX1 : PM B (setL s 157 20 (sdI sd (i + 1))) (pn A) := hXs.setL
      have hC1 : WyM (setL s 157 20 (sdI sd (i + 1))) (pn A) := fun r k hr hk => by rw [gL_n (by omega)]; exact hCs r k hr hk
      have hf1 : FrR (fun a _ => 157 ≤ a) σ1 (setL s 157 20 (sdI sd (i + 1))) := hfs.stL (by omega)
      have es : s.2.2.2.1 157 20 = sdI sd i := hRs.2.2
      have es1 : (setL s 157 20 (sdI sd (i + 1))).2.2.2.1 157 20 = sdI sd (i + 1) := gL_s
      have J : ∀ (t : Mem) (v : Int32), RMm B A (sdI sd (i + 1)) t → PM B t (pn A) → WyM t (pn A) → FrR (fun a _ => 157 ≤ a) σ1 t → v = drV A (sdI sd (i + 1)) → YY g 6 t 0 0 81 [(0, .ref (B.1 + 157)), (1, .int (nI n)), (2, .long (lN (tot (pn A)))), (4, .int (fo (drS A sd) (nI 0) i)), (5, .int (nI i))] [.int v, .int (fo (drS A sd) (nI 0) i)] := by
        intro t v q1 q2 q3 q4 hv
        subst hv
        refine y_iadd hg dX3_drawn_81 ?_
        refine y_istore hg dX3_drawn_82 (by decide) (lv1 := [(0, _), (1, _), (2, _), (4, _), (5, _)]) rfl ?_
        refine y_iinc hg dX3_drawn_84 rfl (inc1 _) (by decide) (lv1 := [(0, _), (1, _), (2, _), (4, _), (5, _)]) rfl ?_
        refine y_goto hg 30 dX3_drawn_87 (by decide) ?_
        exact ih _ ⟨q1, q2, q3, q4⟩
      refine y_iload hg dX3_drawn_30 rfl ?_
      refine y_iload_n hg dX3_drawn_32 rfl ?_
      refine y_icmp_ge hg 90 dX3_drawn_33 (by decide) (fun hT => absurd hT (ge_c hi (by omega))) (fun _ => ?_)
      refine y_aload_n hg dX3_drawn_36 rfl ?_
      refine y_aload_n hg dX3_drawn_37 rfl ?_
      refine y_getl (j := 20) hg cf3 (hM.m) (by decide) rfl q931 dX3_drawn_38 ?_
      refine y_tl es ?_
      refine y_ldc2 hg dX3_drawn_41 q1378 ?_
      refine y_lmul hg dX3_drawn_44 ?_
      refine y_ldc2 hg dX3_drawn_45 q1379 ?_
      refine y_ladd hg dX3_drawn_48 ?_
      refine y_putl (j := 20) hg cf3 (hM.m) (by decide) rfl rfl q931 dX3_drawn_49 ?_
      show YY g 6 (setL s 157 20 (sdI sd (i + 1))) 0 0 52 _ _
      generalize setL s 157 20 (sdI sd (i + 1)) = s1 at *
      have hM := hR1.1
      refine y_iload hg dX3_drawn_52 rfl ?_
      refine y_lload_n hg dX3_drawn_54 rfl ?_
      refine y_lconst (v := 0) hg dX3_drawn_55 rfl ?_
      refine y_lc_le hg 80 dX3_drawn_56 dX3_drawn_57 (by decide) (fun hc2 => ?_) (fun hc2 => ?_)
      · have h0 : tot (pn A) = 0 := Nat.le_zero.mp ((pk_lLE (b := 0) (by omega) (by omega)).mp hc2)
        refine y_iconst (v := nI 0) hg dX3_drawn_80 rfl ?_
        exact J _ _ hR1 hX1 hC1 hf1 (by unfold drV; rw [if_pos h0])
      · have hn0 : ¬ tot (pn A) = 0 := fun z => hc2 (by rw [z]; decide)
        have hmm : q33 (sdI sd (i + 1)) % tot (pn A) < tot (pn A) := Nat.mod_lt _ (by omega)
        have hq := q33_lt (sdI sd (i + 1))
        obtain ⟨f1, f2⟩ := num_f hP h12 hmm
        refine y_aload_n hg dX3_drawn_60 rfl ?_
        refine y_aload_n hg dX3_drawn_61 rfl ?_
        refine y_aload_n hg dX3_drawn_62 rfl ?_
        refine y_getl (j := 20) hg cf3 (hM.m) (by decide) rfl q931 dX3_drawn_63 ?_
        refine y_tl es1 ?_
        refine y_bipush (v := nI 33) hg dX3_drawn_66 rfl ?_
        refine y_lushr hg dX3_drawn_68 ?_
        refine y_tl (ush33 _) ?_
        refine y_lload_n hg dX3_drawn_69 rfl ?_
        refine y_lrem hg dX3_drawn_70 (fun z => hn0 ((pk_lEQ (b := 0) (by omega) (by omega)).mp z)) ?_
        refine y_tl (pk_lRem (by omega) (by omega) (by omega)) ?_
        refine y_cVi hg (cM_find hP h12 hX1 hC1 hmm) iX3_find q1268 (hM.m) cf3 rfl rfl (by simp [Value.category]) (Nat.le_refl _) (Nat.le_refl _) (by decide) dX3_drawn_71 (fun r σ6 hp => ?_)
        obtain ⟨rfl, hf6, g2⟩ := hp
        have hw6 := (WM.rf hR1).go hf6 (fun a j q => by unfold ME; omega)
        have hX6 := hX1.fr hf6 (fun a j q => by unfold EM; omega)
        have hM := hw6.1.1
        replace g2 : FdM σ6 (pn A) (cnum (pn A)) (qn (pn A) (q33 (sdI sd (i + 1)) % tot (pn A))) (lnN (pn A) (q33 (sdI sd (i + 1)) % tot (pn A))) := g2
        refine y_cVi hg (cM_worthOf hP hX6 f1 g2 f2) iX3_worthOf q1260 (hM.m) cf3 rfl rfl (by simp [Value.category]) (Nat.le_refl _) (Nat.le_refl _) (by decide) dX3_drawn_74 (fun r σ7 hp => ?_)
        obtain ⟨rfl, rfl⟩ := hp
        refine y_goto hg 81 dX3_drawn_77 (by decide) ?_
        have hC6 : WyM σ7 (pn A) := fun r k hr hk => by rw [hf6.l (by have := hR1.1.n; omega) (by omega)]; exact hC1 r k hr hk
        exact J _ _ hw6.1 hX6 hC6 (hf1.tr hw6.fin.2) (by unfold drV; rw [if_neg hn0])
    · intro s hI
      obtain ⟨hRs, hXs, hCs, hfs⟩ := hI
      refine y_iload hg dX3_drawn_30 rfl ?_
      refine y_iload_n hg dX3_drawn_32 rfl ?_
      refine y_icmp_ge hg 90 dX3_drawn_33 (by decide) (fun _ => ?_) (fun hF => absurd (le_c (Nat.le_refl _) (by omega)) hF)
      refine y_iload hg dX3_drawn_90 rfl ?_
      refine y_iret hg hr ⟨_, rfl, ?_⟩ dX3_drawn_92 (Nat.le_refl _) (Nat.le_refl _)
      exact ⟨rfl, hRs, hfs⟩
  · refine y_bipush (v := -2) hg dX3_drawn_12 rfl ?_
    refine y_iret hg hr ⟨_, rfl, ?_⟩ dX3_drawn_14 (Nat.le_refl _) (Nat.le_refl _)
    have eo : oDrawn A sd v = (-2, sd) := by unfold oDrawn; rw [if_neg (b2F hc)]
    rw [eo]
    exact ⟨rfl, hR, FrR.rf⟩
end Drawn

