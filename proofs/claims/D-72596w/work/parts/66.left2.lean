section Left2
variable {ll : Launch} {B : Bs} {σ : Mem} {A : Ab} {sd : Int64}
theorem num_1 {P : Pb} {m : Nat} (hP : WFP P) (hm : m < tot P) : 1 ≤ lnN P m := by
  have hpos := nS_pos P
  have h1 : nS P ≠ 1 := fun e => by rw [tot, if_pos e] at hm; omega
  have hI : (qn P m).2.2 < cnt P (qn P m).1 (qn P m).2.1 := by rw [tot, if_neg h1] at hm; exact hm
  have hq : (qn P m).1 < nS P := by show nS P - 1 < nS P; omega
  obtain ⟨w1, w2, w3⟩ := wlen_ok hP (num_on hP) (I := fun q => q.2.2 < cnt P q.1 q.2.1) hI hq
  rcases Nat.eq_zero_or_pos (lnN P m) with z | z
  · exfalso
    have e : wlen P (cnum P) (qn P m) = 0 := z
    rw [e] at w2
    have : nS P - 1 = 0 := w2
    omega
  · exact z
theorem l2i_N (t : Nat) : (lN t).toInt32 = nI t := Int64.toInt32_ofNat' 
theorem dn_e (t : Nat) : nI t - nI 1 = nI t + (-1) := by rw [Int32.sub_eq_add_neg]; rfl
/-- what is left of the phrases -/
def lfF (A : Ab) (m : Nat) : Nat → Int32 := fun i => nI (wword (pn A) (cnum (pn A)) (qn (pn A) m) i)
def lfB (A : Ab) (m : Nat) : Bool := agB A (lfF A m) (lnN (pn A) m)
def lfS (A : Ab) (m : Nat) (a : Int32 × Int32) : Int32 × Int32 := (a.1 + (if lfB A m = true then nI 1 else nI 0), if lfB A m = true then nI m else a.2)
def rLeft (A : Ab) (v : Int32) : Int32 := if inL v.toInt64 0 1 = true then if tot (pn A) ≤ 2000 then (if v = 0 then (fd (lfS A) (tot (pn A)) (nI 0, -9)).1 else (fd (lfS A) (tot (pn A)) (nI 0, -9)).2) else -3 else -2
theorem cX_left (hW : WFA A) (hR : RX B A sd σ) (v : Int32) : MT ll B 24 0 0 yX0_left cX0_left 7 (some .int) [.ref (B.1 + 0), .int v] σ (oX B sd σ (rLeft A v, A)) := by
  have hL := hR.1
  have hP : WFP (pn A) := pb_wr hW hW.now
  have h12 : sm (bg (pn A).2.2.2.1) 8 ≤ 12 := hW.now.2.1
  have ht := tot_b hP
  refine MT.of (by decide) (Nat.le_of_ble_eq_true rfl) (fun g hg hr => ?_)
  refine y_iload_n hg dX0_left_0 rfl ?_
  refine y_i2l hg dX0_left_1 ?_
  refine y_lconst (v := 0) hg dX0_left_2 rfl ?_
  refine y_lconst (v := 1) hg dX0_left_3 rfl ?_
  refine y_cSi hg (cX_isIn _ _ _) iX0_isIn q286 rfl rfl (by simp [Value.category]) (Nat.le_refl _) (Nat.le_refl _) (by decide) dX0_left_4 (fun r σ1 hp => ?_)
  obtain ⟨rfl, rfl⟩ := hp
  refine y_if_ne hg 13 dX0_left_7 (by decide) (fun hc => ?_) (fun hc => ?_)
  · have h1 := b2T hc
    refine y_aload_n hg dX0_left_13 rfl ?_
    refine y_cVv hg (cX_look0 hW (WX.rf hR)) iX0_look q368 (hL.x) cf0 rfl rfl (by simp [Value.category]) (Nat.le_refl _) (Nat.le_refl _) (by decide) dX0_left_14 (fun σ2 hp => ?_)
    obtain ⟨hX, hC, hC2, hw⟩ := hp
    have hL := hw.1.1
    refine y_aload_n hg dX0_left_17 rfl ?_
    refine y_cVl hg (cX_countAll hP hX hC) iX0_countAll q404 (hL.x) cf0 rfl rfl (by simp [Value.category]) (Nat.le_refl _) (Nat.le_refl _) (by decide) dX0_left_18 (fun r σ3 hp => ?_)
    obtain ⟨rfl, hf3, hC3⟩ := hp
    refine y_lstore_n hg dX0_left_21 (by decide) (lv1 := [(0, _), (1, _), (2, _)]) rfl ?_
    have hw3 := hw.goR hW hf3 (fun a j q => by unfold XE; omega)
    have hX3 := hX.fr12 hP hf3 (fun a j q => by unfold EP; omega)
    refine y_lload_n hg dX0_left_22 rfl ?_
    refine y_ldc2 hg dX0_left_23 q842 ?_
    refine y_lc_le hg 33 dX0_left_26 dX0_left_27 (by decide) (fun hc2 => ?_) (fun hc2 => ?_)
    · have h2 : tot (pn A) ≤ 2000 := (pk_lLE (b := 2000) (by omega) (by omega)).mp hc2
      have eo : rLeft A v = (if v = 0 then (fd (lfS A) (tot (pn A)) (nI 0, -9)).1 else (fd (lfS A) (tot (pn A)) (nI 0, -9)).2) := by unfold rLeft; rw [if_pos h1, if_pos h2]
      rw [eo] at hr
      refine y_iconst (v := nI 0) hg dX0_left_33 rfl ?_
      refine y_istore hg dX0_left_34 (by decide) (lv1 := [(0, _), (1, _), (2, _), (4, _)]) rfl ?_
      refine y_bipush (v := -9) hg dX0_left_36 rfl ?_
      refine y_istore hg dX0_left_38 (by decide) (lv1 := [(0, _), (1, _), (2, _), (4, _), (5, _)]) rfl ?_
      refine y_lload_n hg dX0_left_40 rfl ?_
      refine y_l2i hg dX0_left_41 ?_
      refine y_ti (l2i_N _) ?_
      refine y_iconst (v := nI 1) hg dX0_left_42 rfl ?_
      refine y_isub hg dX0_left_43 ?_
      refine y_ti (dn_e (tot (pn A))) ?_
      refine y_istore hg dX0_left_44 (by decide) (lv1 := [(0, _), (1, _), (2, _), (4, _), (5, _), (6, _)]) rfl ?_
      refine (loop_dst (S := Mem × Int32 × Int32) (G := fun i s => YY g 7 s.1 0 0 46 [(0, .ref (B.1 + 0)), (1, .int v), (2, .long (lN (tot (pn A)))), (4, .int s.2.1), (5, .int s.2.2), (6, .int (nI i + (-1)))] []) (I := fun i s => i ≤ tot (pn A) ∧ fd (lfS A) i s.2 = fd (lfS A) (tot (pn A)) (nI 0, -9) ∧ WX B A sd σ1 s.1 ∧ PX B s.1 (pn A) 2 ∧ MC s.1 (pn A)) (fun i s hI ih => ?_) (fun s hI => ?_) (tot (pn A)) (σ3, nI 0, -9) ⟨Nat.le_refl _, rfl, hw3, hX3, hC3⟩)
      · obtain ⟨hi, hfd, hws, hXs, hCs⟩ := hI
        obtain ⟨s, a1, a2⟩ := s
        have hL := hws.1.1
        obtain ⟨f1, f2⟩ := num_f hP h12 (show i < tot (pn A) by omega)
        have f3 := num_1 hP (show i < tot (pn A) by omega)
        show YY g 7 s 0 0 46 [(0, .ref (B.1 + 0)), (1, .int v), (2, .long (lN (tot (pn A)))), (4, .int a1), (5, .int a2), (6, .int (nI (i + 1) + (-1)))] []
        rw [pk_m1]
        refine y_iload hg dX0_left_46 rfl ?_
        refine y_if_lt hg 98 dX0_left_48 (by decide) (fun hT => absurd hT (nI_pos (by omega))) (fun _ => ?_)
        refine y_aload_n hg dX0_left_51 rfl ?_
        refine y_iload hg dX0_left_52 rfl ?_
        refine y_i2l hg dX0_left_54 ?_
        refine y_tl (nI_l (by omega)) ?_
        refine y_cVi hg (cX_layNumber hP h12 hXs hCs (show i < tot (pn A) by omega)) iX0_layNumber q545 (hL.x) cf0 rfl rfl (by simp [Value.category]) (Nat.le_refl _) (Nat.le_refl _) (by decide) dX0_left_55 (fun r σ6 hp => ?_)
        obtain ⟨-, hf6, hC6, g1, g2⟩ := hp
        refine y_pop hg dX0_left_58 rfl ?_
        have hw6 := hws.goR hW hf6 (fun a j q => by unfold NP at q; unfold XE; omega)
        have hX6 := hXs.fr12 hP hf6 (fun a j q => by unfold NP at q; unfold EP; omega)
        have hL := hw6.1.1
        have ag := fun (l : Launch) => cX_agrees (ll := l) hW hw6.1 (F := lfF A i) f3 f1 g1 g2
        have J2 : ∀ (w z : Int32), z = (lfS A i (a1, a2)).1 → w = (lfS A i (a1, a2)).2 → YY g 7 σ6 0 0 90 [(0, .ref (B.1 + 0)), (1, .int v), (2, .long (lN (tot (pn A)))), (4, .int z), (5, .int a2), (6, .int (nI i))] [.int w] := by
          intro w z hz hw
          subst hz
          subst hw
          refine y_istore hg dX0_left_90 (by decide) (lv1 := [(0, _), (1, _), (2, _), (4, _), (5, _), (6, _)]) rfl ?_
          refine y_iinc hg dX0_left_92 rfl rfl (by decide) (lv1 := [(0, _), (1, _), (2, _), (4, _), (5, _), (6, _)]) rfl ?_
          refine y_goto hg 46 dX0_left_95 (by decide) ?_
          exact ih (σ6, lfS A i (a1, a2)) ⟨by omega, hfd, hw6, hX6, hC6⟩
        have J : ∀ w : Int32, w = (if lfB A i = true then nI 1 else nI 0) → YY g 7 σ6 0 0 73 [(0, .ref (B.1 + 0)), (1, .int v), (2, .long (lN (tot (pn A)))), (4, .int a1), (5, .int a2), (6, .int (nI i))] [.int w, .int a1] := by
          intro w hw
          subst hw
          refine y_iadd hg dX0_left_73 ?_
          refine y_istore hg dX0_left_74 (by decide) (lv1 := [(0, _), (1, _), (2, _), (4, _), (5, _), (6, _)]) rfl ?_
          refine y_aload_n hg dX0_left_76 rfl ?_
          refine y_cVi hg (ag _) iX0_agrees q843 (hL.x) cf0 rfl rfl (by simp [Value.category]) (Nat.le_refl _) (Nat.le_refl _) (by decide) dX0_left_77 (fun r σ7 hp => ?_)
          obtain ⟨rfl, rfl⟩ := hp
          refine y_if_eq hg 88 dX0_left_80 (by decide) (fun hc3 => ?_) (fun hc3 => ?_)
          · refine y_iload hg dX0_left_88 rfl ?_
            exact J2 _ _ rfl (if_neg (show ¬ lfB A i = true from b2F hc3)).symm
          · refine y_iload hg dX0_left_83 rfl ?_
            refine y_goto hg 90 dX0_left_85 (by decide) ?_
            exact J2 _ _ rfl (if_pos (show lfB A i = true from b2T hc3)).symm
        refine y_iload hg dX0_left_59 rfl ?_
        refine y_aload_n hg dX0_left_61 rfl ?_
        refine y_cVi hg (ag _) iX0_agrees q843 (hL.x) cf0 rfl rfl (by simp [Value.category]) (Nat.le_refl _) (Nat.le_refl _) (by decide) dX0_left_62 (fun r σ7 hp => ?_)
        obtain ⟨rfl, rfl⟩ := hp
        refine y_if_eq hg 72 dX0_left_65 (by decide) (fun hc3 => ?_) (fun hc3 => ?_)
        · refine y_iconst (v := nI 0) hg dX0_left_72 rfl ?_
          exact J _ (by rw [if_neg (show ¬ lfB A i = true from b2F hc3)])
        · refine y_iconst (v := nI 1) hg dX0_left_68 rfl ?_
          refine y_goto hg 73 dX0_left_69 (by decide) ?_
          exact J _ (by rw [if_pos (show lfB A i = true from b2T hc3)])
      · obtain ⟨hi, hfd, hws, hXs, hCs⟩ := hI
        obtain ⟨s, a1, a2⟩ := s
        have hfd : (a1, a2) = fd (lfS A) (tot (pn A)) (nI 0, -9) := hfd
        rw [← hfd] at hr
        show YY g 7 s 0 0 46 [(0, .ref (B.1 + 0)), (1, .int v), (2, .long (lN (tot (pn A)))), (4, .int a1), (5, .int a2), (6, .int (nI 0 + (-1)))] []
        refine y_iload hg dX0_left_46 rfl ?_
        refine y_if_lt hg 98 dX0_left_48 (by decide) (fun _ => ?_) (fun hF => absurd (dn_lt) hF)
        refine y_iload_n hg dX0_left_98 rfl ?_
        refine y_if_ne hg 107 dX0_left_99 (by decide) (fun hc3 => ?_) (fun hc3 => ?_)
        · refine y_iload hg dX0_left_107 rfl ?_
          refine y_iret hg hr ⟨_, rfl, ?_⟩ dX0_left_109 (Nat.le_refl _) (Nat.le_refl _)
          exact ⟨by rw [if_neg hc3], hws.fin⟩
        · refine y_iload hg dX0_left_102 rfl ?_
          refine y_goto hg 109 dX0_left_104 (by decide) ?_
          refine y_iret hg hr ⟨_, rfl, ?_⟩ dX0_left_109 (Nat.le_refl _) (Nat.le_refl _)
          exact ⟨by rw [if_pos hc3], hws.fin⟩
    · refine y_bipush (v := -3) hg dX0_left_30 rfl ?_
      refine y_iret hg hr ⟨_, rfl, ?_⟩ dX0_left_32 (Nat.le_refl _) (Nat.le_refl _)
      have eo : rLeft A v = -3 := by unfold rLeft; rw [if_pos h1, if_neg (fun z => hc2 ((pk_lLE (b := 2000) (by omega) (by omega)).mpr z))]
      exact ⟨eo.symm, hw3.fin⟩
  · refine y_bipush (v := -2) hg dX0_left_10 rfl ?_
    refine y_iret hg hr ⟨_, rfl, ?_⟩ dX0_left_12 (Nat.le_refl _) (Nat.le_refl _)
    have eo : rLeft A v = -2 := by unfold rLeft; rw [if_neg (b2F hc)]
    exact ⟨eo.symm, hR, Fr.rf⟩
theorem cM_left (hW : WFA A) (hR : RMm B A sd σ) (v : Int32) : MT ll B 24 0 0 yX3_left cX3_left 10 (some .int) [.ref (B.1 + 157), .int v] σ (oM B sd σ (rLeft A v, A)) := by
  have hM := hR.1
  have hP : WFP (pn A) := pb_wr hW hW.now
  have h12 : sm (bg (pn A).2.2.2.1) 8 ≤ 12 := hW.now.2.1
  have ht := tot_b hP
  obtain ⟨es, hs⟩ := hW.nse_e
  refine MT.of (by decide) (Nat.le_of_ble_eq_true rfl) (fun g hg hr => ?_)
  refine y_iload_n hg dX3_left_0 rfl ?_
  refine y_i2l hg dX3_left_1 ?_
  refine y_lconst (v := 0) hg dX3_left_2 rfl ?_
  refine y_lconst (v := 1) hg dX3_left_3 rfl ?_
  refine y_cSi hg (cM_in _ _ _) iX3_in q1052 rfl rfl (by simp [Value.category]) (Nat.le_refl _) (Nat.le_refl _) (by decide) dX3_left_4 (fun r σ1 hp => ?_)
  obtain ⟨rfl, rfl⟩ := hp
  refine y_if_ne hg 13 dX3_left_7 (by decide) (fun hc => ?_) (fun hc => ?_)
  · have h1 := b2T hc
    refine y_aload_n hg dX3_left_13 rfl ?_
    refine y_aload_n hg dX3_left_14 rfl ?_
    refine y_getr (j := 7) hg cf3 (hM.m) (by decide) rfl (hM.r_now) q918 dX3_left_15 ?_
    refine y_cVl hg (cM_manyOf (P := pn A) hM (Or.inl rfl) hP (hR.wm hW) (fun j hj => hR.now hj) RMm.hu0) iX3_manyOf q1142 (hM.m) cf3 rfl rfl (by simp [Value.category]) (Nat.le_refl _) (Nat.le_refl _) (by decide) dX3_left_18 (fun r σ3 hp => ?_)
    obtain ⟨rfl, hX3, hC3, hf2⟩ := hp
    refine y_lstore_n hg dX3_left_21 (by decide) (lv1 := [(0, _), (1, _), (2, _)]) rfl ?_
    have hw3 := (WM.rf hR).go hf2 (fun a j q => by unfold MyP MkP at q; unfold ME; omega)
    refine y_lload_n hg dX3_left_22 rfl ?_
    refine y_ldc2 hg dX3_left_23 q1326 ?_
    refine y_lc_le hg 33 dX3_left_26 dX3_left_27 (by decide) (fun hc2 => ?_) (fun hc2 => ?_)
    · have h2 : tot (pn A) ≤ 2000 := (pk_lLE (b := 2000) (by omega) (by omega)).mp hc2
      have eo : rLeft A v = (if v = 0 then (fd (lfS A) (tot (pn A)) (nI 0, -9)).1 else (fd (lfS A) (tot (pn A)) (nI 0, -9)).2) := by unfold rLeft; rw [if_pos h1, if_pos h2]
      rw [eo] at hr
      refine y_iconst (v := nI 0) hg dX3_left_33 rfl ?_
      refine y_istore hg dX3_left_34 (by decide) (lv1 := [(0, _), (1, _), (2, _), (4, _)]) rfl ?_
      refine y_bipush (v := -9) hg dX3_left_36 rfl ?_
      refine y_istore hg dX3_left_38 (by decide) (lv1 := [(0, _), (1, _), (2, _), (4, _), (5, _)]) rfl ?_
      refine y_lload_n hg dX3_left_40 rfl ?_
      refine y_l2i hg dX3_left_41 ?_
      refine y_ti (l2i_N _) ?_
      refine y_iconst (v := nI 1) hg dX3_left_42 rfl ?_
      refine y_isub hg dX3_left_43 ?_
      refine y_ti (dn_e (tot (pn A))) ?_
      refine y_istore hg dX3_left_44 (by decide) (lv1 := [(0, _), (1, _), (2, _), (4, _), (5, _), (6, _)]) rfl ?_
      refine (loop_dst (S := Mem × Int32 × Int32) (G := fun i s => YY g 10 s.1 0 0 46 [(0, .ref (B.1 + 157)), (1, .int v), (2, .long (lN (tot (pn A)))), (4, .int s.2.1), (5, .int s.2.2), (6, .int (nI i + (-1)))] []) (I := fun i s => i ≤ tot (pn A) ∧ fd (lfS A) i s.2 = fd (lfS A) (tot (pn A)) (nI 0, -9) ∧ WM B A sd σ1 s.1 ∧ PM B s.1 (pn A) ∧ WyM s.1 (pn A)) (fun i s hI ih => ?_) (fun s hI => ?_) (tot (pn A)) (σ3, nI 0, -9) ⟨Nat.le_refl _, rfl, hw3, hX3, hC3⟩)
      · obtain ⟨hi, hfd, hws, hXs, hCs⟩ := hI
        obtain ⟨s, a1, a2⟩ := s
        have hM := hws.1.1
        have hn : 186 < s.2.1 := hM.n
        obtain ⟨f1, f2⟩ := num_f hP h12 (show i < tot (pn A) by omega)
        have f3 := num_1 hP (show i < tot (pn A) by omega)
        show YY g 10 s 0 0 46 [(0, .ref (B.1 + 157)), (1, .int v), (2, .long (lN (tot (pn A)))), (4, .int a1), (5, .int a2), (6, .int (nI (i + 1) + (-1)))] []
        rw [pk_m1]
        refine y_iload hg dX3_left_46 rfl ?_
        refine y_if_lt hg 167 dX3_left_48 (by decide) (fun hT => absurd hT (nI_pos (by omega))) (fun _ => ?_)
        refine y_aload_n hg dX3_left_51 rfl ?_
        refine y_iload hg dX3_left_52 rfl ?_
        refine y_i2l hg dX3_left_54 ?_
        refine y_tl (nI_l (by omega)) ?_
        refine y_cVi hg (cM_find hP h12 hXs hCs (show i < tot (pn A) by omega)) iX3_find q1268 (hM.m) cf3 rfl rfl (by simp [Value.category]) (Nat.le_refl _) (Nat.le_refl _) (by decide) dX3_left_55 (fun r σ6 hp => ?_)
        obtain ⟨rfl, hf6, g2⟩ := hp
        refine y_istore hg dX3_left_58 (by decide) (lv1 := [(0, _), (1, _), (2, _), (4, _), (5, _), (6, _), (7, _)]) rfl ?_
        refine y_iconst (v := nI 1) hg dX3_left_60 rfl ?_
        refine y_istore hg dX3_left_61 (by decide) (lv1 := [(0, _), (1, _), (2, _), (4, _), (5, _), (6, _), (7, _), (8, _)]) rfl ?_
        refine y_iconst (v := nI 0) hg dX3_left_63 rfl ?_
        refine y_istore hg dX3_left_64 (by decide) (lv1 := [(0, _), (1, _), (2, _), (4, _), (5, _), (6, _), (7, _), (8, _), (9, _)]) rfl ?_
        have hw6 := hws.go hf6 (fun a j q => by unfold ME; omega)
        have hX6 := hXs.fr hf6 (fun a j q => by unfold EM; omega)
        have hM := hw6.1.1
        have em := hw6.1.seen.trans es
        have hC6 : WyM σ6 (pn A) := fun r k hr hk => by rw [hf6.l (by omega) (by omega)]; exact hCs r k hr hk
        show YY g 10 σ6 0 0 66 [(0, .ref (B.1 + 157)), (1, .int v), (2, .long (lN (tot (pn A)))), (4, .int a1), (5, .int a2), (6, .int (nI i)), (7, .int (nI (lnN (pn A) i))), (8, .int (nI 1)), (9, .int (nI 0))] []
        have g2 : ∀ x, x < lnN (pn A) i → σ6.2.2.1 184 x = lfF A i x := g2
        refine (loop_up (G := fun k => YY g 10 σ6 0 0 66 [(0, .ref (B.1 + 157)), (1, .int v), (2, .long (lN (tot (pn A)))), (4, .int a1), (5, .int a2), (6, .int (nI i)), (7, .int (nI (lnN (pn A) i))), (8, .int (b2 (fo (agS A (lfF A i) (lnN (pn A) i)) true k))), (9, .int (nI k))] []) (nse A) (fun k hk ih2 => ?_) ?_ 0 (Nat.zero_le _))
        · have J : ∀ w : Int32, w = b2 (agS A (lfF A i) (lnN (pn A) i) k (fo (agS A (lfF A i) (lnN (pn A) i)) true k)) → YY g 10 σ6 0 0 124 [(0, .ref (B.1 + 157)), (1, .int v), (2, .long (lN (tot (pn A)))), (4, .int a1), (5, .int a2), (6, .int (nI i)), (7, .int (nI (lnN (pn A) i))), (8, .int (b2 (fo (agS A (lfF A i) (lnN (pn A) i)) true k))), (9, .int (nI k))] [.int w] := by
            intro w hw
            subst hw
            refine y_istore hg dX3_left_124 (by decide) (lv1 := [(0, _), (1, _), (2, _), (4, _), (5, _), (6, _), (7, _), (8, _), (9, _)]) rfl ?_
            refine y_iinc hg dX3_left_126 rfl (inc1 _) (by decide) (lv1 := [(0, _), (1, _), (2, _), (4, _), (5, _), (6, _), (7, _), (8, _), (9, _)]) rfl ?_
            refine y_goto hg 66 dX3_left_129 (by decide) ?_
            exact ih2
          have J2 : ∀ w : Int32, fo (agS A (lfF A i) (lnN (pn A) i)) true k = true → w = b2 (decide (A 9 k = nI 1)) → YY g 10 σ6 0 0 116 [(0, .ref (B.1 + 157)), (1, .int v), (2, .long (lN (tot (pn A)))), (4, .int a1), (5, .int a2), (6, .int (nI i)), (7, .int (nI (lnN (pn A) i))), (8, .int (b2 (fo (agS A (lfF A i) (lnN (pn A) i)) true k))), (9, .int (nI k))] [.int w, .int (b2 (soB (lfF A i) (lnN (pn A) i) (A 7 k) (A 8 k)))] := by
            intro w h0 hw
            subst hw
            refine y_icmp_ne hg 123 dX3_left_116 (by decide) (fun hc3 => ?_) (fun hc3 => ?_)
            · refine y_iconst (v := nI 0) hg dX3_left_123 rfl ?_
              exact J _ (by unfold agS; rw [decide_eq_false (fun z => hc3 (b2_inj.mpr z)), Bool.and_false]; rfl)
            · refine y_iconst (v := nI 1) hg dX3_left_119 rfl ?_
              refine y_goto hg 124 dX3_left_120 (by decide) ?_
              exact J _ (by rw [h0]; unfold agS; rw [decide_eq_true (b2_inj.mp hc3)]; rfl)
          refine y_iload hg dX3_left_66 rfl ?_
          refine y_aload_n hg dX3_left_68 rfl ?_
          refine y_geti (j := 19) hg cf3 (hM.m) (by decide) rfl q930 dX3_left_69 ?_
          refine y_ti (em) ?_
          refine y_icmp_ge hg 132 dX3_left_72 (by decide) (fun hT => absurd hT (ge_c hk (by omega))) (fun _ => ?_)
          refine y_iload hg dX3_left_75 rfl ?_
          refine y_if_eq hg 123 dX3_left_77 (by decide) (fun hc0 => ?_) (fun hc0 => ?_)
          · refine y_iconst (v := nI 0) hg dX3_left_123 rfl ?_
            exact J _ (by rw [(b2_eq _).mp hc0]; rfl)
          refine y_aload_n hg dX3_left_80 rfl ?_
          refine y_iload hg dX3_left_81 rfl ?_
          refine y_aload_n hg dX3_left_83 rfl ?_
          refine y_getr (j := 16) hg cf3 (hM.m) (by decide) rfl (hM.r_seenWhat) q927 dX3_left_84 ?_
          refine y_iload hg dX3_left_87 rfl ?_
          refine y_iald hg _ (hM.k_seenWhat) rfl (by omega) dX3_left_89 ?_
          refine y_ti (hw6.1.sWhat (by omega)) ?_
          refine y_aload_n hg dX3_left_90 rfl ?_
          refine y_getr (j := 17) hg cf3 (hM.m) (by decide) rfl (hM.r_seenOf) q928 dX3_left_91 ?_
          refine y_iload hg dX3_left_94 rfl ?_
          refine y_iald hg _ (hM.k_seenOf) rfl (by omega) dX3_left_96 ?_
          refine y_ti (hw6.1.sOf (by omega)) ?_
          refine y_cVi hg (cM_isSo hM f3 f1 g2 _ _) iX3_isSo q1327 (hM.m) cf3 rfl rfl (by simp [Value.category]) (Nat.le_refl _) (Nat.le_refl _) (by decide) dX3_left_97 (fun r σ7 hp => ?_)
          obtain ⟨rfl, rfl⟩ := hp
          refine y_aload_n hg dX3_left_100 rfl ?_
          refine y_getr (j := 18) hg cf3 (hM.m) (by decide) rfl (hM.r_seenWas) q929 dX3_left_101 ?_
          refine y_iload hg dX3_left_104 rfl ?_
          refine y_iald hg _ (hM.k_seenWas) rfl (by omega) dX3_left_106 ?_
          refine y_ti (hw6.1.sWas (by omega)) ?_
          refine y_iconst (v := nI 1) hg dX3_left_107 rfl ?_
          refine y_icmp_ne hg 115 dX3_left_108 (by decide) (fun hc3 => ?_) (fun hc3 => ?_)
          · refine y_iconst (v := nI 0) hg dX3_left_115 rfl ?_
            exact J2 _ (b2T hc0) (by rw [decide_eq_false hc3]; rfl)
          · refine y_iconst (v := nI 1) hg dX3_left_111 rfl ?_
            refine y_goto hg 116 dX3_left_112 (by decide) ?_
            exact J2 _ (b2T hc0) (by rw [decide_eq_true hc3]; rfl)
        · have K2 : ∀ (w z : Int32), z = (lfS A i (a1, a2)).1 → w = (lfS A i (a1, a2)).2 → YY g 10 σ6 0 0 159 [(0, .ref (B.1 + 157)), (1, .int v), (2, .long (lN (tot (pn A)))), (4, .int z), (5, .int a2), (6, .int (nI i)), (7, .int (nI (lnN (pn A) i))), (8, .int (b2 (fo (agS A (lfF A i) (lnN (pn A) i)) true (nse A)))), (9, .int (nI (nse A)))] [.int w] := by
            intro w z hz hw
            subst hz
            subst hw
            refine y_istore hg dX3_left_159 (by decide) (lv1 := [(0, _), (1, _), (2, _), (4, _), (5, _), (6, _), (7, _), (8, _), (9, _)]) rfl ?_
            refine y_iinc hg dX3_left_161 rfl rfl (by decide) (lv1 := [(0, _), (1, _), (2, _), (4, _), (5, _), (6, _), (7, _), (8, _), (9, _)]) rfl ?_
            refine y_goto hg 46 dX3_left_164 (by decide) ?_
            refine y_sub [0, 1, 2, 3, 4, 5] rfl (ih (σ6, lfS A i (a1, a2)) ⟨by omega, hfd, hw6, hX6, hC6⟩)
          have K : ∀ w : Int32, w = (if lfB A i = true then nI 1 else nI 0) → YY g 10 σ6 0 0 144 [(0, .ref (B.1 + 157)), (1, .int v), (2, .long (lN (tot (pn A)))), (4, .int a1), (5, .int a2), (6, .int (nI i)), (7, .int (nI (lnN (pn A) i))), (8, .int (b2 (fo (agS A (lfF A i) (lnN (pn A) i)) true (nse A)))), (9, .int (nI (nse A)))] [.int w, .int a1] := by
            intro w hw
            subst hw
            refine y_iadd hg dX3_left_144 ?_
            refine y_istore hg dX3_left_145 (by decide) (lv1 := [(0, _), (1, _), (2, _), (4, _), (5, _), (6, _), (7, _), (8, _), (9, _)]) rfl ?_
            refine y_iload hg dX3_left_147 rfl ?_
            refine y_if_eq hg 157 dX3_left_149 (by decide) (fun hc3 => ?_) (fun hc3 => ?_)
            · refine y_iload hg dX3_left_157 rfl ?_
              exact K2 _ _ rfl (if_neg (show ¬ lfB A i = true from b2F hc3)).symm
            · refine y_iload hg dX3_left_152 rfl ?_
              refine y_goto hg 159 dX3_left_154 (by decide) ?_
              exact K2 _ _ rfl (if_pos (show lfB A i = true from b2T hc3)).symm
          refine y_iload hg dX3_left_66 rfl ?_
          refine y_aload_n hg dX3_left_68 rfl ?_
          refine y_geti (j := 19) hg cf3 (hM.m) (by decide) rfl q930 dX3_left_69 ?_
          refine y_ti (em) ?_
          refine y_icmp_ge hg 132 dX3_left_72 (by decide) (fun _ => ?_) (fun hF => absurd (le_c (Nat.le_refl _) (by omega)) hF)
          refine y_iload hg dX3_left_132 rfl ?_
          refine y_iload hg dX3_left_134 rfl ?_
          refine y_if_eq hg 143 dX3_left_136 (by decide) (fun hc3 => ?_) (fun hc3 => ?_)
          · refine y_iconst (v := nI 0) hg dX3_left_143 rfl ?_
            exact K _ (by rw [if_neg (show ¬ lfB A i = true from b2F hc3)])
          · refine y_iconst (v := nI 1) hg dX3_left_139 rfl ?_
            refine y_goto hg 144 dX3_left_140 (by decide) ?_
            exact K _ (by rw [if_pos (show lfB A i = true from b2T hc3)])
      · obtain ⟨hi, hfd, hws, hXs, hCs⟩ := hI
        obtain ⟨s, a1, a2⟩ := s
        have hfd : (a1, a2) = fd (lfS A) (tot (pn A)) (nI 0, -9) := hfd
        rw [← hfd] at hr
        show YY g 10 s 0 0 46 [(0, .ref (B.1 + 157)), (1, .int v), (2, .long (lN (tot (pn A)))), (4, .int a1), (5, .int a2), (6, .int (nI 0 + (-1)))] []
        refine y_iload hg dX3_left_46 rfl ?_
        refine y_if_lt hg 167 dX3_left_48 (by decide) (fun _ => ?_) (fun hF => absurd (dn_lt) hF)
        refine y_iload_n hg dX3_left_167 rfl ?_
        refine y_if_ne hg 176 dX3_left_168 (by decide) (fun hc3 => ?_) (fun hc3 => ?_)
        · refine y_iload hg dX3_left_176 rfl ?_
          refine y_iret hg hr ⟨_, rfl, ?_⟩ dX3_left_178 (Nat.le_refl _) (Nat.le_refl _)
          exact ⟨by rw [if_neg hc3], hws.fin⟩
        · refine y_iload hg dX3_left_171 rfl ?_
          refine y_goto hg 178 dX3_left_173 (by decide) ?_
          refine y_iret hg hr ⟨_, rfl, ?_⟩ dX3_left_178 (Nat.le_refl _) (Nat.le_refl _)
          exact ⟨by rw [if_pos hc3], hws.fin⟩
    · refine y_bipush (v := -3) hg dX3_left_30 rfl ?_
      refine y_iret hg hr ⟨_, rfl, ?_⟩ dX3_left_32 (Nat.le_refl _) (Nat.le_refl _)
      have eo : rLeft A v = -3 := by unfold rLeft; rw [if_pos h1, if_neg (fun z => hc2 ((pk_lLE (b := 2000) (by omega) (by omega)).mpr z))]
      exact ⟨eo.symm, hw3.fin⟩
  · refine y_bipush (v := -2) hg dX3_left_10 rfl ?_
    refine y_iret hg hr ⟨_, rfl, ?_⟩ dX3_left_12 (Nat.le_refl _) (Nat.le_refl _)
    have eo : rLeft A v = -2 := by unfold rLeft; rw [if_neg (b2F hc)]
    exact ⟨eo.symm, hR, FrR.rf⟩
end Left2

