section About
variable {ll : Launch} {B : Bs} {σ : Mem} {A : Ab} {sd : Int64}
theorem cX_isUsed (hW : WFA A) {σ0 : Mem} (hw0 : WX B A sd σ0 σ) {w : Nat} (hw : w < nm A) : MT ll B 18 0 0 yX0_isUsed cX0_isUsed 4 (some .boolean) [.ref (B.1 + 0), .int (nI w)] σ (pI fun r σ' => r = b2 (decide (tot (pw A w) < tot (pn A))) ∧ WX B A sd σ0 σ') := by
  have hL := hw0.1.1
  have hm := hW.nmle
  have em := hw0.1.many.trans hW.1.1
  have hP : WFP (pn A) := pb_wr hW hW.now
  have hP2 : ∀ w, WFP (pw A w) := fun w => pb_wr hW hW.now
  have t1 := tot_b hP
  have t2 := tot_b (hP2 w)
  refine MT.of (by decide) (Nat.le_of_ble_eq_true rfl) (fun g hg hr => ?_)
  refine y_aload_n hg dX0_isUsed_0 rfl ?_
  refine y_aload_n hg dX0_isUsed_1 rfl ?_
  refine y_getr (j := 2) hg cf0 (hL.x) (by decide) rfl (hL.r_now) q174 dX0_isUsed_2 ?_
  refine y_aload_n hg dX0_isUsed_5 rfl ?_
  refine y_cVi hg (cX_all hL) iX0_all q372 (hL.x) cf0 rfl rfl (by simp [Value.category]) (Nat.le_refl _) (Nat.le_refl _) (by decide) dX0_isUsed_6 (fun r σ4 hp => ?_)
  obtain ⟨rfl, rfl⟩ := hp
  refine y_aload_n hg dX0_isUsed_9 rfl ?_
  refine y_getr (j := 2) hg cf0 (hL.x) (by decide) rfl (hL.r_now) q174 dX0_isUsed_10 ?_
  refine y_getiN (j := 1) hg cf1 (hL.s_now.o) (by decide) rfl nf1 dX0_isUsed_13 ?_
  refine y_ti (hw0.1.barred) ?_
  refine y_iconst (v := -1) hg dX0_isUsed_16 rfl ?_
  refine y_ixor hg dX0_isUsed_17 ?_
  refine y_iand hg dX0_isUsed_18 ?_
  refine y_cVv hg (cX_look (P := pn A) hL hL.s_now (Or.inl rfl) hP (hw0.1.wx hW) (fun j hj => hw0.1.now hj) (fun v hv => by rw [em]; exact u_all hm hv)) iX0_look_2 q376 (hL.x) cf0 rfl rfl (by simp [Value.category]) (Nat.le_refl _) (Nat.le_refl _) (by decide) dX0_isUsed_19 (fun σ1 hp => ?_)
  obtain ⟨q1, q2, q3, q4, q5, q6⟩ := hp
  have hw1 := hw0.go hW (q4.mono (fun a j q => by unfold LkP at q; unfold XE; omega)) q5 q6
  have hL := hw1.1.1
  refine y_aload_n hg dX0_isUsed_22 rfl ?_
  refine y_cVl hg (cX_countAll hP q1 q2) iX0_countAll q404 (hL.x) cf0 rfl rfl (by simp [Value.category]) (Nat.le_refl _) (Nat.le_refl _) (by decide) dX0_isUsed_23 (fun r σ3 hp => ?_)
  obtain ⟨rfl, hf3, hC3⟩ := hp
  refine y_lstore_n hg dX0_isUsed_26 (by decide) (lv1 := [(0, _), (1, _), (2, _)]) rfl ?_
  have hw3 := hw1.goR hW hf3 (fun a j q => by unfold XE; omega)
  have hL := hw3.1.1
  have em := hw3.1.many.trans hW.1.1
  refine y_aload_n hg dX0_isUsed_27 rfl ?_
  refine y_aload_n hg dX0_isUsed_28 rfl ?_
  refine y_getr (j := 2) hg cf0 (hL.x) (by decide) rfl (hL.r_now) q174 dX0_isUsed_29 ?_
  refine y_aload_n hg dX0_isUsed_32 rfl ?_
  refine y_cVi hg (cX_all hL) iX0_all q372 (hL.x) cf0 rfl rfl (by simp [Value.category]) (Nat.le_refl _) (Nat.le_refl _) (by decide) dX0_isUsed_33 (fun r σ4 hp => ?_)
  obtain ⟨rfl, rfl⟩ := hp
  refine y_aload_n hg dX0_isUsed_36 rfl ?_
  refine y_getr (j := 2) hg cf0 (hL.x) (by decide) rfl (hL.r_now) q174 dX0_isUsed_37 ?_
  refine y_getiN (j := 1) hg cf1 (hL.s_now.o) (by decide) rfl nf1 dX0_isUsed_40 ?_
  refine y_ti (hw3.1.barred) ?_
  refine y_iconst (v := -1) hg dX0_isUsed_43 rfl ?_
  refine y_ixor hg dX0_isUsed_44 ?_
  refine y_iand hg dX0_isUsed_45 ?_
  refine y_iconst (v := nI 1) hg dX0_isUsed_46 rfl ?_
  refine y_iload_n hg dX0_isUsed_47 rfl ?_
  refine y_ishl hg dX0_isUsed_48 ?_
  refine y_iconst (v := -1) hg dX0_isUsed_49 rfl ?_
  refine y_ixor hg dX0_isUsed_50 ?_
  refine y_iand hg dX0_isUsed_51 ?_
  refine y_cVv hg (cX_look (P := pw A w) hL hL.s_now (Or.inl rfl) (hP2 w) (hw3.1.wx hW) (fun j hj => hw3.1.now hj) (fun v hv => by rw [em]; exact u_but hm hv hw)) iX0_look_2 q376 (hL.x) cf0 rfl rfl (by simp [Value.category]) (Nat.le_refl _) (Nat.le_refl _) (by decide) dX0_isUsed_52 (fun σ5 hp => ?_)
  obtain ⟨p1, p2, p3, p4, p5, p6⟩ := hp
  have hw5 := hw3.go hW (p4.mono (fun a j q => by unfold LkP at q; unfold XE; omega)) p5 p6
  have hL := hw5.1.1
  refine y_aload_n hg dX0_isUsed_55 rfl ?_
  refine y_cVl hg (cX_countAll (hP2 w) p1 p2) iX0_countAll q404 (hL.x) cf0 rfl rfl (by simp [Value.category]) (Nat.le_refl _) (Nat.le_refl _) (by decide) dX0_isUsed_56 (fun r σ6 hp => ?_)
  obtain ⟨rfl, hf6, hC6⟩ := hp
  have hw6 := hw5.goR hW hf6 (fun a j q => by unfold XE; omega)
  refine y_lload_n hg dX0_isUsed_59 rfl ?_
  refine y_lc_ge hg 68 dX0_isUsed_60 dX0_isUsed_61 (by decide) (fun hc => ?_) (fun hc => ?_)
  · refine y_iconst (v := nI 0) hg dX0_isUsed_68 rfl ?_
    refine y_zret hg hr rfl ⟨_, rfl, ?_⟩ dX0_isUsed_69 (Nat.le_refl _) (Nat.le_refl _)
    have := (pk_lLE (by omega) (by omega)).mp hc
    exact ⟨by rw [decide_eq_false (by omega)]; rfl, hw6⟩
  · refine y_iconst (v := nI 1) hg dX0_isUsed_64 rfl ?_
    refine y_goto hg 69 dX0_isUsed_65 (by decide) ?_
    refine y_zret hg hr rfl ⟨_, rfl, ?_⟩ dX0_isUsed_69 (Nat.le_refl _) (Nat.le_refl _)
    have h : ¬ tot (pn A) ≤ tot (pw A w) := fun z => hc ((pk_lLE (by omega) (by omega)).mpr z)
    exact ⟨by rw [decide_eq_true (by omega)]; rfl, hw6⟩
/-- the words that are in phrases -/
def ipS (A : Ab) (w : Nat) (s : Int32) : Int32 := s ||| (if tot (pw A w) < tot (pn A) then nI 1 <<< (nI w &&& 31) else nI 0)
theorem cX_inPhrases (hW : WFA A) {σ0 : Mem} (hw0 : WX B A sd σ0 σ) : MT ll B 19 0 0 yX0_inPhrases cX0_inPhrases 3 (some .int) [.ref (B.1 + 0)] σ (pI fun r σ' => r = fo (ipS A) (nI 0) (nm A) ∧ WX B A sd σ0 σ') := by
  have hm := hW.nmle
  have hL := hw0.1.1
  refine MT.of (by decide) (Nat.le_of_ble_eq_true rfl) (fun g hg hr => ?_)
  refine y_iconst (v := nI 0) hg dX0_inPhrases_0 rfl ?_
  refine y_istore_n hg dX0_inPhrases_1 (by decide) (lv1 := [(0, _), (1, _)]) rfl ?_
  refine y_iconst (v := nI 0) hg dX0_inPhrases_2 rfl ?_
  refine y_istore_n hg dX0_inPhrases_3 (by decide) (lv1 := [(0, _), (1, _), (2, _)]) rfl ?_
  have LOOP := loop_st (S := Mem) (G := fun i s => YY g 3 s 0 0 4 [(0, .ref (B.1 + 0)), (1, .int (fo (ipS A) (nI 0) i)), (2, .int (nI i))] []) (I := fun i s => WX B A sd σ0 s) (nm A) ?_ ?_ 0 σ (Nat.zero_le _) hw0
  · exact LOOP
  · intro i s hi hws ih
    have hL := hws.1.1
    have em := hws.1.many.trans hW.1.1
    have J : ∀ (t : Mem) (v : Int32), WX B A sd σ0 t → v = (if tot (pw A i) < tot (pn A) then nI 1 <<< (nI i &&& 31) else nI 0) → YY g 3 t 0 0 28 [(0, .ref (B.1 + 0)), (1, .int (fo (ipS A) (nI 0) i)), (2, .int (nI i))] [.int v, .int (fo (ipS A) (nI 0) i)] := by
      intro t v ht hv
      subst hv
      refine y_ior hg dX0_inPhrases_28 ?_
      refine y_istore_n hg dX0_inPhrases_29 (by decide) (lv1 := [(0, _), (1, _), (2, _)]) rfl ?_
      refine y_iinc hg dX0_inPhrases_30 rfl (inc1 _) (by decide) (lv1 := [(0, _), (1, _), (2, _)]) rfl ?_
      refine y_goto hg 4 dX0_inPhrases_33 (by decide) ?_
      exact ih _ ht
    refine y_iload_n hg dX0_inPhrases_4 rfl ?_
    refine y_aload_n hg dX0_inPhrases_5 rfl ?_
    refine y_geti (j := 1) hg cf0 (hL.x) (by decide) rfl q173 dX0_inPhrases_6 ?_
    refine y_ti (em) ?_
    refine y_icmp_ge hg 36 dX0_inPhrases_9 (by decide) (fun hT => absurd hT (ge_c hi (by omega))) (fun _ => ?_)
    refine y_iload_n hg dX0_inPhrases_12 rfl ?_
    refine y_aload_n hg dX0_inPhrases_13 rfl ?_
    refine y_iload_n hg dX0_inPhrases_14 rfl ?_
    refine y_cVi hg (cX_isUsed hW hws hi) iX0_isUsed q400 (hL.x) cf0 rfl rfl (by simp [Value.category]) (Nat.le_refl _) (Nat.le_refl _) (by decide) dX0_inPhrases_15 (fun r σ2 hp => ?_)
    obtain ⟨rfl, hw2⟩ := hp
    refine y_if_eq hg 27 dX0_inPhrases_18 (by decide) (fun hc => ?_) (fun hc => ?_)
    · refine y_iconst (v := nI 0) hg dX0_inPhrases_27 rfl ?_
      exact J _ _ hw2 (by rw [if_neg (fun z => b2F hc (decide_eq_true z))])
    · refine y_iconst (v := nI 1) hg dX0_inPhrases_21 rfl ?_
      refine y_iload_n hg dX0_inPhrases_22 rfl ?_
      refine y_ishl hg dX0_inPhrases_23 ?_
      refine y_goto hg 28 dX0_inPhrases_24 (by decide) ?_
      exact J _ _ hw2 (by rw [if_pos (of_decide_eq_true (b2T hc))])
  · intro s hws
    have hL := hws.1.1
    have em := hws.1.many.trans hW.1.1
    refine y_iload_n hg dX0_inPhrases_4 rfl ?_
    refine y_aload_n hg dX0_inPhrases_5 rfl ?_
    refine y_geti (j := 1) hg cf0 (hL.x) (by decide) rfl q173 dX0_inPhrases_6 ?_
    refine y_ti (em) ?_
    refine y_icmp_ge hg 36 dX0_inPhrases_9 (by decide) (fun _ => ?_) (fun hF => absurd (le_c (Nat.le_refl _) (by omega)) hF)
    refine y_iload_n hg dX0_inPhrases_36 rfl ?_
    refine y_iret hg hr ⟨_, rfl, ?_⟩ dX0_inPhrases_37 (Nat.le_refl _) (Nat.le_refl _)
    exact ⟨rfl, hws⟩
theorem cM_inPhrases (hW : WFA A) {σ0 : Mem} (hw0 : WM B A sd σ0 σ) : MT ll B 19 0 0 yX3_inPhrases cX3_inPhrases 3 (some .int) [.ref (B.1 + 157)] σ (pI fun r σ' => r = fo (ipS A) (nI 0) (nm A) ∧ WM B A sd σ0 σ') := by
  have hm := hW.nmle
  have hM := hw0.1.1
  have hP : WFP (pn A) := pb_wr hW hW.now
  have hP2 : ∀ w, WFP (pw A w) := fun w => pb_wr hW hW.now
  have t1 := tot_b hP
  refine MT.of (by decide) (Nat.le_of_ble_eq_true rfl) (fun g hg hr => ?_)
  refine y_iconst (v := nI 0) hg dX3_inPhrases_0 rfl ?_
  refine y_istore_n hg dX3_inPhrases_1 (by decide) (lv1 := [(0, _), (1, _)]) rfl ?_
  refine y_iconst (v := nI 0) hg dX3_inPhrases_2 rfl ?_
  refine y_istore_n hg dX3_inPhrases_3 (by decide) (lv1 := [(0, _), (1, _), (2, _)]) rfl ?_
  have LOOP := loop_st (S := Mem) (G := fun i s => YY g 3 s 0 0 4 [(0, .ref (B.1 + 157)), (1, .int (fo (ipS A) (nI 0) i)), (2, .int (nI i))] []) (I := fun i s => WM B A sd σ0 s) (nm A) ?_ ?_ 0 σ (Nat.zero_le _) hw0
  · exact LOOP
  · intro i s hi hws ih
    have hM := hws.1.1
    have em := hws.1.many.trans hW.1.1
    have t2 := tot_b (hP2 i)
    have J : ∀ (t : Mem) (v : Int32), WM B A sd σ0 t → v = (if tot (pw A i) < tot (pn A) then nI 1 <<< (nI i &&& 31) else nI 0) → YY g 3 t 0 0 34 [(0, .ref (B.1 + 157)), (1, .int (fo (ipS A) (nI 0) i)), (2, .int (nI i))] [.int v, .int (fo (ipS A) (nI 0) i)] := by
      intro t v ht hv
      subst hv
      refine y_ior hg dX3_inPhrases_34 ?_
      refine y_istore_n hg dX3_inPhrases_35 (by decide) (lv1 := [(0, _), (1, _), (2, _)]) rfl ?_
      refine y_iinc hg dX3_inPhrases_36 rfl (inc1 _) (by decide) (lv1 := [(0, _), (1, _), (2, _)]) rfl ?_
      refine y_goto hg 4 dX3_inPhrases_39 (by decide) ?_
      exact ih _ ht
    have lp : 0 < rWith A (A 11) i ↔ tot (pw A i) < tot (pn A) := lsub_pos t1 t2
    refine y_iload_n hg dX3_inPhrases_4 rfl ?_
    refine y_aload_n hg dX3_inPhrases_5 rfl ?_
    refine y_geti (j := 2) hg cf3 (hM.m) (by decide) rfl q913 dX3_inPhrases_6 ?_
    refine y_ti (em) ?_
    refine y_icmp_ge hg 42 dX3_inPhrases_9 (by decide) (fun hT => absurd hT (ge_c hi (by omega))) (fun _ => ?_)
    refine y_iload_n hg dX3_inPhrases_12 rfl ?_
    refine y_aload_n hg dX3_inPhrases_13 rfl ?_
    refine y_aload_n hg dX3_inPhrases_14 rfl ?_
    refine y_getr (j := 7) hg cf3 (hM.m) (by decide) rfl (hM.r_now) q918 dX3_inPhrases_15 ?_
    refine y_iload_n hg dX3_inPhrases_18 rfl ?_
    refine y_cVl hg (cM_withWord hW hws (Or.inl rfl) (fun j hj => hws.1.now hj) hP hi) iX3_withWord q1138 (hM.m) cf3 rfl rfl (by simp [Value.category]) (Nat.le_refl _) (Nat.le_refl _) (by decide) dX3_inPhrases_19 (fun r σ2 hp => ?_)
    obtain ⟨rfl, hw2, -⟩ := hp
    refine y_lconst (v := 0) hg dX3_inPhrases_22 rfl ?_
    refine y_lc_le hg 33 dX3_inPhrases_23 dX3_inPhrases_24 (by decide) (fun hc => ?_) (fun hc => ?_)
    · refine y_iconst (v := nI 0) hg dX3_inPhrases_33 rfl ?_
      exact J _ _ hw2 (by rw [if_neg (fun z => Int64.not_lt.mpr hc (lp.mpr z))])
    · refine y_iconst (v := nI 1) hg dX3_inPhrases_27 rfl ?_
      refine y_iload_n hg dX3_inPhrases_28 rfl ?_
      refine y_ishl hg dX3_inPhrases_29 ?_
      refine y_goto hg 34 dX3_inPhrases_30 (by decide) ?_
      exact J _ _ hw2 (by rw [if_pos (lp.mp (Int64.not_le.mp hc))])
  · intro s hws
    have hM := hws.1.1
    have em := hws.1.many.trans hW.1.1
    refine y_iload_n hg dX3_inPhrases_4 rfl ?_
    refine y_aload_n hg dX3_inPhrases_5 rfl ?_
    refine y_geti (j := 2) hg cf3 (hM.m) (by decide) rfl q913 dX3_inPhrases_6 ?_
    refine y_ti (em) ?_
    refine y_icmp_ge hg 42 dX3_inPhrases_9 (by decide) (fun _ => ?_) (fun hF => absurd (le_c (Nat.le_refl _) (by omega)) hF)
    refine y_iload_n hg dX3_inPhrases_42 rfl ?_
    refine y_iret hg hr ⟨_, rfl, ?_⟩ dX3_inPhrases_43 (Nat.le_refl _) (Nat.le_refl _)
    exact ⟨rfl, hws⟩
/-- how many unlike letters -/
def ulS (A : Ab) (x : Nat) (n : Int32) : Int32 := n + (if 0 < A 11 x then nI 1 else nI 0)
theorem cX_unlike (hR : RX B A sd σ) : MT ll B 1 0 0 yX0_unlike cX0_unlike 3 (some .int) [.ref (B.1 + 0)] σ (pI fun r σ' => r = fo (ulS A) (nI 0) 8 ∧ σ' = σ) := by
  have hL := hR.1
  refine MT.of (by decide) (Nat.le_of_ble_eq_true rfl) (fun g hg hr => ?_)
  refine y_iconst (v := nI 0) hg dX0_unlike_0 rfl ?_
  refine y_istore_n hg dX0_unlike_1 (by decide) (lv1 := [(0, _), (1, _)]) rfl ?_
  refine y_iconst (v := nI 0) hg dX0_unlike_2 rfl ?_
  refine y_istore_n hg dX0_unlike_3 (by decide) (lv1 := [(0, _), (1, _), (2, _)]) rfl ?_
  refine (loop_up (G := fun i => YY g 3 σ 0 0 4 [(0, .ref (B.1 + 0)), (1, .int (fo (ulS A) (nI 0) i)), (2, .int (nI i))] []) 8 (fun i hi ih => ?_) ?_ 0 (Nat.zero_le _))
  · have J : ∀ v : Int32, v = (if 0 < A 11 i then nI 1 else nI 0) → YY g 3 σ 0 0 28 [(0, .ref (B.1 + 0)), (1, .int (fo (ulS A) (nI 0) i)), (2, .int (nI i))] [.int v, .int (fo (ulS A) (nI 0) i)] := by
      intro v hv
      subst hv
      refine y_iadd hg dX0_unlike_28 ?_
      refine y_istore_n hg dX0_unlike_29 (by decide) (lv1 := [(0, _), (1, _), (2, _)]) rfl ?_
      refine y_iinc hg dX0_unlike_30 rfl (inc1 _) (by decide) (lv1 := [(0, _), (1, _), (2, _)]) rfl ?_
      refine y_goto hg 4 dX0_unlike_33 (by decide) ?_
      exact ih
    refine y_iload_n hg dX0_unlike_4 rfl ?_
    refine y_bipush (v := nI 8) hg dX0_unlike_5 rfl ?_
    refine y_icmp_ge hg 36 dX0_unlike_7 (by decide) (fun hT => absurd hT (ge_c hi (by omega))) (fun _ => ?_)
    refine y_iload_n hg dX0_unlike_10 rfl ?_
    refine y_aload_n hg dX0_unlike_11 rfl ?_
    refine y_getr (j := 2) hg cf0 (hL.x) (by decide) rfl (hL.r_now) q174 dX0_unlike_12 ?_
    refine y_getrN (j := 0) hg cf1 (hL.s_now.o) (by decide) rfl (hL.s_now.r_bag) nf0 dX0_unlike_15 ?_
    refine y_iload_n hg dX0_unlike_18 rfl ?_
    refine y_iald hg _ (hL.s_now.k_bag) rfl (by omega) dX0_unlike_19 ?_
    refine y_ti (hR.bag hi) ?_
    refine y_if_le hg 27 dX0_unlike_20 (by decide) (fun hc => ?_) (fun hc => ?_)
    · refine y_iconst (v := nI 0) hg dX0_unlike_27 rfl ?_
      exact J _ (by rw [if_neg (Int32.not_lt.mpr hc)])
    · refine y_iconst (v := nI 1) hg dX0_unlike_23 rfl ?_
      refine y_goto hg 28 dX0_unlike_24 (by decide) ?_
      exact J _ (by rw [if_pos (Int32.not_le.mp hc)])
  · refine y_iload_n hg dX0_unlike_4 rfl ?_
    refine y_bipush (v := nI 8) hg dX0_unlike_5 rfl ?_
    refine y_icmp_ge hg 36 dX0_unlike_7 (by decide) (fun _ => ?_) (fun hF => absurd (le_c (Nat.le_refl _) (by omega)) hF)
    refine y_iload_n hg dX0_unlike_36 rfl ?_
    refine y_iret hg hr ⟨_, rfl, ?_⟩ dX0_unlike_37 (Nat.le_refl _) (Nat.le_refl _)
    exact ⟨rfl, rfl⟩
theorem cM_unlike (hR : RMm B A sd σ) : MT ll B 1 0 0 yX3_unlike cX3_unlike 3 (some .int) [.ref (B.1 + 157)] σ (pI fun r σ' => r = fo (ulS A) (nI 0) 8 ∧ σ' = σ) := by
  have hM := hR.1
  refine MT.of (by decide) (Nat.le_of_ble_eq_true rfl) (fun g hg hr => ?_)
  refine y_iconst (v := nI 0) hg dX3_unlike_0 rfl ?_
  refine y_istore_n hg dX3_unlike_1 (by decide) (lv1 := [(0, _), (1, _)]) rfl ?_
  refine y_iconst (v := nI 0) hg dX3_unlike_2 rfl ?_
  refine y_istore_n hg dX3_unlike_3 (by decide) (lv1 := [(0, _), (1, _), (2, _)]) rfl ?_
  refine (loop_up (G := fun i => YY g 3 σ 0 0 4 [(0, .ref (B.1 + 157)), (1, .int (fo (ulS A) (nI 0) i)), (2, .int (nI i))] []) 8 (fun i hi ih => ?_) ?_ 0 (Nat.zero_le _))
  · have J : ∀ v : Int32, v = (if 0 < A 11 i then nI 1 else nI 0) → YY g 3 σ 0 0 25 [(0, .ref (B.1 + 157)), (1, .int (fo (ulS A) (nI 0) i)), (2, .int (nI i))] [.int v, .int (fo (ulS A) (nI 0) i)] := by
      intro v hv
      subst hv
      refine y_iadd hg dX3_unlike_25 ?_
      refine y_istore_n hg dX3_unlike_26 (by decide) (lv1 := [(0, _), (1, _), (2, _)]) rfl ?_
      refine y_iinc hg dX3_unlike_27 rfl (inc1 _) (by decide) (lv1 := [(0, _), (1, _), (2, _)]) rfl ?_
      refine y_goto hg 4 dX3_unlike_30 (by decide) ?_
      exact ih
    refine y_iload_n hg dX3_unlike_4 rfl ?_
    refine y_bipush (v := nI 8) hg dX3_unlike_5 rfl ?_
    refine y_icmp_ge hg 33 dX3_unlike_7 (by decide) (fun hT => absurd hT (ge_c hi (by omega))) (fun _ => ?_)
    refine y_iload_n hg dX3_unlike_10 rfl ?_
    refine y_aload_n hg dX3_unlike_11 rfl ?_
    refine y_getr (j := 7) hg cf3 (hM.m) (by decide) rfl (hM.r_now) q918 dX3_unlike_12 ?_
    refine y_iload_n hg dX3_unlike_15 rfl ?_
    refine y_iald hg _ (hM.k_now) rfl (by omega) dX3_unlike_16 ?_
    refine y_ti (hR.bag hi) ?_
    refine y_if_le hg 24 dX3_unlike_17 (by decide) (fun hc => ?_) (fun hc => ?_)
    · refine y_iconst (v := nI 0) hg dX3_unlike_24 rfl ?_
      exact J _ (by rw [if_neg (Int32.not_lt.mpr hc)])
    · refine y_iconst (v := nI 1) hg dX3_unlike_20 rfl ?_
      refine y_goto hg 25 dX3_unlike_21 (by decide) ?_
      exact J _ (by rw [if_pos (Int32.not_le.mp hc)])
  · refine y_iload_n hg dX3_unlike_4 rfl ?_
    refine y_bipush (v := nI 8) hg dX3_unlike_5 rfl ?_
    refine y_icmp_ge hg 33 dX3_unlike_7 (by decide) (fun _ => ?_) (fun hF => absurd (le_c (Nat.le_refl _) (by omega)) hF)
    refine y_iload_n hg dX3_unlike_33 rfl ?_
    refine y_iret hg hr ⟨_, rfl, ?_⟩ dX3_unlike_34 (Nat.le_refl _) (Nat.le_refl _)
    exact ⟨rfl, rfl⟩
/-- the words that can be made -/
def ftS (A : Ab) (w : Nat) (s : Int32) : Int32 := s ||| (if 0 < tms A w then nI 1 <<< (nI w &&& 31) else nI 0)
theorem cX_fitting (hW : WFA A) (hR : RX B A sd σ) : MT ll B 2 0 0 yX0_fitting cX0_fitting 3 (some .int) [.ref (B.1 + 0)] σ (pI fun r σ' => r = fo (ftS A) (nI 0) (nm A) ∧ σ' = σ) := by
  have hL := hR.1
  have hm := hW.nmle
  have em := hR.many.trans hW.1.1
  refine MT.of (by decide) (Nat.le_of_ble_eq_true rfl) (fun g hg hr => ?_)
  refine y_iconst (v := nI 0) hg dX0_fitting_0 rfl ?_
  refine y_istore_n hg dX0_fitting_1 (by decide) (lv1 := [(0, _), (1, _)]) rfl ?_
  refine y_iconst (v := nI 0) hg dX0_fitting_2 rfl ?_
  refine y_istore_n hg dX0_fitting_3 (by decide) (lv1 := [(0, _), (1, _), (2, _)]) rfl ?_
  refine (loop_up (G := fun i => YY g 3 σ 0 0 4 [(0, .ref (B.1 + 0)), (1, .int (fo (ftS A) (nI 0) i)), (2, .int (nI i))] []) (nm A) (fun i hi ih => ?_) ?_ 0 (Nat.zero_le _))
  · have J : ∀ v : Int32, v = (if 0 < tms A i then nI 1 <<< (nI i &&& 31) else nI 0) → YY g 3 σ 0 0 39 [(0, .ref (B.1 + 0)), (1, .int (fo (ftS A) (nI 0) i)), (2, .int (nI i))] [.int v, .int (fo (ftS A) (nI 0) i)] := by
      intro v hv
      subst hv
      refine y_ior hg dX0_fitting_39 ?_
      refine y_istore_n hg dX0_fitting_40 (by decide) (lv1 := [(0, _), (1, _), (2, _)]) rfl ?_
      refine y_iinc hg dX0_fitting_41 rfl (inc1 _) (by decide) (lv1 := [(0, _), (1, _), (2, _)]) rfl ?_
      refine y_goto hg 4 dX0_fitting_44 (by decide) ?_
      exact ih
    refine y_iload_n hg dX0_fitting_4 rfl ?_
    refine y_aload_n hg dX0_fitting_5 rfl ?_
    refine y_geti (j := 1) hg cf0 (hL.x) (by decide) rfl q173 dX0_fitting_6 ?_
    refine y_ti (em) ?_
    refine y_icmp_ge hg 47 dX0_fitting_9 (by decide) (fun hT => absurd hT (ge_c hi (by omega))) (fun _ => ?_)
    refine y_iload_n hg dX0_fitting_12 rfl ?_
    refine y_aload_n hg dX0_fitting_13 rfl ?_
    refine y_getr (j := 0) hg cf0 (hL.x) (by decide) rfl (hL.r_words) q172 dX0_fitting_14 ?_
    refine y_iload_n hg dX0_fitting_17 rfl ?_
    refine y_aald3 hg _ (hL.k_words) rfl (by omega) (hL.e_words (by omega)) dX0_fitting_18 ?_
    refine y_aload_n hg dX0_fitting_19 rfl ?_
    refine y_getr (j := 2) hg cf0 (hL.x) (by decide) rfl (hL.r_now) q174 dX0_fitting_20 ?_
    refine y_getrN (j := 0) hg cf1 (hL.s_now.o) (by decide) rfl (hL.s_now.r_bag) nf0 dX0_fitting_23 ?_
    refine y_cVi hg (cX_tms hW hR hi) iX2_times q389 ((hL.w_words (show i < 10 by omega)).o) cf2 rfl rfl (by simp [Value.category]) (Nat.le_refl _) (Nat.le_refl _) (by decide) dX0_fitting_26 (fun r σ1 hp => ?_)
    obtain ⟨rfl, rfl⟩ := hp
    refine y_if_le hg 38 dX0_fitting_29 (by decide) (fun hc => ?_) (fun hc => ?_)
    · refine y_iconst (v := nI 0) hg dX0_fitting_38 rfl ?_
      exact J _ (by rw [if_neg (Int32.not_lt.mpr hc)])
    · refine y_iconst (v := nI 1) hg dX0_fitting_32 rfl ?_
      refine y_iload_n hg dX0_fitting_33 rfl ?_
      refine y_ishl hg dX0_fitting_34 ?_
      refine y_goto hg 39 dX0_fitting_35 (by decide) ?_
      exact J _ (by rw [if_pos (Int32.not_le.mp hc)])
  · refine y_iload_n hg dX0_fitting_4 rfl ?_
    refine y_aload_n hg dX0_fitting_5 rfl ?_
    refine y_geti (j := 1) hg cf0 (hL.x) (by decide) rfl q173 dX0_fitting_6 ?_
    refine y_ti (em) ?_
    refine y_icmp_ge hg 47 dX0_fitting_9 (by decide) (fun _ => ?_) (fun hF => absurd (le_c (Nat.le_refl _) (by omega)) hF)
    refine y_iload_n hg dX0_fitting_47 rfl ?_
    refine y_iret hg hr ⟨_, rfl, ?_⟩ dX0_fitting_48 (Nat.le_refl _) (Nat.le_refl _)
    exact ⟨rfl, rfl⟩
theorem cM_makeable (hW : WFA A) (hR : RMm B A sd σ) : MT ll B 2 0 0 yX3_makeable cX3_makeable 3 (some .int) [.ref (B.1 + 157)] σ (pI fun r σ' => r = fo (ftS A) (nI 0) (nm A) ∧ σ' = σ) := by
  have hM := hR.1
  have hm := hW.nmle
  have em := hR.many.trans hW.1.1
  refine MT.of (by decide) (Nat.le_of_ble_eq_true rfl) (fun g hg hr => ?_)
  refine y_iconst (v := nI 0) hg dX3_makeable_0 rfl ?_
  refine y_istore_n hg dX3_makeable_1 (by decide) (lv1 := [(0, _), (1, _)]) rfl ?_
  refine y_iconst (v := nI 0) hg dX3_makeable_2 rfl ?_
  refine y_istore_n hg dX3_makeable_3 (by decide) (lv1 := [(0, _), (1, _), (2, _)]) rfl ?_
  refine (loop_up (G := fun i => YY g 3 σ 0 0 4 [(0, .ref (B.1 + 157)), (1, .int (fo (ftS A) (nI 0) i)), (2, .int (nI i))] []) (nm A) (fun i hi ih => ?_) ?_ 0 (Nat.zero_le _))
  · have J : ∀ v : Int32, v = (if 0 < tms A i then nI 1 <<< (nI i &&& 31) else nI 0) → YY g 3 σ 0 0 28 [(0, .ref (B.1 + 157)), (1, .int (fo (ftS A) (nI 0) i)), (2, .int (nI i))] [.int v, .int (fo (ftS A) (nI 0) i)] := by
      intro v hv
      subst hv
      refine y_ior hg dX3_makeable_28 ?_
      refine y_istore_n hg dX3_makeable_29 (by decide) (lv1 := [(0, _), (1, _), (2, _)]) rfl ?_
      refine y_iinc hg dX3_makeable_30 rfl (inc1 _) (by decide) (lv1 := [(0, _), (1, _), (2, _)]) rfl ?_
      refine y_goto hg 4 dX3_makeable_33 (by decide) ?_
      exact ih
    refine y_iload_n hg dX3_makeable_4 rfl ?_
    refine y_aload_n hg dX3_makeable_5 rfl ?_
    refine y_geti (j := 2) hg cf3 (hM.m) (by decide) rfl q913 dX3_makeable_6 ?_
    refine y_ti (em) ?_
    refine y_icmp_ge hg 36 dX3_makeable_9 (by decide) (fun hT => absurd hT (ge_c hi (by omega))) (fun _ => ?_)
    refine y_iload_n hg dX3_makeable_12 rfl ?_
    refine y_aload_n hg dX3_makeable_13 rfl ?_
    refine y_iload_n hg dX3_makeable_14 rfl ?_
    refine y_cVi hg (cM_madeOf hW hR hi) iX3_madeOf q1130 (hM.m) cf3 rfl rfl (by simp [Value.category]) (Nat.le_refl _) (Nat.le_refl _) (by decide) dX3_makeable_15 (fun r σ1 hp => ?_)
    obtain ⟨rfl, rfl⟩ := hp
    refine y_if_le hg 27 dX3_makeable_18 (by decide) (fun hc => ?_) (fun hc => ?_)
    · refine y_iconst (v := nI 0) hg dX3_makeable_27 rfl ?_
      exact J _ (by rw [if_neg (Int32.not_lt.mpr hc)])
    · refine y_iconst (v := nI 1) hg dX3_makeable_21 rfl ?_
      refine y_iload_n hg dX3_makeable_22 rfl ?_
      refine y_ishl hg dX3_makeable_23 ?_
      refine y_goto hg 28 dX3_makeable_24 (by decide) ?_
      exact J _ (by rw [if_pos (Int32.not_le.mp hc)])
  · refine y_iload_n hg dX3_makeable_4 rfl ?_
    refine y_aload_n hg dX3_makeable_5 rfl ?_
    refine y_geti (j := 2) hg cf3 (hM.m) (by decide) rfl q913 dX3_makeable_6 ?_
    refine y_ti (em) ?_
    refine y_icmp_ge hg 36 dX3_makeable_9 (by decide) (fun _ => ?_) (fun hF => absurd (le_c (Nat.le_refl _) (by omega)) hF)
    refine y_iload_n hg dX3_makeable_36 rfl ?_
    refine y_iret hg hr ⟨_, rfl, ?_⟩ dX3_makeable_37 (Nat.le_refl _) (Nat.le_refl _)
    exact ⟨rfl, rfl⟩
def abL (A : Ab) : List Int32 := [A 1 1, bagS (A 11), fo (ulS A) (nI 0) 8, A 11 8, A 11 19, A 11 20, fo (ftS A) (nI 0) (nm A), fo (ipS A) (nI 0) (nm A), lenR (pn A) false, lenR (pn A) true, A 1 2, A 1 5, A 1 0, A 1 4]
theorem ab_k (k : Nat) (hk : k < 14) : (abL A).getD k (-2) = sel (abL A) (-2) (nI k) := (sel_k (l := abL A) (show k < 14 from hk) (show 14 < 2147483648 by decide)).symm
theorem cX_about (hW : WFA A) (hR : RX B A sd σ) (v : Int32) : MT ll B 24 0 0 yX0_about cX0_about 2 (some .int) [.ref (B.1 + 0), .int v] σ (oX B sd σ (sel (abL A) (-2) v, A)) := by
  have hL := hR.1
  have hP : WFP (pn A) := pb_wr hW hW.now
  refine MT.of (by decide) (Nat.le_of_ble_eq_true rfl) (fun g hg hr => ?_)
  refine y_aload_n hg dX0_about_0 rfl ?_
  refine y_cVv hg (cX_look0 hW (WX.rf hR)) iX0_look q368 (hL.x) cf0 rfl rfl (by simp [Value.category]) (Nat.le_refl _) (Nat.le_refl _) (by decide) dX0_about_1 (fun σ2 hp => ?_)
  obtain ⟨hX, hC, hC2, hw⟩ := hp
  refine y_iload_n hg dX0_about_4 rfl ?_
  have hL := hw.1.1
  have E : ∀ (r : Int32) (s : Mem), WX B A sd σ s → r = sel (abL A) (-2) v → (r = (sel (abL A) (-2) v, A).1 ∧ RX B (sel (abL A) (-2) v, A).2 sd s ∧ Fr (fun a _ => a < 157) σ s) := fun r s hs h => ⟨h, hs.fin⟩
  rcases ts_split v 13 (by decide) with ⟨k, hk, rfl⟩ | ho
  · have hk8 : k = 0 ∨ k = 1 ∨ k = 2 ∨ k = 3 ∨ k = 4 ∨ k = 5 ∨ k = 6 ∨ k = 7 ∨ k = 8 ∨ k = 9 ∨ k = 10 ∨ k = 11 ∨ k = 12 ∨ k = 13 := by omega
    rcases hk8 with rfl | rfl | rfl | rfl | rfl | rfl | rfl | rfl | rfl | rfl | rfl | rfl | rfl | rfl
    · refine y_tsIn hg 76 dX0_about_5 (by decide) (by decide) rfl (by decide) ?_
      refine y_aload_n hg dX0_about_76 rfl ?_
      refine y_geti (j := 1) hg cf0 (hL.x) (by decide) rfl q173 dX0_about_77 ?_
      refine y_iret hg hr ⟨_, rfl, ?_⟩ dX0_about_80 (Nat.le_refl _) (Nat.le_refl _)
      exact E _ _ hw (hw.1.many.trans (ab_k 0 (by decide)))
    · refine y_tsIn hg 81 dX0_about_5 (by decide) (by decide) rfl (by decide) ?_
      refine y_aload_n hg dX0_about_81 rfl ?_
      refine y_getr (j := 2) hg cf0 (hL.x) (by decide) rfl (hL.r_now) q174 dX0_about_82 ?_
      refine y_cVi hg (cX_bag hw.1) iX1_size q332 (hL.s_now.o) cf1 rfl rfl (by simp [Value.category]) (Nat.le_refl _) (Nat.le_refl _) (by decide) dX0_about_85 (fun r σ3 hp => ?_)
      obtain ⟨rfl, rfl⟩ := hp
      refine y_iret hg hr ⟨_, rfl, ?_⟩ dX0_about_88 (Nat.le_refl _) (Nat.le_refl _)
      exact E _ _ hw (ab_k 1 (by decide))
    · refine y_tsIn hg 89 dX0_about_5 (by decide) (by decide) rfl (by decide) ?_
      refine y_aload_n hg dX0_about_89 rfl ?_
      refine y_cVi hg (cX_unlike hw.1) iX0_unlike q381 (hL.x) cf0 rfl rfl (by simp [Value.category]) (Nat.le_refl _) (Nat.le_refl _) (by decide) dX0_about_90 (fun r σ3 hp => ?_)
      obtain ⟨rfl, rfl⟩ := hp
      refine y_iret hg hr ⟨_, rfl, ?_⟩ dX0_about_93 (Nat.le_refl _) (Nat.le_refl _)
      exact E _ _ hw (ab_k 2 (by decide))
    · refine y_tsIn hg 94 dX0_about_5 (by decide) (by decide) rfl (by decide) ?_
      refine y_aload_n hg dX0_about_94 rfl ?_
      refine y_getr (j := 2) hg cf0 (hL.x) (by decide) rfl (hL.r_now) q174 dX0_about_95 ?_
      refine y_getiN (j := 1) hg cf1 (hL.s_now.o) (by decide) rfl nf1 dX0_about_98 ?_
      refine y_iret hg hr ⟨_, rfl, ?_⟩ dX0_about_101 (Nat.le_refl _) (Nat.le_refl _)
      exact E _ _ hw (hw.1.barred.trans (ab_k 3 (by decide)))
    · refine y_tsIn hg 102 dX0_about_5 (by decide) (by decide) rfl (by decide) ?_
      refine y_aload_n hg dX0_about_102 rfl ?_
      refine y_getr (j := 2) hg cf0 (hL.x) (by decide) rfl (hL.r_now) q174 dX0_about_103 ?_
      refine y_getiN (j := 3) hg cf1 (hL.s_now.o) (by decide) rfl nf3 dX0_about_106 ?_
      refine y_iret hg hr ⟨_, rfl, ?_⟩ dX0_about_109 (Nat.le_refl _) (Nat.le_refl _)
      exact E _ _ hw (hw.1.begins.trans (ab_k 4 (by decide)))
    · refine y_tsIn hg 110 dX0_about_5 (by decide) (by decide) rfl (by decide) ?_
      refine y_aload_n hg dX0_about_110 rfl ?_
      refine y_getr (j := 2) hg cf0 (hL.x) (by decide) rfl (hL.r_now) q174 dX0_about_111 ?_
      refine y_getiN (j := 4) hg cf1 (hL.s_now.o) (by decide) rfl nf4 dX0_about_114 ?_
      refine y_iret hg hr ⟨_, rfl, ?_⟩ dX0_about_117 (Nat.le_refl _) (Nat.le_refl _)
      exact E _ _ hw (hw.1.ends.trans (ab_k 5 (by decide)))
    · refine y_tsIn hg 118 dX0_about_5 (by decide) (by decide) rfl (by decide) ?_
      refine y_aload_n hg dX0_about_118 rfl ?_
      refine y_cVi hg (cX_fitting hW hw.1) iX0_fitting q385 (hL.x) cf0 rfl rfl (by simp [Value.category]) (Nat.le_refl _) (Nat.le_refl _) (by decide) dX0_about_119 (fun r σ3 hp => ?_)
      obtain ⟨rfl, rfl⟩ := hp
      refine y_iret hg hr ⟨_, rfl, ?_⟩ dX0_about_122 (Nat.le_refl _) (Nat.le_refl _)
      exact E _ _ hw (ab_k 6 (by decide))
    · refine y_tsIn hg 123 dX0_about_5 (by decide) (by decide) rfl (by decide) ?_
      refine y_aload_n hg dX0_about_123 rfl ?_
      refine y_cVi hg (cX_inPhrases hW hw) iX0_inPhrases q396 (hL.x) cf0 rfl rfl (by simp [Value.category]) (Nat.le_refl _) (Nat.le_refl _) (by decide) dX0_about_124 (fun r σ3 hp => ?_)
      obtain ⟨rfl, hw3⟩ := hp
      refine y_iret hg hr ⟨_, rfl, ?_⟩ dX0_about_127 (Nat.le_refl _) (Nat.le_refl _)
      exact E _ _ hw3 (ab_k 7 (by decide))
    · obtain ⟨ka, kb, hy⟩ := hw.1.2.1
      refine y_tsIn hg 128 dX0_about_5 (by decide) (by decide) rfl (by decide) ?_
      refine y_aload_n hg dX0_about_128 rfl ?_
      refine y_iload_n hg dX0_about_129 rfl ?_
      refine y_bipush (v := nI 9) hg dX0_about_130 rfl ?_
      refine y_icmp_ne hg 139 dX0_about_132 (by decide) (fun _ => ?_) (fun hF => absurd hF ((by decide)))
      refine y_iconst (v := nI 0) hg dX0_about_139 rfl ?_
      refine y_cVi hg (cX_lengthOf hP hX hy) iX0_lengthOf q420 (hL.x) cf0 rfl rfl (by simp [Value.category]) (Nat.le_refl _) (Nat.le_refl _) (by decide) dX0_about_140 (fun r σ3 hp => ?_)
      obtain ⟨rfl, hf3, h43, hy3⟩ := hp
      refine y_iret hg hr ⟨_, rfl, ?_⟩ dX0_about_143 (Nat.le_refl _) (Nat.le_refl _)
      exact E _ _ (hw.goL hW hf3 hy3) (ab_k 8 (by decide))
    · obtain ⟨ka, kb, hy⟩ := hw.1.2.1
      refine y_tsIn hg 128 dX0_about_5 (by decide) (by decide) rfl (by decide) ?_
      refine y_aload_n hg dX0_about_128 rfl ?_
      refine y_iload_n hg dX0_about_129 rfl ?_
      refine y_bipush (v := nI 9) hg dX0_about_130 rfl ?_
      refine y_icmp_ne hg 139 dX0_about_132 (by decide) (fun hT => absurd hT ((fun z => z rfl))) (fun _ => ?_)
      refine y_iconst (v := nI 1) hg dX0_about_135 rfl ?_
      refine y_goto hg 140 dX0_about_136 (by decide) ?_
      refine y_cVi hg (cX_lengthOf hP hX hy) iX0_lengthOf q420 (hL.x) cf0 rfl rfl (by simp [Value.category]) (Nat.le_refl _) (Nat.le_refl _) (by decide) dX0_about_140 (fun r σ3 hp => ?_)
      obtain ⟨rfl, hf3, h43, hy3⟩ := hp
      refine y_iret hg hr ⟨_, rfl, ?_⟩ dX0_about_143 (Nat.le_refl _) (Nat.le_refl _)
      exact E _ _ (hw.goL hW hf3 hy3) (ab_k 9 (by decide))
    · refine y_tsIn hg 144 dX0_about_5 (by decide) (by decide) rfl (by decide) ?_
      refine y_aload_n hg dX0_about_144 rfl ?_
      refine y_geti (j := 22) hg cf0 (hL.x) (by decide) rfl q194 dX0_about_145 ?_
      refine y_iret hg hr ⟨_, rfl, ?_⟩ dX0_about_148 (Nat.le_refl _) (Nat.le_refl _)
      exact E _ _ hw (hw.1.acts.trans (ab_k 10 (by decide)))
    · refine y_tsIn hg 149 dX0_about_5 (by decide) (by decide) rfl (by decide) ?_
      refine y_aload_n hg dX0_about_149 rfl ?_
      refine y_geti (j := 28) hg cf0 (hL.x) (by decide) rfl q200 dX0_about_150 ?_
      refine y_iret hg hr ⟨_, rfl, ?_⟩ dX0_about_153 (Nat.le_refl _) (Nat.le_refl _)
      exact E _ _ hw (hw.1.seen.trans (ab_k 11 (by decide)))
    · refine y_tsIn hg 154 dX0_about_5 (by decide) (by decide) rfl (by decide) ?_
      refine y_aload_n hg dX0_about_154 rfl ?_
      refine y_geti (j := 17) hg cf0 (hL.x) (by decide) rfl q189 dX0_about_155 ?_
      refine y_iret hg hr ⟨_, rfl, ?_⟩ dX0_about_158 (Nat.le_refl _) (Nat.le_refl _)
      exact E _ _ hw (hw.1.len.trans (ab_k 12 (by decide)))
    · refine y_tsIn hg 159 dX0_about_5 (by decide) (by decide) rfl (by decide) ?_
      refine y_aload_n hg dX0_about_159 rfl ?_
      refine y_geti (j := 26) hg cf0 (hL.x) (by decide) rfl q198 dX0_about_160 ?_
      refine y_iret hg hr ⟨_, rfl, ?_⟩ dX0_about_163 (Nat.le_refl _) (Nat.le_refl _)
      exact E _ _ hw (hw.1.told.trans (ab_k 13 (by decide)))
  · refine y_tsOut hg 164 dX0_about_5 (ho) (by decide) ?_
    refine y_bipush (v := -2) hg dX0_about_164 rfl ?_
    refine y_iret hg hr ⟨_, rfl, ?_⟩ dX0_about_166 (Nat.le_refl _) (Nat.le_refl _)
    exact E _ _ hw (sel_o (ho.imp id (fun z => z))).symm
theorem cM_about (hW : WFA A) (hR : RMm B A sd σ) (v : Int32) : MT ll B 24 0 0 yX3_about cX3_about 2 (some .int) [.ref (B.1 + 157), .int v] σ (oM B sd σ (sel (abL A) (-2) v, A)) := by
  have hM := hR.1
  have hP : WFP (pn A) := pb_wr hW hW.now
  refine MT.of (by decide) (Nat.le_of_ble_eq_true rfl) (fun g hg hr => ?_)
  refine y_aload_n hg dX3_about_0 rfl ?_
  refine y_aload_n hg dX3_about_1 rfl ?_
  refine y_getr (j := 7) hg cf3 (hM.m) (by decide) rfl (hM.r_now) q918 dX3_about_2 ?_
  refine y_cVv hg (cM_look (P := pn A) hM (Or.inl rfl) hP (hR.wm hW) (fun j hj => hR.now hj) RMm.hu0) iX3_look q1118 (hM.m) cf3 rfl rfl (by simp [Value.category]) (Nat.le_refl _) (Nat.le_refl _) (by decide) dX3_about_5 (fun σ2 hp => ?_)
  obtain ⟨hX, hf2⟩ := hp
  refine y_iload_n hg dX3_about_8 rfl ?_
  have hw := (WM.rf hR).go hf2 (fun a j q => by unfold MkP at q; unfold ME; omega)
  have hM := hw.1.1
  have E : ∀ (r : Int32) (s : Mem), WM B A sd σ s → r = sel (abL A) (-2) v → (r = (sel (abL A) (-2) v, A).1 ∧ RMm B (sel (abL A) (-2) v, A).2 sd s ∧ FrR (fun a _ => 157 ≤ a) σ s) := fun r s hs h => ⟨h, hs.fin⟩
  rcases ts_split v 13 (by decide) with ⟨k, hk, rfl⟩ | ho
  · have hk8 : k = 0 ∨ k = 1 ∨ k = 2 ∨ k = 3 ∨ k = 4 ∨ k = 5 ∨ k = 6 ∨ k = 7 ∨ k = 8 ∨ k = 9 ∨ k = 10 ∨ k = 11 ∨ k = 12 ∨ k = 13 := by omega
    rcases hk8 with rfl | rfl | rfl | rfl | rfl | rfl | rfl | rfl | rfl | rfl | rfl | rfl | rfl | rfl
    · refine y_tsIn hg 80 dX3_about_9 (by decide) (by decide) rfl (by decide) ?_
      refine y_aload_n hg dX3_about_80 rfl ?_
      refine y_geti (j := 2) hg cf3 (hM.m) (by decide) rfl q913 dX3_about_81 ?_
      refine y_iret hg hr ⟨_, rfl, ?_⟩ dX3_about_84 (Nat.le_refl _) (Nat.le_refl _)
      exact E _ _ hw (hw.1.many.trans (ab_k 0 (by decide)))
    · refine y_tsIn hg 85 dX3_about_9 (by decide) (by decide) rfl (by decide) ?_
      refine y_aload_n hg dX3_about_85 rfl ?_
      refine y_getr (j := 7) hg cf3 (hM.m) (by decide) rfl (hM.r_now) q918 dX3_about_86 ?_
      refine y_cSi hg (cM_bag hw.1) iX3_bagOf q1071 rfl rfl (by simp [Value.category]) (Nat.le_refl _) (Nat.le_refl _) (by decide) dX3_about_89 (fun r σ3 hp => ?_)
      obtain ⟨rfl, rfl⟩ := hp
      refine y_iret hg hr ⟨_, rfl, ?_⟩ dX3_about_92 (Nat.le_refl _) (Nat.le_refl _)
      exact E _ _ hw (ab_k 1 (by decide))
    · refine y_tsIn hg 93 dX3_about_9 (by decide) (by decide) rfl (by decide) ?_
      refine y_aload_n hg dX3_about_93 rfl ?_
      refine y_cVi hg (cM_unlike hw.1) iX3_unlike q1122 (hM.m) cf3 rfl rfl (by simp [Value.category]) (Nat.le_refl _) (Nat.le_refl _) (by decide) dX3_about_94 (fun r σ3 hp => ?_)
      obtain ⟨rfl, rfl⟩ := hp
      refine y_iret hg hr ⟨_, rfl, ?_⟩ dX3_about_97 (Nat.le_refl _) (Nat.le_refl _)
      exact E _ _ hw (ab_k 2 (by decide))
    · refine y_tsIn hg 98 dX3_about_9 (by decide) (by decide) rfl (by decide) ?_
      refine y_aload_n hg dX3_about_98 rfl ?_
      refine y_getr (j := 7) hg cf3 (hM.m) (by decide) rfl (hM.r_now) q918 dX3_about_99 ?_
      refine y_bipush (v := nI 8) hg dX3_about_102 rfl ?_
      refine y_iald hg _ (hM.k_now) rfl (by omega) dX3_about_104 ?_
      refine y_iret hg hr ⟨_, rfl, ?_⟩ dX3_about_105 (Nat.le_refl _) (Nat.le_refl _)
      exact E _ _ hw ((hw.1.now (by decide)).trans (ab_k 3 (by decide)))
    · refine y_tsIn hg 106 dX3_about_9 (by decide) (by decide) rfl (by decide) ?_
      refine y_aload_n hg dX3_about_106 rfl ?_
      refine y_getr (j := 7) hg cf3 (hM.m) (by decide) rfl (hM.r_now) q918 dX3_about_107 ?_
      refine y_bipush (v := nI 19) hg dX3_about_110 rfl ?_
      refine y_iald hg _ (hM.k_now) rfl (by omega) dX3_about_112 ?_
      refine y_iret hg hr ⟨_, rfl, ?_⟩ dX3_about_113 (Nat.le_refl _) (Nat.le_refl _)
      exact E _ _ hw ((hw.1.now (by decide)).trans (ab_k 4 (by decide)))
    · refine y_tsIn hg 114 dX3_about_9 (by decide) (by decide) rfl (by decide) ?_
      refine y_aload_n hg dX3_about_114 rfl ?_
      refine y_getr (j := 7) hg cf3 (hM.m) (by decide) rfl (hM.r_now) q918 dX3_about_115 ?_
      refine y_bipush (v := nI 20) hg dX3_about_118 rfl ?_
      refine y_iald hg _ (hM.k_now) rfl (by omega) dX3_about_120 ?_
      refine y_iret hg hr ⟨_, rfl, ?_⟩ dX3_about_121 (Nat.le_refl _) (Nat.le_refl _)
      exact E _ _ hw ((hw.1.now (by decide)).trans (ab_k 5 (by decide)))
    · refine y_tsIn hg 122 dX3_about_9 (by decide) (by decide) rfl (by decide) ?_
      refine y_aload_n hg dX3_about_122 rfl ?_
      refine y_cVi hg (cM_makeable hW hw.1) iX3_makeable q1126 (hM.m) cf3 rfl rfl (by simp [Value.category]) (Nat.le_refl _) (Nat.le_refl _) (by decide) dX3_about_123 (fun r σ3 hp => ?_)
      obtain ⟨rfl, rfl⟩ := hp
      refine y_iret hg hr ⟨_, rfl, ?_⟩ dX3_about_126 (Nat.le_refl _) (Nat.le_refl _)
      exact E _ _ hw (ab_k 6 (by decide))
    · refine y_tsIn hg 127 dX3_about_9 (by decide) (by decide) rfl (by decide) ?_
      refine y_aload_n hg dX3_about_127 rfl ?_
      refine y_cVi hg (cM_inPhrases hW hw) iX3_inPhrases q1134 (hM.m) cf3 rfl rfl (by simp [Value.category]) (Nat.le_refl _) (Nat.le_refl _) (by decide) dX3_about_128 (fun r σ3 hp => ?_)
      obtain ⟨rfl, hw3⟩ := hp
      refine y_iret hg hr ⟨_, rfl, ?_⟩ dX3_about_131 (Nat.le_refl _) (Nat.le_refl _)
      exact E _ _ hw3 (ab_k 7 (by decide))
    · refine y_tsIn hg 132 dX3_about_9 (by decide) (by decide) rfl (by decide) ?_
      refine y_aload_n hg dX3_about_132 rfl ?_
      refine y_iconst (v := nI 0) hg dX3_about_133 rfl ?_
      refine y_cVi hg (cM_few hP hX) iX3_few q1162 (hM.m) cf3 rfl rfl (by simp [Value.category]) (Nat.le_refl _) (Nat.le_refl _) (by decide) dX3_about_134 (fun r σ3 hp => ?_)
      obtain ⟨rfl, hf3⟩ := hp
      refine y_iret hg hr ⟨_, rfl, ?_⟩ dX3_about_137 (Nat.le_refl _) (Nat.le_refl _)
      exact E _ _ (hw.go hf3 (fun a j q => by unfold MYP at q; unfold ME; omega)) (ab_k 8 (by decide))
    · refine y_tsIn hg 138 dX3_about_9 (by decide) (by decide) rfl (by decide) ?_
      refine y_aload_n hg dX3_about_138 rfl ?_
      refine y_iconst (v := nI 1) hg dX3_about_139 rfl ?_
      refine y_cVi hg (cM_few hP hX) iX3_few q1162 (hM.m) cf3 rfl rfl (by simp [Value.category]) (Nat.le_refl _) (Nat.le_refl _) (by decide) dX3_about_140 (fun r σ3 hp => ?_)
      obtain ⟨rfl, hf3⟩ := hp
      refine y_iret hg hr ⟨_, rfl, ?_⟩ dX3_about_143 (Nat.le_refl _) (Nat.le_refl _)
      exact E _ _ (hw.go hf3 (fun a j q => by unfold MYP at q; unfold ME; omega)) (ab_k 9 (by decide))
    · refine y_tsIn hg 144 dX3_about_9 (by decide) (by decide) rfl (by decide) ?_
      refine y_aload_n hg dX3_about_144 rfl ?_
      refine y_geti (j := 10) hg cf3 (hM.m) (by decide) rfl q921 dX3_about_145 ?_
      refine y_iret hg hr ⟨_, rfl, ?_⟩ dX3_about_148 (Nat.le_refl _) (Nat.le_refl _)
      exact E _ _ hw (hw.1.acts.trans (ab_k 10 (by decide)))
    · refine y_tsIn hg 149 dX3_about_9 (by decide) (by decide) rfl (by decide) ?_
      refine y_aload_n hg dX3_about_149 rfl ?_
      refine y_geti (j := 19) hg cf3 (hM.m) (by decide) rfl q930 dX3_about_150 ?_
      refine y_iret hg hr ⟨_, rfl, ?_⟩ dX3_about_153 (Nat.le_refl _) (Nat.le_refl _)
      exact E _ _ hw (hw.1.seen.trans (ab_k 11 (by decide)))
    · refine y_tsIn hg 154 dX3_about_9 (by decide) (by decide) rfl (by decide) ?_
      refine y_aload_n hg dX3_about_154 rfl ?_
      refine y_geti (j := 1) hg cf3 (hM.m) (by decide) rfl q912 dX3_about_155 ?_
      refine y_iret hg hr ⟨_, rfl, ?_⟩ dX3_about_158 (Nat.le_refl _) (Nat.le_refl _)
      exact E _ _ hw (hw.1.len.trans (ab_k 12 (by decide)))
    · refine y_tsIn hg 159 dX3_about_9 (by decide) (by decide) rfl (by decide) ?_
      refine y_aload_n hg dX3_about_159 rfl ?_
      refine y_geti (j := 15) hg cf3 (hM.m) (by decide) rfl q926 dX3_about_160 ?_
      refine y_iret hg hr ⟨_, rfl, ?_⟩ dX3_about_163 (Nat.le_refl _) (Nat.le_refl _)
      exact E _ _ hw (hw.1.told.trans (ab_k 13 (by decide)))
  · refine y_tsOut hg 164 dX3_about_9 (ho) (by decide) ?_
    refine y_bipush (v := -2) hg dX3_about_164 rfl ?_
    refine y_iret hg hr ⟨_, rfl, ?_⟩ dX3_about_166 (Nat.le_refl _) (Nat.le_refl _)
    exact E _ _ hw (sel_o (ho.imp id (fun z => z))).symm
end About

