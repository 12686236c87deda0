section CheckX
variable {ll : Launch} {B : Bs} {σ : Mem} {A : Ab} {sd : Int64} {σ0 : Mem}
set_option maxHeartbeats 1000000 in
theorem cX_check (htr : ll.stackTraces = false) (hW : WFA A) (hR : RX B A sd σ) : MX ll B 12 30 300 yX0_check (wsW_ yX0_check cX0_check 2 none [(54, 58, 61, 343)]) [.ref (B.1 + 0)] σ (pV fun σ' => rs A = (nI 0, -9, -9, nI 0) ∧ WX B A sd σ σ') (fun E q σ' => MisOK B E q σ' (rs A) ∧ WX B A sd σ σ') := by
  have hL := hR.1
  have hn := hL.n
  have hm := hW.nmle
  obtain ⟨htl, ht12⟩ := hW.toldN
  refine MX.ofH (by decide) (Nat.le_of_ble_eq_true rfl) (fun g hg hr => ?_)
  refine y_aload_n hg dX0_check_0 rfl ?_
  refine y_getr (j := 2) hg cf0 (hL.x) (by decide) rfl (hL.r_now) q174 dX0_check_1 ?_
  refine y_getrN (j := 0) hg cf1 (hL.s_now.o) (by decide) rfl (hL.s_now.r_bag) nf0 dX0_check_4 ?_
  refine y_iconst (v := nI 0) hg dX0_check_7 rfl ?_
  refine y_aload_n hg dX0_check_8 rfl ?_
  refine y_getr (j := 27) hg cf0 (hL.x) (by decide) rfl (hL.r_left) q199 dX0_check_9 ?_
  refine y_iconst (v := nI 0) hg dX0_check_12 rfl ?_
  refine y_bipush (v := nI 8) hg dX0_check_13 rfl ?_
  refine y_acopy hg 8 (hL.s_now.k_bag) (hL.k_left) rfl (by omega) (by omega) q570 (by decide) (by decide) dX0_check_15 ?_
  have hw1 : WX B A sd σ (rowI σ 82 (fun j => if j < 8 then σ.2.2.1 3 j else σ.2.2.1 82 j)) := (WX.rf hR).goR hW (Q := XE) ((FrR.rf).stRow (fun j hj => absurd (show XE 82 j by unfold XE; omega) hj)) (fun a j z => z)
  have hl1 : ∀ x, x < 8 → (rowI σ 82 (fun j => if j < 8 then σ.2.2.1 3 j else σ.2.2.1 82 j)).2.2.1 82 x = lfk A 0 x := fun x hx => by
    have e9 : (rowI σ 82 (fun j => if j < 8 then σ.2.2.1 3 j else σ.2.2.1 82 j)).2.2.1 82 = fun j => if j < 8 then σ.2.2.1 3 j else σ.2.2.1 82 j := by simp only [rowI, up1_s]
    rw [e9]
    exact (if_pos hx).trans (hR.bag hx)
  have hL := hw1.1.1
  show YY g 2 (rowI σ 82 (fun j => if j < 8 then σ.2.2.1 3 j else σ.2.2.1 82 j)) 0 0 18 _ _
  generalize rowI σ 82 (fun j => if j < 8 then σ.2.2.1 3 j else σ.2.2.1 82 j) = σ1 at hw1 hl1 hL ⊢
  refine y_iconst (v := nI 0) hg dX0_check_18 rfl ?_
  refine y_istore_n hg dX0_check_19 (by decide) (lv1 := [(0, _), (1, _)]) rfl ?_
  have LOOP := loop_st (S := Mem) (G := fun i s => YY g 2 s (2 * i) (15 * i) 20 [(0, .ref (B.1 + 0)), (1, .int (nI i))] []) (I := fun i s => WX B A sd σ s ∧ (∀ x, x < 8 → s.2.2.1 82 x = lfk A i x) ∧ rsL A (tol A - i) i = rs A) (tol A) ?_ ?_ 0 σ1 (Nat.zero_le _) ⟨hw1, hl1, rfl⟩
  · exact LOOP
  · intro i s hi hI ih
    obtain ⟨hws, hlf, hrs⟩ := hI
    rw [rsL_s hi] at hrs
    have hL := hws.1.1
    refine y_iload_n hg dX0_check_20 rfl ?_
    refine y_aload_n hg dX0_check_21 rfl ?_
    refine y_geti (j := 26) hg cf0 (hL.x) (by decide) rfl q198 dX0_check_22 ?_
    refine y_ti (hws.1.told.trans htl) ?_
    refine y_icmp_ge hg 39 dX0_check_25 (by decide) (fun hT => absurd hT (ge_c hi (by omega))) (fun _ => ?_)
    refine y_aload_n hg dX0_check_28 rfl ?_
    refine y_iload_n hg dX0_check_29 rfl ?_
    refine y_callXW hg (cX_takeWord htr hW hws hi hlf) iX0_takeWord q571 hL.x cf0 rfl rfl (by simp [Value.category]) (by omega) (by omega) (by decide) dX0_check_30 (fun v s1 h => ?_) (fun E q s1 h => ?_)
    · obtain ⟨rfl, hst, hl2, hw2⟩ := h
      rw [hst] at hrs
      refine y_iinc hg dX0_check_33 rfl (inc1 _) (by decide) (lv1 := [(0, _), (1, _)]) rfl ?_
      refine y_goto hg 20 dX0_check_36 (by decide) ?_
      exact y_wid (cu' := 2 * (i + 1)) (su' := 15 * (i + 1)) (by omega) (by omega) (ih _ ⟨hw2, hl2, hrs⟩)
    · obtain ⟨r, hst, hmis, hw2⟩ := h
      rw [hst] at hrs
      have hrs : r = rs A := hrs
      subst hrs
      exact yx_out hg hr (by decide) ⟨hmis, hw2⟩ (by omega) (by omega)
  · intro s hI
    obtain ⟨hws, hlf, hrs⟩ := hI
    rw [Nat.sub_self] at hrs
    have hrs : rsE A (tol A) = rs A := hrs
    have hL := hws.1.1
    refine y_iload_n hg dX0_check_20 rfl ?_
    refine y_aload_n hg dX0_check_21 rfl ?_
    refine y_geti (j := 26) hg cf0 (hL.x) (by decide) rfl q198 dX0_check_22 ?_
    refine y_ti (hws.1.told.trans htl) ?_
    refine y_icmp_ge hg 39 dX0_check_25 (by decide) (fun _ => ?_) (fun hF => absurd (le_c (Nat.le_refl _) (by omega)) hF)
    refine y_aload_n hg dX0_check_39 rfl ?_
    refine y_geti (j := 26) hg cf0 (hL.x) (by decide) rfl q198 dX0_check_40 ?_
    refine y_ti (hws.1.told.trans htl) ?_
    refine y_if_ne hg 54 dX0_check_43 (by decide) (fun hc => ?_) (fun hc => ?_)
    · have h0 : tol A ≠ 0 := fun z => hc (by rw [z]; rfl)
      have hrs2 : (match lvF (lfk A (tol A)) 8 0 with
          | some x => ((nI 4, nI (tol A), nI x, lfk A (tol A) x) : Rs)
          | none => if hasB (A 11 20) (A 3 (wtn A (tol A - 1))) = true then (nI 0, -9, -9, nI 0) else (nI 5, nI (tol A), -9, nI 0)) = rs A := by
        rw [← hrs]; unfold rsE; rw [if_neg h0]; rfl
      refine y_aload_n hg dX0_check_54 rfl ?_
      refine y_callX hg (cX_seeLeft htr hW hws hlf) iX0_seeLeft q720 hL.x cf0 rfl rfl (by simp [Value.category]) (by omega) (by omega) (by decide) dX0_check_55 (fun v s1 h => ?_) (fun E q s1 h => ?_)
      · obtain ⟨rfl, hl2, rfl⟩ := h
        rw [hl2] at hrs2
        refine y_goto hg 75 dX0_check_58 (by decide) ?_
        obtain ⟨hrow1, hwn1⟩ := hW.rowW (show tol A - 1 < tol A by omega)
        refine y_aload_n hg dX0_check_75 rfl ?_
        refine y_getr (j := 2) hg cf0 (hL.x) (by decide) rfl (hL.r_now) q174 dX0_check_76 ?_
        refine y_getiN (j := 4) hg cf1 (hL.s_now.o) (by decide) rfl nf4 dX0_check_79 ?_
        refine y_ti (hws.1.ends) ?_
        refine y_aload_n hg dX0_check_82 rfl ?_
        refine y_getr (j := 0) hg cf0 (hL.x) (by decide) rfl (hL.r_words) q172 dX0_check_83 ?_
        refine y_aload_n hg dX0_check_86 rfl ?_
        refine y_getr (j := 25) hg cf0 (hL.x) (by decide) rfl (hL.r_row) q197 dX0_check_87 ?_
        refine y_aload_n hg dX0_check_90 rfl ?_
        refine y_geti (j := 26) hg cf0 (hL.x) (by decide) rfl q198 dX0_check_91 ?_
        refine y_ti (hws.1.told.trans htl) ?_
        refine y_iconst (v := nI 1) hg dX0_check_94 rfl ?_
        refine y_isub hg dX0_check_95 ?_
        refine y_ti (pk_sub (by omega)) ?_
        refine y_iald hg _ (hL.k_row) rfl (by omega) dX0_check_96 ?_
        refine y_ti ((hws.1.row6 (by omega)).trans hrow1) ?_
        refine y_aald3 hg _ (hL.k_words) rfl (by omega) (hL.e_words (by omega)) dX0_check_97 ?_
        refine y_getiN (j := 2) hg cf2 ((hL.w_words (by omega)).o) (by decide) rfl nf8 dX0_check_98 ?_
        refine y_ti (hws.1.kind hwn1) ?_
        refine y_cSi hg (cX_has _ _) iX0_has q344 rfl rfl (by simp [Value.category]) (by omega) (by omega) (by decide) dX0_check_101 (fun r s2 hp => ?_)
        obtain ⟨rfl, rfl⟩ := hp
        refine y_if_ne hg 119 dX0_check_104 (by decide) (fun hc5 => ?_) (fun hc5 => ?_)
        · have hrs3 : ((nI 0, -9, -9, nI 0) : Rs) = rs A := by rw [← hrs2]; exact (if_pos (b2T hc5)).symm
          refine y_xr2 hg hr (fun g hg hr => ?_)
          refine y_vret hg hr ⟨rfl, ?_⟩ dX0_check_119 (by omega) (by omega)
          exact ⟨hrs3.symm, hws⟩
        · have hrs3 : ((nI 5, nI (tol A), -9, nI 0) : Rs) = rs A := by rw [← hrs2]; exact (if_neg (b2F hc5)).symm
          refine y_new hg cf10 df10 q740 q741 q100 (by omega) (by omega) dX0_check_107 ?_
          have hwN := hws.nw hW (Nw.new (kd := (10 + 10, 0)))
          refine y_dup hg dX0_check_110 rfl ?_
          refine y_aload_n hg dX0_check_111 rfl ?_
          refine y_geti (j := 26) hg cf0 hwN.1.1.x (by decide) rfl q198 dX0_check_112 ?_
          refine y_ti (hwN.1.told.trans htl) ?_
          refine y_callI (ret := none) hg (cUnended htr KO.new new_r0 _) iX11_init q749 rfl rfl (by simp [Value.category]) (by omega) (by omega) (by decide) dX0_check_115 (fun v σ4 h => ?_)
          obtain ⟨rfl, h⟩ := h
          obtain ⟨n1, n2, n3, n4⟩ := h.nw
          refine y_athrow hg cf10 n2 dX0_check_118 ?_
          refine yx_out hg hr (by decide) ⟨?_, hws.nw hW n1⟩ (by omega) (by omega)
          rw [← hrs3]
          exact ⟨10, Or.inr (Or.inr (Or.inr (Or.inr (Or.inr ⟨rfl, rfl, rfl⟩)))), n2, n3, Or.inl ⟨n4, rfl, rfl⟩⟩
      · obtain ⟨x, hl2, rfl, hk, h6, h7, hnw⟩ := h
        rw [hl2] at hrs2
        refine yx_catch hg hr (name := "BagPhrases$Amiss") [] ⟨54, 58, 61, 343⟩ [] rfl (fun z hz => by cases hz) (by decide) (by decide) q569 (List.mem_of_getElem? (i := 0) rfl) ?_
        refine y_astore_n hg dX0_check_61 (by decide) (lv1 := [(0, _), (1, _)]) rfl ?_
        refine y_new hg cf9 df9 q724 q725 q99 (by omega) (by omega) dX0_check_62 ?_
        have hw3 := hws.nw hW hnw
        have hwN := hw3.nw hW (Nw.new (kd := (10 + 9, 0)))
        refine y_dup hg dX0_check_65 rfl ?_
        refine y_aload_n hg dX0_check_66 rfl ?_
        refine y_geti (j := 26) hg cf0 hwN.1.1.x (by decide) rfl q198 dX0_check_67 ?_
        refine y_ti (hwN.1.told.trans htl) ?_
        refine y_aload_n hg dX0_check_70 rfl ?_
        refine y_callI (ret := none) hg (cOver htr KO.new new_r0 _ _) iX10_init q733 rfl rfl (by simp [Value.category]) (by omega) (by omega) (by decide) dX0_check_71 (fun v σ4 h => ?_)
        obtain ⟨rfl, h⟩ := h
        obtain ⟨n1, n2, n3, n4⟩ := h.nw
        refine y_athrow hg cf9 n2 dX0_check_74 ?_
        refine yx_out hg hr (by decide) ⟨?_, hw3.nw hW n1⟩ (by omega) (by omega)
        rw [← hrs2]
        refine ⟨9, Or.inr (Or.inr (Or.inr (Or.inr (Or.inl ⟨rfl, rfl, rfl⟩)))), n2, n3, Or.inr ⟨q, n4, ?_, n1.ko hk, ?_, ?_⟩⟩
        · have := hk.2
          omega
        · rw [(n1.2 q hk.2).2.1]; exact h6
        · rw [(n1.2 q hk.2).2.1]; exact h7
    · have h0 : tol A = 0 := nI_inj (by omega) (by omega) hc
      have hrs2 : ((nI 6, nI 0, -9, nI 0) : Rs) = rs A := by rw [← hrs]; unfold rsE; rw [if_pos h0]
      refine y_new hg cf8 df8 q563 q705 q98 (by omega) (by omega) dX0_check_46 ?_
      refine y_dup hg dX0_check_49 rfl ?_
      refine y_callI (ret := none) hg (cWordless htr KO.new new_r0) iX9_init q713 rfl rfl (by simp [Value.category]) (by omega) (by omega) (by decide) dX0_check_50 (fun v σ4 h => ?_)
      obtain ⟨rfl, h⟩ := h
      obtain ⟨n1, n2, n3, n4⟩ := h.nw
      refine y_athrow hg cf8 n2 dX0_check_53 ?_
      refine yx_out hg hr (by decide) ⟨?_, hws.nw hW n1⟩ (by omega) (by omega)
      rw [← hrs2]
      exact ⟨8, Or.inr (Or.inr (Or.inr (Or.inl ⟨rfl, rfl, rfl⟩))), n2, n3, Or.inl ⟨n4, rfl, rfl⟩⟩
theorem cTell {E : String} {q : Nat} {r : Rs} (h : MisOK B E q σ r) {v : Nat} (hv : v ≤ 3) : MT ll B 8 0 0 yX0_tellMisfit cX0_tellMisfit 4 (some .int) [.ref (B.1 + q), .int (nI v)] σ (pI fun x σ' => x = whV r v ∧ σ' = σ) := by
  obtain ⟨c, hC, hk, hp, hco⟩ := h
  obtain ⟨r1, r2, r3, r4⟩ := r
  rcases hC with ⟨rfl, rfl, h⟩ | ⟨rfl, rfl, h⟩ | ⟨rfl, rfl, h⟩ | ⟨rfl, rfl, h⟩ | ⟨rfl, rfl, h⟩ | ⟨rfl, rfl, h⟩
  · have h : r1 = nI 1 := h
    subst h; exact cTell_4 hk hp hco hv
  · have h : r1 = nI 2 := h
    subst h; exact cTell_5 hk hp hco hv
  · have h : r1 = nI 3 := h
    subst h; exact cTell_7 hk hp hco hv
  · have h : r1 = nI 6 := h
    subst h; exact cTell_8 hk hp hco hv
  · have h : r1 = nI 4 := h
    subst h; exact cTell_9 hk hp hco hv
  · have h : r1 = nI 5 := h
    subst h; exact cTell_10 hk hp hco hv
theorem cX_why (htr : ll.stackTraces = false) (hW : WFA A) (hR : RX B A sd σ) (v : Int32) : MX ll B 24 30 300 yX0_why (wsW_ yX0_why cX0_why 3 (some .int) [(15, 19, 22, 348), (15, 19, 22, 352), (15, 19, 22, 372), (15, 19, 29, 385)]) [.ref (B.1 + 0), .int v] σ (oX B sd σ (rWhy A v, A)) (fun _ _ _ => False) := by
  have hL := hR.1
  refine MX.ofH (by decide) (Nat.le_of_ble_eq_true rfl) (fun g hg hr => ?_)
  refine y_iload_n hg dX0_why_0 rfl ?_
  refine y_i2l hg dX0_why_1 ?_
  refine y_lconst (v := 0) hg dX0_why_2 rfl ?_
  refine y_ldc2 hg dX0_why_3 q474 ?_
  refine y_cSi hg (cX_isIn _ _ _) iX0_isIn q286 rfl rfl (by simp [Value.category]) (Nat.zero_le _) (Nat.zero_le _) (by decide) dX0_why_6 (fun r σ1 hp => ?_)
  obtain ⟨rfl, rfl⟩ := hp
  refine y_if_ne hg 15 dX0_why_9 (by decide) (fun hc => ?_) (fun hc => ?_)
  · have h1 := b2T hc
    obtain ⟨n, hn, rfl⟩ := (inL_iff 3 rfl (by decide)).mp h1
    have eo : rWhy A (nI n) = whV (rs A) n := by unfold rWhy; rw [if_pos h1, nI_clamp (by omega)]
    rw [eo] at hr
    refine y_aload_n hg dX0_why_15 rfl ?_
    refine y_callXW hg (cX_check htr hW hR) iX0_check q565 hL.x cf0 rfl rfl (by simp [Value.category]) (by decide) (by decide) (by decide) dX0_why_16 (fun v s1 h => ?_) (fun E q s1 h => ?_)
    · obtain ⟨rfl, hrs, hw1⟩ := h
      rw [hrs] at hr
      refine y_goto hg 36 dX0_why_19 (by decide) ?_
      refine y_xr2 hg hr (fun g hg hr => ?_)
      have h4 : n = 0 ∨ n = 1 ∨ n = 2 ∨ n = 3 := by omega
      rcases h4 with rfl | rfl | rfl | rfl
      · refine y_iload_n hg dX0_why_36 rfl ?_
        refine y_iconst (v := nI 1) hg dX0_why_37 rfl ?_
        refine y_icmp_eq hg 46 dX0_why_38 (by decide) (fun hT => absurd hT (by decide)) (fun _ => ?_)
        refine y_iload_n hg dX0_why_41 rfl ?_
        refine y_iconst (v := nI 2) hg dX0_why_42 rfl ?_
        refine y_icmp_ne hg 51 dX0_why_43 (by decide) (fun _ => ?_) (fun hF => absurd hF (by decide))
        refine y_iconst (v := nI 0) hg dX0_why_51 rfl ?_
        refine y_iret hg hr ⟨_, rfl, ?_⟩ dX0_why_52 (by decide) (by decide)
        exact ⟨rfl, hw1.fin⟩
      · refine y_iload_n hg dX0_why_36 rfl ?_
        refine y_iconst (v := nI 1) hg dX0_why_37 rfl ?_
        refine y_icmp_eq hg 46 dX0_why_38 (by decide) (fun _ => ?_) (fun hF => absurd (by decide) hF)
        refine y_bipush (v := -9) hg dX0_why_46 rfl ?_
        refine y_goto hg 52 dX0_why_48 (by decide) ?_
        refine y_iret hg hr ⟨_, rfl, ?_⟩ dX0_why_52 (by decide) (by decide)
        exact ⟨rfl, hw1.fin⟩
      · refine y_iload_n hg dX0_why_36 rfl ?_
        refine y_iconst (v := nI 1) hg dX0_why_37 rfl ?_
        refine y_icmp_eq hg 46 dX0_why_38 (by decide) (fun hT => absurd hT (by decide)) (fun _ => ?_)
        refine y_iload_n hg dX0_why_41 rfl ?_
        refine y_iconst (v := nI 2) hg dX0_why_42 rfl ?_
        refine y_icmp_ne hg 51 dX0_why_43 (by decide) (fun hT => absurd hT (by decide)) (fun _ => ?_)
        refine y_bipush (v := -9) hg dX0_why_46 rfl ?_
        refine y_goto hg 52 dX0_why_48 (by decide) ?_
        refine y_iret hg hr ⟨_, rfl, ?_⟩ dX0_why_52 (by decide) (by decide)
        exact ⟨rfl, hw1.fin⟩
      · refine y_iload_n hg dX0_why_36 rfl ?_
        refine y_iconst (v := nI 1) hg dX0_why_37 rfl ?_
        refine y_icmp_eq hg 46 dX0_why_38 (by decide) (fun hT => absurd hT (by decide)) (fun _ => ?_)
        refine y_iload_n hg dX0_why_41 rfl ?_
        refine y_iconst (v := nI 2) hg dX0_why_42 rfl ?_
        refine y_icmp_ne hg 51 dX0_why_43 (by decide) (fun _ => ?_) (fun hF => absurd hF (by decide))
        refine y_iconst (v := nI 0) hg dX0_why_51 rfl ?_
        refine y_iret hg hr ⟨_, rfl, ?_⟩ dX0_why_52 (by decide) (by decide)
        exact ⟨rfl, hw1.fin⟩
    · obtain ⟨hmis, hw1⟩ := h
      have J1 : YY g 3 s1 (0 + 30) (0 + 300) 22 [(0, .ref (B.1 + 0)), (1, .int (nI n))] [.ref (B.1 + q)] := by
        refine y_astore_n hg dX0_why_22 (by decide) (lv1 := [(0, _), (1, _), (2, _)]) rfl ?_
        refine y_aload_n hg dX0_why_23 rfl ?_
        refine y_iload_n hg dX0_why_24 rfl ?_
        refine y_cSi hg (cTell hmis hn) iX0_tellMisfit q756 rfl rfl (by simp [Value.category]) (by decide) (by decide) (by decide) dX0_why_25 (fun x s2 h => ?_)
        obtain ⟨rfl, rfl⟩ := h
        refine y_xr2 hg hr (fun g hg hr => ?_)
        exact y_iret hg hr ⟨_, rfl, rfl, hw1.fin⟩ dX0_why_28 (by decide) (by decide)
      have J2 : YY g 3 s1 (0 + 30) (0 + 300) 29 [(0, .ref (B.1 + 0)), (1, .int (nI n))] [.ref (B.1 + q)] := by
        refine y_astore_n hg dX0_why_29 (by decide) (lv1 := [(0, _), (1, _), (2, _)]) rfl ?_
        refine y_aload_n hg dX0_why_30 rfl ?_
        refine y_iload_n hg dX0_why_31 rfl ?_
        refine y_cSi hg (cTell hmis hn) iX0_tellMisfit q756 rfl rfl (by simp [Value.category]) (by decide) (by decide) (by decide) dX0_why_32 (fun x s2 h => ?_)
        obtain ⟨rfl, rfl⟩ := h
        refine y_xr2 hg hr (fun g hg hr => ?_)
        exact y_iret hg hr ⟨_, rfl, rfl, hw1.fin⟩ dX0_why_35 (by decide) (by decide)
      obtain ⟨c, hC, -⟩ := hmis
      rcases hC with ⟨-, rfl, -⟩ | ⟨-, rfl, -⟩ | ⟨-, rfl, -⟩ | ⟨-, rfl, -⟩ | ⟨-, rfl, -⟩ | ⟨-, rfl, -⟩
      · exact yx_catch hg hr (name := "BagPhrases$Banned") [] ⟨15, 19, 22, 348⟩ [⟨15, 19, 22, 352⟩, ⟨15, 19, 22, 372⟩, ⟨15, 19, 29, 385⟩] rfl (fun z hz => by cases hz) (by decide) (by decide) q561 (List.mem_of_getElem? (i := 1) rfl) J1
      · refine yx_catch hg hr (name := "BagPhrases$Unlet") [⟨15, 19, 22, 348⟩] ⟨15, 19, 22, 352⟩ [⟨15, 19, 22, 372⟩, ⟨15, 19, 29, 385⟩] rfl (fun z hz => ?_) (by decide) (by decide) q562 (List.mem_of_getElem? (i := 2) rfl) J1
        rcases List.mem_cons.mp hz with rfl | hz
        · exact ⟨by decide, "BagPhrases$Banned", q561, List.mem_of_getElem? (i := 0) rfl⟩
        · cases hz
      · refine yx_catch hg hr (name := "BagPhrases$Misfit") [⟨15, 19, 22, 348⟩, ⟨15, 19, 22, 352⟩, ⟨15, 19, 22, 372⟩] ⟨15, 19, 29, 385⟩ [] rfl (fun z hz => ?_) (by decide) (by decide) q564 (List.mem_of_getElem? (i := 6) rfl) J2
        rcases List.mem_cons.mp hz with rfl | hz
        · exact ⟨by decide, "BagPhrases$Banned", q561, List.mem_of_getElem? (i := 3) rfl⟩
        · rcases List.mem_cons.mp hz with rfl | hz
          · exact ⟨by decide, "BagPhrases$Unlet", q562, List.mem_of_getElem? (i := 4) rfl⟩
          · rcases List.mem_cons.mp hz with rfl | hz
            · exact ⟨by decide, "BagPhrases$Wordless", q563, List.mem_of_getElem? (i := 5) rfl⟩
            · cases hz
      · refine yx_catch hg hr (name := "BagPhrases$Wordless") [⟨15, 19, 22, 348⟩, ⟨15, 19, 22, 352⟩] ⟨15, 19, 22, 372⟩ [⟨15, 19, 29, 385⟩] rfl (fun z hz => ?_) (by decide) (by decide) q563 (List.mem_of_getElem? (i := 3) rfl) J1
        rcases List.mem_cons.mp hz with rfl | hz
        · exact ⟨by decide, "BagPhrases$Banned", q561, List.mem_of_getElem? (i := 1) rfl⟩
        · rcases List.mem_cons.mp hz with rfl | hz
          · exact ⟨by decide, "BagPhrases$Unlet", q562, List.mem_of_getElem? (i := 2) rfl⟩
          · cases hz
      · refine yx_catch hg hr (name := "BagPhrases$Misfit") [⟨15, 19, 22, 348⟩, ⟨15, 19, 22, 352⟩, ⟨15, 19, 22, 372⟩] ⟨15, 19, 29, 385⟩ [] rfl (fun z hz => ?_) (by decide) (by decide) q564 (List.mem_of_getElem? (i := 8) rfl) J2
        rcases List.mem_cons.mp hz with rfl | hz
        · exact ⟨by decide, "BagPhrases$Banned", q561, List.mem_of_getElem? (i := 6) rfl⟩
        · rcases List.mem_cons.mp hz with rfl | hz
          · exact ⟨by decide, "BagPhrases$Unlet", q562, List.mem_of_getElem? (i := 7) rfl⟩
          · rcases List.mem_cons.mp hz with rfl | hz
            · exact ⟨by decide, "BagPhrases$Wordless", q563, List.mem_of_getElem? (i := 8) rfl⟩
            · cases hz
      · refine yx_catch hg hr (name := "BagPhrases$Misfit") [⟨15, 19, 22, 348⟩, ⟨15, 19, 22, 352⟩, ⟨15, 19, 22, 372⟩] ⟨15, 19, 29, 385⟩ [] rfl (fun z hz => ?_) (by decide) (by decide) q564 (List.mem_of_getElem? (i := 9) rfl) J2
        rcases List.mem_cons.mp hz with rfl | hz
        · exact ⟨by decide, "BagPhrases$Banned", q561, List.mem_of_getElem? (i := 9) rfl⟩
        · rcases List.mem_cons.mp hz with rfl | hz
          · exact ⟨by decide, "BagPhrases$Unlet", q562, List.mem_of_getElem? (i := 10) rfl⟩
          · rcases List.mem_cons.mp hz with rfl | hz
            · exact ⟨by decide, "BagPhrases$Wordless", q563, List.mem_of_getElem? (i := 11) rfl⟩
            · cases hz
  · have eo : rWhy A v = -2 := by unfold rWhy; rw [if_neg (b2F hc)]
    rw [eo] at hr
    refine y_xr2 hg hr (fun g hg hr => ?_)
    refine y_bipush (v := -2) hg dX0_why_12 rfl ?_
    refine y_iret hg hr ⟨_, rfl, ?_⟩ dX0_why_14 (by decide) (by decide)
    exact ⟨rfl, hR, Fr.rf⟩
/-- is it a phrase -/
def isPh (A : Ab) : Bool := decide ((rs A).1 = nI 0)
theorem MisOK.ph {E : String} {q : Nat} (h : MisOK B E q σ (rs A)) : isPh A = false := by
  obtain ⟨c, hC, -⟩ := h
  unfold isPh
  rcases hC with ⟨-, -, h⟩ | ⟨-, -, h⟩ | ⟨-, -, h⟩ | ⟨-, -, h⟩ | ⟨-, -, h⟩ | ⟨-, -, h⟩ <;> (rw [h]; decide)
theorem cX_isPhrase (htr : ll.stackTraces = false) (hW : WFA A) (hR : RX B A sd σ) : MX ll B 14 30 300 yX0_isPhrase (wsW_ yX0_isPhrase cX0_isPhrase 2 (some .boolean) [(0, 5, 6, 385)]) [.ref (B.1 + 0)] σ (pI fun r σ' => r = b2 (isPh A) ∧ WX B A sd σ σ') (fun _ _ _ => False) := by
  have hL := hR.1
  refine MX.ofH (by decide) (Nat.le_of_ble_eq_true rfl) (fun g hg hr => ?_)
  refine y_aload_n hg dX0_isPhrase_0 rfl ?_
  refine y_callXW hg (cX_check htr hW hR) iX0_check q565 hL.x cf0 rfl rfl (by simp [Value.category]) (by decide) (by decide) (by decide) dX0_isPhrase_1 (fun v s1 h => ?_) (fun E q s1 h => ?_)
  · obtain ⟨rfl, hrs, hw1⟩ := h
    have e1 : isPh A = true := by unfold isPh; rw [hrs]; decide
    refine y_xr2 hg hr (fun g hg hr => ?_)
    refine y_iconst (v := nI 1) hg dX0_isPhrase_4 rfl ?_
    exact y_zret hg hr rfl ⟨_, rfl, by rw [e1]; rfl, hw1⟩ dX0_isPhrase_5 (by decide) (by decide)
  · obtain ⟨hmis, hw1⟩ := h
    have e1 := hmis.ph
    have J : YY g 2 s1 (0 + 30) (0 + 300) 6 [(0, .ref (B.1 + 0))] [.ref (B.1 + q)] := by
      refine y_astore_n hg dX0_isPhrase_6 (by decide) (lv1 := [(0, _), (1, _)]) rfl ?_
      refine y_xr2 hg hr (fun g hg hr => ?_)
      refine y_iconst (v := nI 0) hg dX0_isPhrase_7 rfl ?_
      exact y_zret hg hr rfl ⟨_, rfl, by rw [e1]; rfl, hw1⟩ dX0_isPhrase_8 (by decide) (by decide)
    obtain ⟨c, hC, -⟩ := hmis
    rcases hC with ⟨-, rfl, -⟩ | ⟨-, rfl, -⟩ | ⟨-, rfl, -⟩ | ⟨-, rfl, -⟩ | ⟨-, rfl, -⟩ | ⟨-, rfl, -⟩
    · exact yx_catch hg hr (name := "BagPhrases$Misfit") [] ⟨0, 5, 6, 385⟩ [] rfl (fun z hz => by cases hz) (by decide) (by decide) q564 (List.mem_of_getElem? (i := 4) rfl) J
    · exact yx_catch hg hr (name := "BagPhrases$Misfit") [] ⟨0, 5, 6, 385⟩ [] rfl (fun z hz => by cases hz) (by decide) (by decide) q564 (List.mem_of_getElem? (i := 5) rfl) J
    · exact yx_catch hg hr (name := "BagPhrases$Misfit") [] ⟨0, 5, 6, 385⟩ [] rfl (fun z hz => by cases hz) (by decide) (by decide) q564 (List.mem_of_getElem? (i := 6) rfl) J
    · exact yx_catch hg hr (name := "BagPhrases$Misfit") [] ⟨0, 5, 6, 385⟩ [] rfl (fun z hz => by cases hz) (by decide) (by decide) q564 (List.mem_of_getElem? (i := 7) rfl) J
    · exact yx_catch hg hr (name := "BagPhrases$Misfit") [] ⟨0, 5, 6, 385⟩ [] rfl (fun z hz => by cases hz) (by decide) (by decide) q564 (List.mem_of_getElem? (i := 8) rfl) J
    · exact yx_catch hg hr (name := "BagPhrases$Misfit") [] ⟨0, 5, 6, 385⟩ [] rfl (fun z hz => by cases hz) (by decide) (by decide) q564 (List.mem_of_getElem? (i := 9) rfl) J
end CheckX

