section ReadX2
variable {ll : Launch} {B : Bs} {σ : Mem} {A : Ab} {sd : Int64} {σ0 : Mem}
theorem or_zero (x : Int32) : x ||| nI 0 = x := Int32.or_zero
theorem cX_readBegin (hW : WFA A) (hw0 : WXs B A sd σ0 σ) {q n : Nat} {S : Ab} (hS : WFS n S) (hd : RdX σ q n S) (hq : q ≤ 180) : MT ll B 3 0 0 yX0_readBegin cX0_readBegin 2 (some .boolean) [.ref (B.1 + 0)] σ (pRd B A sd σ0 (if S 11 19 = nI 15 then (false, q, 0, zA) else xKd A 19 n (q + 1) S)) := by
  have hL := hw0.1.1
  have hn := hL.n
  have e0 : σ.2.2.1 20 3 = S 11 19 := by rw [← hd.2.2.1 19 (by omega), ro_begins]
  by_cases h15 : S 11 19 = nI 15
  · unfold pRd
    rw [if_pos h15]
    refine MT.of (by decide) (Nat.le_of_ble_eq_true rfl) (fun g hg hr => ?_)
    refine y_aload_n hg dX0_readBegin_0 rfl ?_
    refine y_dup hg dX0_readBegin_1 rfl ?_
    refine y_geti (j := 18) hg cf0 (hL.x) (by decide) rfl q190 dX0_readBegin_2 ?_
    refine y_ti (hd.1) ?_
    refine y_aload_n hg dX0_readBegin_5 rfl ?_
    refine y_getr (j := 21) hg cf0 (hL.x) (by decide) rfl (hL.r_read) q193 dX0_readBegin_6 ?_
    refine y_getiN (j := 3) hg cf1 (hL.s_read.o) (by decide) rfl nf3 dX0_readBegin_9 ?_
    refine y_ti (e0) ?_
    refine y_bipush (v := nI 15) hg dX0_readBegin_12 rfl ?_
    refine y_icmp_ne hg 21 dX0_readBegin_14 (by decide) (fun hT => absurd hT (fun z => z h15)) (fun _ => ?_)
    refine y_iconst (v := nI 0) hg dX0_readBegin_17 rfl ?_
    refine y_goto hg 22 dX0_readBegin_18 (by decide) ?_
    refine y_iadd hg dX0_readBegin_22 ?_
    refine y_ti (nI_add _ _) ?_
    refine y_puti (j := 18) hg cf0 (hL.x) (by decide) rfl rfl q190 dX0_readBegin_23 ?_
    have hw1 : WXs B A sd σ0 (setI σ 0 18 (nI (q + 0))) := hw0.st hW (by unfold XR; omega)
    have e1 : (setI σ 0 18 (nI (q + 0))).2.2.1 20 3 = S 11 19 := (gI_n (by omega)).trans e0
    have ea : (setI σ 0 18 (nI (q + 0))).2.2.1 0 18 = nI q := gI_s
    have hL := hw1.1.1
    generalize setI σ 0 18 (nI (q + 0)) = σ1 at hw1 e1 ea hL ⊢
    refine y_aload_n hg dX0_readBegin_26 rfl ?_
    refine y_getr (j := 21) hg cf0 (hL.x) (by decide) rfl (hL.r_read) q193 dX0_readBegin_27 ?_
    refine y_getiN (j := 3) hg cf1 (hL.s_read.o) (by decide) rfl nf3 dX0_readBegin_30 ?_
    refine y_ti (e1) ?_
    refine y_bipush (v := nI 15) hg dX0_readBegin_33 rfl ?_
    refine y_icmp_ne hg 43 dX0_readBegin_35 (by decide) (fun hT => absurd hT (fun z => z h15)) (fun _ => ?_)
    refine y_bipush (v := -9) hg dX0_readBegin_38 rfl ?_
    refine y_goto hg 54 dX0_readBegin_40 (by decide) ?_
    refine y_istore_n hg dX0_readBegin_54 (by decide) (lv1 := [(0, _), (1, _)]) rfl ?_
    refine y_aload_n hg dX0_readBegin_55 rfl ?_
    refine y_getr (j := 21) hg cf0 (hL.x) (by decide) rfl (hL.r_read) q193 dX0_readBegin_56 ?_
    refine y_dup hg dX0_readBegin_59 rfl ?_
    refine y_getiN (j := 3) hg cf1 (hL.s_read.o) (by decide) rfl nf3 dX0_readBegin_60 ?_
    refine y_ti (e1) ?_
    refine y_iload_n hg dX0_readBegin_63 rfl ?_
    refine y_bipush (v := -9) hg dX0_readBegin_64 rfl ?_
    refine y_icmp_ne hg 73 dX0_readBegin_66 (by decide) (fun hT => absurd hT (fun z => z rfl)) (fun _ => ?_)
    refine y_iconst (v := nI 0) hg dX0_readBegin_69 rfl ?_
    refine y_goto hg 76 dX0_readBegin_70 (by decide) ?_
    refine y_ior hg dX0_readBegin_76 ?_
    refine y_ti (or_zero _) ?_
    refine y_putiN (j := 3) hg cf1 (hL.s_read.o) (by decide) rfl rfl nf3 dX0_readBegin_77 ?_
    have hw2 : WXs B A sd σ0 (setI σ1 20 3 (S 11 19)) := hw1.st hW (by unfold XR; omega)
    refine y_iload_n hg dX0_readBegin_80 rfl ?_
    refine y_bipush (v := -9) hg dX0_readBegin_81 rfl ?_
    refine y_icmp_eq hg 90 dX0_readBegin_83 (by decide) (fun _ => ?_) (fun hF => absurd (rfl) hF)
    refine y_iconst (v := nI 0) hg dX0_readBegin_90 rfl ?_
    refine y_zret hg hr rfl ⟨_, rfl, ?_⟩ dX0_readBegin_91 (Nat.le_refl _) (Nat.le_refl _)
    exact ⟨rfl, hw2, (gI_n (by omega)).trans ea, fun z => absurd z Bool.false_ne_true⟩
  · unfold pRd
    rw [if_neg h15]
    refine MT.of (by decide) (Nat.le_of_ble_eq_true rfl) (fun g hg hr => ?_)
    refine y_aload_n hg dX0_readBegin_0 rfl ?_
    refine y_dup hg dX0_readBegin_1 rfl ?_
    refine y_geti (j := 18) hg cf0 (hL.x) (by decide) rfl q190 dX0_readBegin_2 ?_
    refine y_ti (hd.1) ?_
    refine y_aload_n hg dX0_readBegin_5 rfl ?_
    refine y_getr (j := 21) hg cf0 (hL.x) (by decide) rfl (hL.r_read) q193 dX0_readBegin_6 ?_
    refine y_getiN (j := 3) hg cf1 (hL.s_read.o) (by decide) rfl nf3 dX0_readBegin_9 ?_
    refine y_ti (e0) ?_
    refine y_bipush (v := nI 15) hg dX0_readBegin_12 rfl ?_
    refine y_icmp_ne hg 21 dX0_readBegin_14 (by decide) (fun _ => ?_) (fun hF => absurd hF (h15))
    refine y_iconst (v := nI 1) hg dX0_readBegin_21 rfl ?_
    refine y_iadd hg dX0_readBegin_22 ?_
    refine y_ti (nI_add _ _) ?_
    refine y_puti (j := 18) hg cf0 (hL.x) (by decide) rfl rfl q190 dX0_readBegin_23 ?_
    have hw1 : WXs B A sd σ0 (setI σ 0 18 (nI (q + 1))) := hw0.st hW (by unfold XR; omega)
    have e1 : (setI σ 0 18 (nI (q + 1))).2.2.1 20 3 = S 11 19 := (gI_n (by omega)).trans e0
    have hd1 : RdX (setI σ 0 18 (nI (q + 1))) (q + 1) n S := hd.at
    have hL := hw1.1.1
    generalize setI σ 0 18 (nI (q + 1)) = σ1 at hw1 e1 hd1 hL ⊢
    refine y_aload_n hg dX0_readBegin_26 rfl ?_
    refine y_getr (j := 21) hg cf0 (hL.x) (by decide) rfl (hL.r_read) q193 dX0_readBegin_27 ?_
    refine y_getiN (j := 3) hg cf1 (hL.s_read.o) (by decide) rfl nf3 dX0_readBegin_30 ?_
    refine y_ti (e1) ?_
    refine y_bipush (v := nI 15) hg dX0_readBegin_33 rfl ?_
    refine y_icmp_ne hg 43 dX0_readBegin_35 (by decide) (fun _ => ?_) (fun hF => absurd hF (h15))
    refine y_aload_n hg dX0_readBegin_43 rfl ?_
    refine y_aload_n hg dX0_readBegin_44 rfl ?_
    refine y_getr (j := 21) hg cf0 (hL.x) (by decide) rfl (hL.r_read) q193 dX0_readBegin_45 ?_
    refine y_getiN (j := 3) hg cf1 (hL.s_read.o) (by decide) rfl nf3 dX0_readBegin_48 ?_
    refine y_ti (e1) ?_
    refine y_cVi hg (cX_readKind hW hw1.1 hd1.1 (by omega) _) iX0_readKind q340 (hL.x) cf0 rfl rfl (by simp [Value.category]) (Nat.le_refl _) (Nat.le_refl _) (by decide) dX0_readBegin_51 (fun r2 σ2 hp => ?_)
    obtain ⟨hy, hno⟩ := hp
    by_cases hc : (rnx A 65 4 (q + 1)).isSome = true ∧ hasB (S 11 19) (nI (rtx A (q + 1) - 65)) = false
    · obtain ⟨rfl, rfl⟩ := hy hc
      obtain ⟨-, -, e65, e69⟩ := rnx_s hc.1
      have ex : xKd A 19 n (q + 1) S = (true, q + 1 + 1, n, kSt S 19 (rtx A (q + 1))) := by unfold xKd; rw [if_pos hc]
      rw [ex] at hr
      have hw2 : WXs B A sd σ0 (setI σ1 0 18 (nI (q + 1 + 1))) := hw1.st hW (by unfold XR; omega)
      have hd2 : RdX (setI σ1 0 18 (nI (q + 1 + 1))) (q + 1 + 1) n S := hd1.at
      have e2 : (setI σ1 0 18 (nI (q + 1 + 1))).2.2.1 20 3 = S 11 19 := (gI_n (by omega)).trans e1
      have hL := hw2.1.1
      generalize setI σ1 0 18 (nI (q + 1 + 1)) = σ2 at hw2 hd2 e2 hL ⊢
      refine y_istore_n hg dX0_readBegin_54 (by decide) (lv1 := [(0, _), (1, _)]) rfl ?_
      refine y_aload_n hg dX0_readBegin_55 rfl ?_
      refine y_getr (j := 21) hg cf0 (hL.x) (by decide) rfl (hL.r_read) q193 dX0_readBegin_56 ?_
      refine y_dup hg dX0_readBegin_59 rfl ?_
      refine y_getiN (j := 3) hg cf1 (hL.s_read.o) (by decide) rfl nf3 dX0_readBegin_60 ?_
      refine y_ti (e2) ?_
      refine y_iload_n hg dX0_readBegin_63 rfl ?_
      refine y_bipush (v := -9) hg dX0_readBegin_64 rfl ?_
      refine y_icmp_ne hg 73 dX0_readBegin_66 (by decide) (fun _ => ?_) (fun hF => absurd hF (m9_n (by omega)))
      refine y_iconst (v := nI 1) hg dX0_readBegin_73 rfl ?_
      refine y_iload_n hg dX0_readBegin_74 rfl ?_
      refine y_ishl hg dX0_readBegin_75 ?_
      refine y_ti (sh_nI _ (by omega)) ?_
      refine y_ior hg dX0_readBegin_76 ?_
      refine y_putiN (j := 3) hg cf1 (hL.s_read.o) (by decide) rfl rfl nf3 dX0_readBegin_77 ?_
      refine y_iload_n hg dX0_readBegin_80 rfl ?_
      refine y_bipush (v := -9) hg dX0_readBegin_81 rfl ?_
      refine y_icmp_eq hg 90 dX0_readBegin_83 (by decide) (fun hT => absurd hT (m9_n (by omega))) (fun _ => ?_)
      refine y_iconst (v := nI 1) hg dX0_readBegin_86 rfl ?_
      refine y_goto hg 91 dX0_readBegin_87 (by decide) ?_
      refine y_zret hg hr rfl ⟨_, rfl, ?_⟩ dX0_readBegin_91 (Nat.le_refl _) (Nat.le_refl _)
      exact ⟨rfl, hw2.st hW (by unfold XR; omega), (gI_n (by omega)).trans hd2.1, fun _ => hd2.row (by omega) rfl rfl⟩
    · obtain ⟨rfl, rfl⟩ := hno hc
      have ex : xKd A 19 n (q + 1) S = (false, q + 1, 0, zA) := by unfold xKd; rw [if_neg hc]
      rw [ex] at hr
      refine y_istore_n hg dX0_readBegin_54 (by decide) (lv1 := [(0, _), (1, _)]) rfl ?_
      refine y_aload_n hg dX0_readBegin_55 rfl ?_
      refine y_getr (j := 21) hg cf0 (hL.x) (by decide) rfl (hL.r_read) q193 dX0_readBegin_56 ?_
      refine y_dup hg dX0_readBegin_59 rfl ?_
      refine y_getiN (j := 3) hg cf1 (hL.s_read.o) (by decide) rfl nf3 dX0_readBegin_60 ?_
      refine y_ti (e1) ?_
      refine y_iload_n hg dX0_readBegin_63 rfl ?_
      refine y_bipush (v := -9) hg dX0_readBegin_64 rfl ?_
      refine y_icmp_ne hg 73 dX0_readBegin_66 (by decide) (fun hT => absurd hT (fun z => z rfl)) (fun _ => ?_)
      refine y_iconst (v := nI 0) hg dX0_readBegin_69 rfl ?_
      refine y_goto hg 76 dX0_readBegin_70 (by decide) ?_
      refine y_ior hg dX0_readBegin_76 ?_
      refine y_ti (or_zero _) ?_
      refine y_putiN (j := 3) hg cf1 (hL.s_read.o) (by decide) rfl rfl nf3 dX0_readBegin_77 ?_
      refine y_iload_n hg dX0_readBegin_80 rfl ?_
      refine y_bipush (v := -9) hg dX0_readBegin_81 rfl ?_
      refine y_icmp_eq hg 90 dX0_readBegin_83 (by decide) (fun _ => ?_) (fun hF => absurd (rfl) hF)
      refine y_iconst (v := nI 0) hg dX0_readBegin_90 rfl ?_
      refine y_zret hg hr rfl ⟨_, rfl, ?_⟩ dX0_readBegin_91 (Nat.le_refl _) (Nat.le_refl _)
      exact ⟨rfl, hw1.st hW (by unfold XR; omega), (gI_n (by omega)).trans hd1.1, fun z => absurd z Bool.false_ne_true⟩
theorem cX_readEnd (hW : WFA A) (hw0 : WXs B A sd σ0 σ) {q n : Nat} {S : Ab} (hS : WFS n S) (hd : RdX σ q n S) (hq : q ≤ 180) : MT ll B 3 0 0 yX0_readEnd cX0_readEnd 2 (some .boolean) [.ref (B.1 + 0)] σ (pRd B A sd σ0 (if S 11 20 = nI 15 then (false, q, 0, zA) else xKd A 20 n (q + 1) S)) := by
  have hL := hw0.1.1
  have hn := hL.n
  have e0 : σ.2.2.1 20 4 = S 11 20 := by rw [← hd.2.2.1 20 (by omega), ro_ends]
  by_cases h15 : S 11 20 = nI 15
  · unfold pRd
    rw [if_pos h15]
    refine MT.of (by decide) (Nat.le_of_ble_eq_true rfl) (fun g hg hr => ?_)
    refine y_aload_n hg dX0_readEnd_0 rfl ?_
    refine y_dup hg dX0_readEnd_1 rfl ?_
    refine y_geti (j := 18) hg cf0 (hL.x) (by decide) rfl q190 dX0_readEnd_2 ?_
    refine y_ti (hd.1) ?_
    refine y_aload_n hg dX0_readEnd_5 rfl ?_
    refine y_getr (j := 21) hg cf0 (hL.x) (by decide) rfl (hL.r_read) q193 dX0_readEnd_6 ?_
    refine y_getiN (j := 4) hg cf1 (hL.s_read.o) (by decide) rfl nf4 dX0_readEnd_9 ?_
    refine y_ti (e0) ?_
    refine y_bipush (v := nI 15) hg dX0_readEnd_12 rfl ?_
    refine y_icmp_ne hg 21 dX0_readEnd_14 (by decide) (fun hT => absurd hT (fun z => z h15)) (fun _ => ?_)
    refine y_iconst (v := nI 0) hg dX0_readEnd_17 rfl ?_
    refine y_goto hg 22 dX0_readEnd_18 (by decide) ?_
    refine y_iadd hg dX0_readEnd_22 ?_
    refine y_ti (nI_add _ _) ?_
    refine y_puti (j := 18) hg cf0 (hL.x) (by decide) rfl rfl q190 dX0_readEnd_23 ?_
    have hw1 : WXs B A sd σ0 (setI σ 0 18 (nI (q + 0))) := hw0.st hW (by unfold XR; omega)
    have e1 : (setI σ 0 18 (nI (q + 0))).2.2.1 20 4 = S 11 20 := (gI_n (by omega)).trans e0
    have ea : (setI σ 0 18 (nI (q + 0))).2.2.1 0 18 = nI q := gI_s
    have hL := hw1.1.1
    generalize setI σ 0 18 (nI (q + 0)) = σ1 at hw1 e1 ea hL ⊢
    refine y_aload_n hg dX0_readEnd_26 rfl ?_
    refine y_getr (j := 21) hg cf0 (hL.x) (by decide) rfl (hL.r_read) q193 dX0_readEnd_27 ?_
    refine y_getiN (j := 4) hg cf1 (hL.s_read.o) (by decide) rfl nf4 dX0_readEnd_30 ?_
    refine y_ti (e1) ?_
    refine y_bipush (v := nI 15) hg dX0_readEnd_33 rfl ?_
    refine y_icmp_ne hg 43 dX0_readEnd_35 (by decide) (fun hT => absurd hT (fun z => z h15)) (fun _ => ?_)
    refine y_bipush (v := -9) hg dX0_readEnd_38 rfl ?_
    refine y_goto hg 54 dX0_readEnd_40 (by decide) ?_
    refine y_istore_n hg dX0_readEnd_54 (by decide) (lv1 := [(0, _), (1, _)]) rfl ?_
    refine y_aload_n hg dX0_readEnd_55 rfl ?_
    refine y_getr (j := 21) hg cf0 (hL.x) (by decide) rfl (hL.r_read) q193 dX0_readEnd_56 ?_
    refine y_dup hg dX0_readEnd_59 rfl ?_
    refine y_getiN (j := 4) hg cf1 (hL.s_read.o) (by decide) rfl nf4 dX0_readEnd_60 ?_
    refine y_ti (e1) ?_
    refine y_iload_n hg dX0_readEnd_63 rfl ?_
    refine y_bipush (v := -9) hg dX0_readEnd_64 rfl ?_
    refine y_icmp_ne hg 73 dX0_readEnd_66 (by decide) (fun hT => absurd hT (fun z => z rfl)) (fun _ => ?_)
    refine y_iconst (v := nI 0) hg dX0_readEnd_69 rfl ?_
    refine y_goto hg 76 dX0_readEnd_70 (by decide) ?_
    refine y_ior hg dX0_readEnd_76 ?_
    refine y_ti (or_zero _) ?_
    refine y_putiN (j := 4) hg cf1 (hL.s_read.o) (by decide) rfl rfl nf4 dX0_readEnd_77 ?_
    have hw2 : WXs B A sd σ0 (setI σ1 20 4 (S 11 20)) := hw1.st hW (by unfold XR; omega)
    refine y_iload_n hg dX0_readEnd_80 rfl ?_
    refine y_bipush (v := -9) hg dX0_readEnd_81 rfl ?_
    refine y_icmp_eq hg 90 dX0_readEnd_83 (by decide) (fun _ => ?_) (fun hF => absurd (rfl) hF)
    refine y_iconst (v := nI 0) hg dX0_readEnd_90 rfl ?_
    refine y_zret hg hr rfl ⟨_, rfl, ?_⟩ dX0_readEnd_91 (Nat.le_refl _) (Nat.le_refl _)
    exact ⟨rfl, hw2, (gI_n (by omega)).trans ea, fun z => absurd z Bool.false_ne_true⟩
  · unfold pRd
    rw [if_neg h15]
    refine MT.of (by decide) (Nat.le_of_ble_eq_true rfl) (fun g hg hr => ?_)
    refine y_aload_n hg dX0_readEnd_0 rfl ?_
    refine y_dup hg dX0_readEnd_1 rfl ?_
    refine y_geti (j := 18) hg cf0 (hL.x) (by decide) rfl q190 dX0_readEnd_2 ?_
    refine y_ti (hd.1) ?_
    refine y_aload_n hg dX0_readEnd_5 rfl ?_
    refine y_getr (j := 21) hg cf0 (hL.x) (by decide) rfl (hL.r_read) q193 dX0_readEnd_6 ?_
    refine y_getiN (j := 4) hg cf1 (hL.s_read.o) (by decide) rfl nf4 dX0_readEnd_9 ?_
    refine y_ti (e0) ?_
    refine y_bipush (v := nI 15) hg dX0_readEnd_12 rfl ?_
    refine y_icmp_ne hg 21 dX0_readEnd_14 (by decide) (fun _ => ?_) (fun hF => absurd hF (h15))
    refine y_iconst (v := nI 1) hg dX0_readEnd_21 rfl ?_
    refine y_iadd hg dX0_readEnd_22 ?_
    refine y_ti (nI_add _ _) ?_
    refine y_puti (j := 18) hg cf0 (hL.x) (by decide) rfl rfl q190 dX0_readEnd_23 ?_
    have hw1 : WXs B A sd σ0 (setI σ 0 18 (nI (q + 1))) := hw0.st hW (by unfold XR; omega)
    have e1 : (setI σ 0 18 (nI (q + 1))).2.2.1 20 4 = S 11 20 := (gI_n (by omega)).trans e0
    have hd1 : RdX (setI σ 0 18 (nI (q + 1))) (q + 1) n S := hd.at
    have hL := hw1.1.1
    generalize setI σ 0 18 (nI (q + 1)) = σ1 at hw1 e1 hd1 hL ⊢
    refine y_aload_n hg dX0_readEnd_26 rfl ?_
    refine y_getr (j := 21) hg cf0 (hL.x) (by decide) rfl (hL.r_read) q193 dX0_readEnd_27 ?_
    refine y_getiN (j := 4) hg cf1 (hL.s_read.o) (by decide) rfl nf4 dX0_readEnd_30 ?_
    refine y_ti (e1) ?_
    refine y_bipush (v := nI 15) hg dX0_readEnd_33 rfl ?_
    refine y_icmp_ne hg 43 dX0_readEnd_35 (by decide) (fun _ => ?_) (fun hF => absurd hF (h15))
    refine y_aload_n hg dX0_readEnd_43 rfl ?_
    refine y_aload_n hg dX0_readEnd_44 rfl ?_
    refine y_getr (j := 21) hg cf0 (hL.x) (by decide) rfl (hL.r_read) q193 dX0_readEnd_45 ?_
    refine y_getiN (j := 4) hg cf1 (hL.s_read.o) (by decide) rfl nf4 dX0_readEnd_48 ?_
    refine y_ti (e1) ?_
    refine y_cVi hg (cX_readKind hW hw1.1 hd1.1 (by omega) _) iX0_readKind q340 (hL.x) cf0 rfl rfl (by simp [Value.category]) (Nat.le_refl _) (Nat.le_refl _) (by decide) dX0_readEnd_51 (fun r2 σ2 hp => ?_)
    obtain ⟨hy, hno⟩ := hp
    by_cases hc : (rnx A 65 4 (q + 1)).isSome = true ∧ hasB (S 11 20) (nI (rtx A (q + 1) - 65)) = false
    · obtain ⟨rfl, rfl⟩ := hy hc
      obtain ⟨-, -, e65, e69⟩ := rnx_s hc.1
      have ex : xKd A 20 n (q + 1) S = (true, q + 1 + 1, n, kSt S 20 (rtx A (q + 1))) := by unfold xKd; rw [if_pos hc]
      rw [ex] at hr
      have hw2 : WXs B A sd σ0 (setI σ1 0 18 (nI (q + 1 + 1))) := hw1.st hW (by unfold XR; omega)
      have hd2 : RdX (setI σ1 0 18 (nI (q + 1 + 1))) (q + 1 + 1) n S := hd1.at
      have e2 : (setI σ1 0 18 (nI (q + 1 + 1))).2.2.1 20 4 = S 11 20 := (gI_n (by omega)).trans e1
      have hL := hw2.1.1
      generalize setI σ1 0 18 (nI (q + 1 + 1)) = σ2 at hw2 hd2 e2 hL ⊢
      refine y_istore_n hg dX0_readEnd_54 (by decide) (lv1 := [(0, _), (1, _)]) rfl ?_
      refine y_aload_n hg dX0_readEnd_55 rfl ?_
      refine y_getr (j := 21) hg cf0 (hL.x) (by decide) rfl (hL.r_read) q193 dX0_readEnd_56 ?_
      refine y_dup hg dX0_readEnd_59 rfl ?_
      refine y_getiN (j := 4) hg cf1 (hL.s_read.o) (by decide) rfl nf4 dX0_readEnd_60 ?_
      refine y_ti (e2) ?_
      refine y_iload_n hg dX0_readEnd_63 rfl ?_
      refine y_bipush (v := -9) hg dX0_readEnd_64 rfl ?_
      refine y_icmp_ne hg 73 dX0_readEnd_66 (by decide) (fun _ => ?_) (fun hF => absurd hF (m9_n (by omega)))
      refine y_iconst (v := nI 1) hg dX0_readEnd_73 rfl ?_
      refine y_iload_n hg dX0_readEnd_74 rfl ?_
      refine y_ishl hg dX0_readEnd_75 ?_
      refine y_ti (sh_nI _ (by omega)) ?_
      refine y_ior hg dX0_readEnd_76 ?_
      refine y_putiN (j := 4) hg cf1 (hL.s_read.o) (by decide) rfl rfl nf4 dX0_readEnd_77 ?_
      refine y_iload_n hg dX0_readEnd_80 rfl ?_
      refine y_bipush (v := -9) hg dX0_readEnd_81 rfl ?_
      refine y_icmp_eq hg 90 dX0_readEnd_83 (by decide) (fun hT => absurd hT (m9_n (by omega))) (fun _ => ?_)
      refine y_iconst (v := nI 1) hg dX0_readEnd_86 rfl ?_
      refine y_goto hg 91 dX0_readEnd_87 (by decide) ?_
      refine y_zret hg hr rfl ⟨_, rfl, ?_⟩ dX0_readEnd_91 (Nat.le_refl _) (Nat.le_refl _)
      exact ⟨rfl, hw2.st hW (by unfold XR; omega), (gI_n (by omega)).trans hd2.1, fun _ => hd2.row (by omega) rfl rfl⟩
    · obtain ⟨rfl, rfl⟩ := hno hc
      have ex : xKd A 20 n (q + 1) S = (false, q + 1, 0, zA) := by unfold xKd; rw [if_neg hc]
      rw [ex] at hr
      refine y_istore_n hg dX0_readEnd_54 (by decide) (lv1 := [(0, _), (1, _)]) rfl ?_
      refine y_aload_n hg dX0_readEnd_55 rfl ?_
      refine y_getr (j := 21) hg cf0 (hL.x) (by decide) rfl (hL.r_read) q193 dX0_readEnd_56 ?_
      refine y_dup hg dX0_readEnd_59 rfl ?_
      refine y_getiN (j := 4) hg cf1 (hL.s_read.o) (by decide) rfl nf4 dX0_readEnd_60 ?_
      refine y_ti (e1) ?_
      refine y_iload_n hg dX0_readEnd_63 rfl ?_
      refine y_bipush (v := -9) hg dX0_readEnd_64 rfl ?_
      refine y_icmp_ne hg 73 dX0_readEnd_66 (by decide) (fun hT => absurd hT (fun z => z rfl)) (fun _ => ?_)
      refine y_iconst (v := nI 0) hg dX0_readEnd_69 rfl ?_
      refine y_goto hg 76 dX0_readEnd_70 (by decide) ?_
      refine y_ior hg dX0_readEnd_76 ?_
      refine y_ti (or_zero _) ?_
      refine y_putiN (j := 4) hg cf1 (hL.s_read.o) (by decide) rfl rfl nf4 dX0_readEnd_77 ?_
      refine y_iload_n hg dX0_readEnd_80 rfl ?_
      refine y_bipush (v := -9) hg dX0_readEnd_81 rfl ?_
      refine y_icmp_eq hg 90 dX0_readEnd_83 (by decide) (fun _ => ?_) (fun hF => absurd (rfl) hF)
      refine y_iconst (v := nI 0) hg dX0_readEnd_90 rfl ?_
      refine y_zret hg hr rfl ⟨_, rfl, ?_⟩ dX0_readEnd_91 (Nat.le_refl _) (Nat.le_refl _)
      exact ⟨rfl, hw1.st hW (by unfold XR; omega), (gI_n (by omega)).trans hd1.1, fun z => absurd z Bool.false_ne_true⟩
theorem cX_readLetter (hW : WFA A) (hw0 : WXs B A sd σ0 σ) {q n : Nat} {S : Ab} (hS : WFS n S) (hd : RdX σ q n S) (hq : q ≤ 180) : MT ll B 3 0 0 yX0_readLetter cX0_readLetter 2 (some .boolean) [.ref (B.1 + 0)] σ (pRd B A sd σ0 (if sm (bg (S 11)) 8 < 12 then (if (rnx A 97 8 (q + 1)).isSome = true then (true, q + 2, n, up2 S 11 (rtx A (q + 1) - 97) (S 11 (rtx A (q + 1) - 97) + nI 1)) else (false, q + 1, 0, zA)) else (false, q, 0, zA))) := by
  have hL := hw0.1.1
  have hn := hL.n
  have hle := hS.2.1.2.1
  have hbag : fo (fun x n => n + σ.2.2.1 (20 + 1) x) 0 8 = nI (sm (bg (S 11)) 8) := by
    rw [fo_congr (g := fun x n => n + S 11 x) 8 (fun i x hi => by rw [← hd.2.2.1 i (by omega), ro_bag hi])]
    exact bagS_nI hS.2.1.1
  unfold pRd
  by_cases h12 : sm (bg (S 11)) 8 < 12
  · rw [if_pos h12]
    refine MT.of (by decide) (Nat.le_of_ble_eq_true rfl) (fun g hg hr => ?_)
    refine y_aload_n hg dX0_readLetter_0 rfl ?_
    refine y_getr (j := 21) hg cf0 (hL.x) (by decide) rfl (hL.r_read) q193 dX0_readLetter_1 ?_
    refine y_cVi hg (cX_size hL.s_read) iX1_size q332 (hL.s_read.o) cf1 rfl rfl (by simp [Value.category]) (Nat.le_refl _) (Nat.le_refl _) (by decide) dX0_readLetter_4 (fun r σ1 hp => ?_)
    obtain ⟨rfl, rfl⟩ := hp
    refine y_ti hbag ?_
    refine y_bipush (v := nI 12) hg dX0_readLetter_7 rfl ?_
    refine y_icmp_ne hg 14 dX0_readLetter_9 (by decide) (fun _ => ?_) (fun hF => absurd hF (fun z => by have := nI_inj (by omega) (by omega) z; omega))
    refine y_aload_n hg dX0_readLetter_14 rfl ?_
    refine y_dup hg dX0_readLetter_15 rfl ?_
    refine y_geti (j := 18) hg cf0 (hL.x) (by decide) rfl q190 dX0_readLetter_16 ?_
    refine y_ti (hd.1) ?_
    refine y_iconst (v := nI 1) hg dX0_readLetter_19 rfl ?_
    refine y_iadd hg dX0_readLetter_20 ?_
    refine y_ti (nI_add _ _) ?_
    refine y_puti (j := 18) hg cf0 (hL.x) (by decide) rfl rfl q190 dX0_readLetter_21 ?_
    have hw1 : WXs B A sd σ0 (setI σ1 0 18 (nI (q + 1))) := hw0.st hW (by unfold XR; omega)
    have hd1 : RdX (setI σ1 0 18 (nI (q + 1))) (q + 1) n S := hd.at
    have hL := hw1.1.1
    generalize setI σ1 0 18 (nI (q + 1)) = σ2 at hw1 hd1 hL ⊢
    refine y_aload_n hg dX0_readLetter_24 rfl ?_
    refine y_bipush (v := nI 97) hg dX0_readLetter_25 rfl ?_
    refine y_bipush (v := nI 8) hg dX0_readLetter_27 rfl ?_
    refine y_cVi hg (cX_next hW hw1.1 hd1.1 (by omega) n97) iX0_next q320 (hL.x) cf0 rfl rfl (by simp [Value.category]) (Nat.le_refl _) (Nat.le_refl _) (by decide) dX0_readLetter_29 (fun r σ3 hp => ?_)
    obtain ⟨rfl, rfl⟩ := hp
    by_cases e : (rnx A 97 8 (q + 1)).isSome = true
    · obtain ⟨e1, e2, e3, e4⟩ := rnx_s e
      rw [if_pos e] at hr
      rw [e1]
      refine y_ti (x' := nI (rtx A (q + 1) - 97)) rfl ?_
      have hb : σ3.2.2.1 21 (rtx A (q + 1) - 97) = S 11 (rtx A (q + 1) - 97) := by rw [← hd1.2.2.1 _ (by omega), ro_bag (by omega)]
      refine y_istore_n hg dX0_readLetter_32 (by decide) (lv1 := [(0, _), (1, _)]) rfl ?_
      refine y_iload_n hg dX0_readLetter_33 rfl ?_
      refine y_bipush (v := -9) hg dX0_readLetter_34 rfl ?_
      refine y_icmp_ne hg 41 dX0_readLetter_36 (by decide) (fun _ => ?_) (fun hF => absurd hF (m9_n (by omega)))
      refine y_aload_n hg dX0_readLetter_41 rfl ?_
      refine y_dup hg dX0_readLetter_42 rfl ?_
      refine y_geti (j := 18) hg cf0 (hL.x) (by decide) rfl q190 dX0_readLetter_43 ?_
      refine y_ti (hd1.1) ?_
      refine y_iconst (v := nI 1) hg dX0_readLetter_46 rfl ?_
      refine y_iadd hg dX0_readLetter_47 ?_
      refine y_ti (nI_add _ _) ?_
      refine y_puti (j := 18) hg cf0 (hL.x) (by decide) rfl rfl q190 dX0_readLetter_48 ?_
      have hw2 : WXs B A sd σ0 (setI σ3 0 18 (nI (q + 1 + 1))) := hw1.st hW (by unfold XR; omega)
      have hd2 : RdX (setI σ3 0 18 (nI (q + 1 + 1))) (q + 1 + 1) n S := hd1.at
      have hb2 : (setI σ3 0 18 (nI (q + 1 + 1))).2.2.1 21 (rtx A (q + 1) - 97) = S 11 (rtx A (q + 1) - 97) := (gI_n (by omega)).trans hb
      have hL := hw2.1.1
      generalize setI σ3 0 18 (nI (q + 1 + 1)) = σ4 at hw2 hd2 hb2 hL ⊢
      refine y_aload_n hg dX0_readLetter_51 rfl ?_
      refine y_getr (j := 21) hg cf0 (hL.x) (by decide) rfl (hL.r_read) q193 dX0_readLetter_52 ?_
      refine y_getrN (j := 0) hg cf1 (hL.s_read.o) (by decide) rfl (hL.s_read.r_bag) nf0 dX0_readLetter_55 ?_
      refine y_iload_n hg dX0_readLetter_58 rfl ?_
      refine y_dup2 hg dX0_readLetter_59 rfl rfl ?_
      refine y_iald hg _ (hL.s_read.k_bag) rfl (by omega) dX0_readLetter_60 ?_
      refine y_ti (hb2) ?_
      refine y_iconst (v := nI 1) hg dX0_readLetter_61 rfl ?_
      refine y_iadd hg dX0_readLetter_62 ?_
      refine y_iast hg _ (hL.s_read.k_bag) rfl (by omega) dX0_readLetter_63 ?_
      refine y_iconst (v := nI 1) hg dX0_readLetter_64 rfl ?_
      refine y_zret hg hr rfl ⟨_, rfl, ?_⟩ dX0_readLetter_65 (Nat.le_refl _) (Nat.le_refl _)
      have ha : rA 20 (rtx A (q + 1) - 97) = 21 := by unfold rA; rw [if_pos (by omega)]
      have hb' : rB (rtx A (q + 1) - 97) = rtx A (q + 1) - 97 := by unfold rB; rw [if_pos (by omega)]
      exact ⟨rfl, hw2.st hW (by unfold XR; omega), (gI_n (by omega)).trans hd2.1, fun _ => hd2.row (by omega) ha hb'⟩
    · rw [if_neg e] at hr
      rw [rnx_n e]
      refine y_ti (x' := -9) rfl ?_
      refine y_istore_n hg dX0_readLetter_32 (by decide) (lv1 := [(0, _), (1, _)]) rfl ?_
      refine y_iload_n hg dX0_readLetter_33 rfl ?_
      refine y_bipush (v := -9) hg dX0_readLetter_34 rfl ?_
      refine y_icmp_ne hg 41 dX0_readLetter_36 (by decide) (fun hT => absurd hT (fun z => z rfl)) (fun _ => ?_)
      refine y_iconst (v := nI 0) hg dX0_readLetter_39 rfl ?_
      refine y_zret hg hr rfl ⟨_, rfl, ?_⟩ dX0_readLetter_40 (Nat.le_refl _) (Nat.le_refl _)
      exact ⟨rfl, hw1, hd1.1, fun z => absurd z Bool.false_ne_true⟩
  · rw [if_neg h12]
    refine MT.of (by decide) (Nat.le_of_ble_eq_true rfl) (fun g hg hr => ?_)
    refine y_aload_n hg dX0_readLetter_0 rfl ?_
    refine y_getr (j := 21) hg cf0 (hL.x) (by decide) rfl (hL.r_read) q193 dX0_readLetter_1 ?_
    refine y_cVi hg (cX_size hL.s_read) iX1_size q332 (hL.s_read.o) cf1 rfl rfl (by simp [Value.category]) (Nat.le_refl _) (Nat.le_refl _) (by decide) dX0_readLetter_4 (fun r σ1 hp => ?_)
    obtain ⟨rfl, rfl⟩ := hp
    refine y_ti hbag ?_
    refine y_bipush (v := nI 12) hg dX0_readLetter_7 rfl ?_
    refine y_icmp_ne hg 14 dX0_readLetter_9 (by decide) (fun hT => absurd hT (fun z => z (by rw [show sm (bg (S 11)) 8 = 12 by omega]))) (fun _ => ?_)
    refine y_iconst (v := nI 0) hg dX0_readLetter_12 rfl ?_
    refine y_zret hg hr rfl ⟨_, rfl, ?_⟩ dX0_readLetter_13 (Nat.le_refl _) (Nat.le_refl _)
    exact ⟨rfl, hw0, hd.1, fun z => absurd z Bool.false_ne_true⟩
/-- which kinds have all followers -/
def flB (S : Ab) : Nat → Nat
  | 0 => 0
  | k + 1 => flB S k + (if S 11 (21 + k) = nI 15 then 2 ^ k else 0)
theorem flB_lt (S : Ab) : ∀ k, flB S k < 2 ^ k
  | 0 => by show 0 < 1; omega
  | k + 1 => by
    have := flB_lt S k
    show flB S k + _ < 2 ^ (k + 1)
    rw [Nat.pow_succ]
    split <;> omega
theorem flB_tb (S : Ab) : ∀ m k, k < m → (flB S m).testBit k = decide (S 11 (21 + k) = nI 15)
  | 0, k, h => by omega
  | m + 1, k, h => by
    have hl := flB_lt S m
    show (flB S m + _).testBit k = _
    by_cases e : S 11 (21 + m) = nI 15
    · rw [if_pos e, Nat.add_comm]
      by_cases e2 : k = m
      · subst e2; rw [tb_hi hl, decide_eq_true e]
      · rw [tb_lo (by omega)]; exact flB_tb S m k (by omega)
    · rw [if_neg e, Nat.add_zero]
      by_cases e2 : k = m
      · subst e2; rw [tb_z hl, decide_eq_false e]
      · exact flB_tb S m k (by omega)
theorem flB_15 (S : Ab) : flB S 4 = 15 ↔ (S 11 21 = nI 15 ∧ S 11 22 = nI 15 ∧ S 11 23 = nI 15 ∧ S 11 24 = nI 15) := by
  show 0 + (if S 11 (21 + 0) = nI 15 then 2 ^ 0 else 0) + (if S 11 (21 + 1) = nI 15 then 2 ^ 1 else 0) + (if S 11 (21 + 2) = nI 15 then 2 ^ 2 else 0) + (if S 11 (21 + 3) = nI 15 then 2 ^ 3 else 0) = 15 ↔ _
  by_cases a : S 11 21 = nI 15 <;> by_cases b : S 11 22 = nI 15 <;> by_cases c : S 11 23 = nI 15 <;> by_cases d : S 11 24 = nI 15 <;> simp [a, b, c, d]
theorem cX_readPair (hW : WFA A) (hw0 : WXs B A sd σ0 σ) {q n : Nat} {S : Ab} (hS : WFS n S) (hd : RdX σ q n S) (hq : q ≤ 180) : MT ll B 3 0 0 yX0_readPair cX0_readPair 4 (some .boolean) [.ref (B.1 + 0)] σ (pRd B A sd σ0 (if S 11 21 = nI 15 ∧ S 11 22 = nI 15 ∧ S 11 23 = nI 15 ∧ S 11 24 = nI 15 then (false, q, 0, zA) else if (rnx A 65 4 (q + 1)).isSome = true ∧ ¬ S 11 (21 + (rtx A (q + 1) - 65)) = nI 15 then xKd A (21 + (rtx A (q + 1) - 65)) n (q + 2) S else (false, q + 1, 0, zA))) := by
  have hL := hw0.1.1
  have hn := hL.n
  have hfo : ∀ k, k < 4 → σ.2.2.1 23 k = S 11 (21 + k) := fun k hk => by rw [← hd.2.2.1 _ (by omega), ro_follows]
  have h16 := flB_lt S 4
  unfold pRd
  refine MT.of (by decide) (Nat.le_of_ble_eq_true rfl) (fun g hg hr => ?_)
  refine y_iconst (v := nI 0) hg dX0_readPair_0 rfl ?_
  refine y_istore_n hg dX0_readPair_1 (by decide) (lv1 := [(0, _), (1, _)]) rfl ?_
  refine y_iconst (v := nI 0) hg dX0_readPair_2 rfl ?_
  refine y_istore_n hg dX0_readPair_3 (by decide) (lv1 := [(0, _), (1, _), (2, _)]) rfl ?_
  refine (loop_up (G := fun k => YY g 4 σ 0 0 4 [(0, .ref (B.1 + 0)), (1, .int (nI (flB S k))), (2, .int (nI k))] []) 4 (fun k hk ih => ?_) ?_ 0 (Nat.zero_le _))
  · have hl := flB_lt S k
    have es : flB S (k + 1) = flB S k + (if S 11 (21 + k) = nI 15 then 2 ^ k else 0) := rfl
    rw [es] at ih
    by_cases e : S 11 (21 + k) = nI 15
    · rw [if_pos e] at ih
      refine y_iload_n hg dX0_readPair_4 rfl ?_
      refine y_iconst (v := nI 4) hg dX0_readPair_5 rfl ?_
      refine y_icmp_ge hg 39 dX0_readPair_6 (by decide) (fun hT => absurd hT (ge_c hk (by omega))) (fun _ => ?_)
      refine y_iload_n hg dX0_readPair_9 rfl ?_
      refine y_aload_n hg dX0_readPair_10 rfl ?_
      refine y_getr (j := 21) hg cf0 (hL.x) (by decide) rfl (hL.r_read) q193 dX0_readPair_11 ?_
      refine y_getrN (j := 5) hg cf1 (hL.s_read.o) (by decide) rfl (hL.s_read.r_follows) nf5 dX0_readPair_14 ?_
      refine y_iload_n hg dX0_readPair_17 rfl ?_
      refine y_iald hg _ (hL.s_read.k_follows) rfl (by omega) dX0_readPair_18 ?_
      refine y_ti (hfo _ hk) ?_
      refine y_bipush (v := nI 15) hg dX0_readPair_19 rfl ?_
      refine y_icmp_ne hg 30 dX0_readPair_21 (by decide) (fun hT => absurd hT (fun z => z e)) (fun _ => ?_)
      refine y_iconst (v := nI 1) hg dX0_readPair_24 rfl ?_
      refine y_iload_n hg dX0_readPair_25 rfl ?_
      refine y_ishl hg dX0_readPair_26 ?_
      refine y_goto hg 31 dX0_readPair_27 (by decide) ?_
      refine y_ior hg dX0_readPair_31 ?_
      refine y_ti ((or_pow hl (by omega)).trans (by rw [Nat.add_comm])) ?_
      refine y_istore_n hg dX0_readPair_32 (by decide) (lv1 := [(0, _), (1, _), (2, _)]) rfl ?_
      refine y_iinc hg dX0_readPair_33 rfl (inc1 _) (by decide) (lv1 := [(0, _), (1, _), (2, _)]) rfl ?_
      refine y_goto hg 4 dX0_readPair_36 (by decide) ?_
      exact ih
    · rw [if_neg e] at ih
      refine y_iload_n hg dX0_readPair_4 rfl ?_
      refine y_iconst (v := nI 4) hg dX0_readPair_5 rfl ?_
      refine y_icmp_ge hg 39 dX0_readPair_6 (by decide) (fun hT => absurd hT (ge_c hk (by omega))) (fun _ => ?_)
      refine y_iload_n hg dX0_readPair_9 rfl ?_
      refine y_aload_n hg dX0_readPair_10 rfl ?_
      refine y_getr (j := 21) hg cf0 (hL.x) (by decide) rfl (hL.r_read) q193 dX0_readPair_11 ?_
      refine y_getrN (j := 5) hg cf1 (hL.s_read.o) (by decide) rfl (hL.s_read.r_follows) nf5 dX0_readPair_14 ?_
      refine y_iload_n hg dX0_readPair_17 rfl ?_
      refine y_iald hg _ (hL.s_read.k_follows) rfl (by omega) dX0_readPair_18 ?_
      refine y_ti (hfo _ hk) ?_
      refine y_bipush (v := nI 15) hg dX0_readPair_19 rfl ?_
      refine y_icmp_ne hg 30 dX0_readPair_21 (by decide) (fun _ => ?_) (fun hF => absurd hF (e))
      refine y_iconst (v := nI 0) hg dX0_readPair_30 rfl ?_
      refine y_ior hg dX0_readPair_31 ?_
      refine y_ti ((or_nI _ _).trans (by rw [Nat.or_zero])) ?_
      refine y_istore_n hg dX0_readPair_32 (by decide) (lv1 := [(0, _), (1, _), (2, _)]) rfl ?_
      refine y_iinc hg dX0_readPair_33 rfl (inc1 _) (by decide) (lv1 := [(0, _), (1, _), (2, _)]) rfl ?_
      refine y_goto hg 4 dX0_readPair_36 (by decide) ?_
      exact ih
  · have h15 := flB_15 S
    by_cases e : S 11 21 = nI 15 ∧ S 11 22 = nI 15 ∧ S 11 23 = nI 15 ∧ S 11 24 = nI 15
    · rw [if_pos e] at hr
      rw [h15.mpr e]
      refine y_iload_n hg dX0_readPair_4 rfl ?_
      refine y_iconst (v := nI 4) hg dX0_readPair_5 rfl ?_
      refine y_icmp_ge hg 39 dX0_readPair_6 (by decide) (fun _ => ?_) (fun hF => absurd (le_c (Nat.le_refl _) (by omega)) hF)
      refine y_iload_n hg dX0_readPair_39 rfl ?_
      refine y_bipush (v := nI 15) hg dX0_readPair_40 rfl ?_
      refine y_icmp_ne hg 47 dX0_readPair_42 (by decide) (fun hT => absurd hT (fun z => z rfl)) (fun _ => ?_)
      refine y_iconst (v := nI 0) hg dX0_readPair_45 rfl ?_
      refine y_zret hg hr rfl ⟨_, rfl, ?_⟩ dX0_readPair_46 (Nat.le_refl _) (Nat.le_refl _)
      exact ⟨rfl, hw0, hd.1, fun z => absurd z Bool.false_ne_true⟩
    · rw [if_neg e] at hr
      have h15' : flB S 4 ≠ 15 := fun z => e (h15.mp z)
      refine y_iload_n hg dX0_readPair_4 rfl ?_
      refine y_iconst (v := nI 4) hg dX0_readPair_5 rfl ?_
      refine y_icmp_ge hg 39 dX0_readPair_6 (by decide) (fun _ => ?_) (fun hF => absurd (le_c (Nat.le_refl _) (by omega)) hF)
      refine y_iload_n hg dX0_readPair_39 rfl ?_
      refine y_bipush (v := nI 15) hg dX0_readPair_40 rfl ?_
      refine y_icmp_ne hg 47 dX0_readPair_42 (by decide) (fun _ => ?_) (fun hF => absurd hF (fun z => h15' (nI_inj (by omega) (by omega) z)))
      refine y_aload_n hg dX0_readPair_47 rfl ?_
      refine y_dup hg dX0_readPair_48 rfl ?_
      refine y_geti (j := 18) hg cf0 (hL.x) (by decide) rfl q190 dX0_readPair_49 ?_
      refine y_ti (hd.1) ?_
      refine y_iconst (v := nI 1) hg dX0_readPair_52 rfl ?_
      refine y_iadd hg dX0_readPair_53 ?_
      refine y_ti (nI_add _ _) ?_
      refine y_puti (j := 18) hg cf0 (hL.x) (by decide) rfl rfl q190 dX0_readPair_54 ?_
      have hw1 : WXs B A sd σ0 (setI σ 0 18 (nI (q + 1))) := hw0.st hW (by unfold XR; omega)
      have hd1 : RdX (setI σ 0 18 (nI (q + 1))) (q + 1) n S := hd.at
      have hf1 : ∀ k, k < 4 → (setI σ 0 18 (nI (q + 1))).2.2.1 23 k = S 11 (21 + k) := fun k hk => (gI_n (by omega)).trans (hfo k hk)
      have hL := hw1.1.1
      generalize setI σ 0 18 (nI (q + 1)) = σ1 at hw1 hd1 hf1 hL ⊢
      refine y_aload_n hg dX0_readPair_57 rfl ?_
      refine y_iload_n hg dX0_readPair_58 rfl ?_
      refine y_cVi hg (cX_readKind hW hw1.1 hd1.1 (by omega) _) iX0_readKind q340 (hL.x) cf0 rfl rfl (by simp [Value.category]) (Nat.le_refl _) (Nat.le_refl _) (by decide) dX0_readPair_59 (fun r2 σ2 hp => ?_)
      obtain ⟨hy, hno⟩ := hp
      by_cases hc : (rnx A 65 4 (q + 1)).isSome = true ∧ ¬ S 11 (21 + (rtx A (q + 1) - 65)) = nI 15
      · obtain ⟨-, -, e65, e69⟩ := rnx_s hc.1
        have hk4 : rtx A (q + 1) - 65 < 4 := by omega
        have hb : hasB (nI (flB S 4)) (nI (rtx A (q + 1) - 65)) = false := by rw [hb_tb (by omega), flB_tb S 4 _ hk4, decide_eq_false hc.2]
        obtain ⟨rfl, rfl⟩ := hy ⟨hc.1, hb⟩
        rw [if_pos hc] at hr
        generalize hkk : rtx A (q + 1) - 65 = k at *
        have hw2 : WXs B A sd σ0 (setI σ1 0 18 (nI (q + 1 + 1))) := hw1.st hW (by unfold XR; omega)
        have hd2 : RdX (setI σ1 0 18 (nI (q + 1 + 1))) (q + 1 + 1) n S := hd1.at
        have hf2 : ∀ k, k < 4 → (setI σ1 0 18 (nI (q + 1 + 1))).2.2.1 23 k = S 11 (21 + k) := fun k hk => (gI_n (by omega)).trans (hf1 k hk)
        have hL := hw2.1.1
        generalize setI σ1 0 18 (nI (q + 1 + 1)) = σ2 at hw2 hd2 hf2 hL ⊢
        refine y_istore_n hg dX0_readPair_62 (by decide) (lv1 := [(0, _), (1, _), (2, _)]) rfl ?_
        refine y_iload_n hg dX0_readPair_63 rfl ?_
        refine y_bipush (v := -9) hg dX0_readPair_64 rfl ?_
        refine y_icmp_ne hg 74 dX0_readPair_66 (by decide) (fun _ => ?_) (fun hF => absurd hF (m9_n (by omega)))
        refine y_aload_n hg dX0_readPair_74 rfl ?_
        refine y_aload_n hg dX0_readPair_75 rfl ?_
        refine y_getr (j := 21) hg cf0 (hL.x) (by decide) rfl (hL.r_read) q193 dX0_readPair_76 ?_
        refine y_getrN (j := 5) hg cf1 (hL.s_read.o) (by decide) rfl (hL.s_read.r_follows) nf5 dX0_readPair_79 ?_
        refine y_iload_n hg dX0_readPair_82 rfl ?_
        refine y_iald hg _ (hL.s_read.k_follows) rfl (by omega) dX0_readPair_83 ?_
        refine y_ti (hf2 _ hk4) ?_
        refine y_cVi hg (cX_readKind hW hw2.1 hd2.1 (by omega) _) iX0_readKind q340 (hL.x) cf0 rfl rfl (by simp [Value.category]) (Nat.le_refl _) (Nat.le_refl _) (by decide) dX0_readPair_84 (fun r3 σ3 hp => ?_)
        obtain ⟨hy2, hno2⟩ := hp
        by_cases hc2 : (rnx A 65 4 (q + 1 + 1)).isSome = true ∧ hasB (S 11 (21 + k)) (nI (rtx A (q + 1 + 1) - 65)) = false
        · obtain ⟨rfl, rfl⟩ := hy2 hc2
          obtain ⟨-, -, f65, f69⟩ := rnx_s hc2.1
          have ex : xKd A (21 + k) n (q + 2) S = (true, q + 1 + 1 + 1, n, kSt S (21 + k) (rtx A (q + 1 + 1))) := by unfold xKd; rw [if_pos hc2]
          rw [ex] at hr
          have hw3 : WXs B A sd σ0 (setI σ2 0 18 (nI (q + 1 + 1 + 1))) := hw2.st hW (by unfold XR; omega)
          have hd3 : RdX (setI σ2 0 18 (nI (q + 1 + 1 + 1))) (q + 1 + 1 + 1) n S := hd2.at
          have hf3 : ∀ k, k < 4 → (setI σ2 0 18 (nI (q + 1 + 1 + 1))).2.2.1 23 k = S 11 (21 + k) := fun k hk => (gI_n (by omega)).trans (hf2 k hk)
          have hL := hw3.1.1
          generalize setI σ2 0 18 (nI (q + 1 + 1 + 1)) = σ3 at hw3 hd3 hf3 hL ⊢
          refine y_istore_n hg dX0_readPair_87 (by decide) (lv1 := [(0, _), (1, _), (2, _), (3, _)]) rfl ?_
          refine y_iload_n hg dX0_readPair_88 rfl ?_
          refine y_bipush (v := -9) hg dX0_readPair_89 rfl ?_
          refine y_icmp_eq hg 109 dX0_readPair_91 (by decide) (fun hT => absurd hT (m9_n (by omega))) (fun _ => ?_)
          refine y_aload_n hg dX0_readPair_94 rfl ?_
          refine y_getr (j := 21) hg cf0 (hL.x) (by decide) rfl (hL.r_read) q193 dX0_readPair_95 ?_
          refine y_getrN (j := 5) hg cf1 (hL.s_read.o) (by decide) rfl (hL.s_read.r_follows) nf5 dX0_readPair_98 ?_
          refine y_iload_n hg dX0_readPair_101 rfl ?_
          refine y_dup2 hg dX0_readPair_102 rfl rfl ?_
          refine y_iald hg _ (hL.s_read.k_follows) rfl (by omega) dX0_readPair_103 ?_
          refine y_ti (hf3 _ hk4) ?_
          refine y_iconst (v := nI 1) hg dX0_readPair_104 rfl ?_
          refine y_iload_n hg dX0_readPair_105 rfl ?_
          refine y_ishl hg dX0_readPair_106 ?_
          refine y_ti (sh_nI _ (by omega)) ?_
          refine y_ior hg dX0_readPair_107 ?_
          refine y_iast hg _ (hL.s_read.k_follows) rfl (by omega) dX0_readPair_108 ?_
          refine y_iload_n hg dX0_readPair_109 rfl ?_
          refine y_bipush (v := -9) hg dX0_readPair_110 rfl ?_
          refine y_icmp_eq hg 119 dX0_readPair_112 (by decide) (fun hT => absurd hT (m9_n (by omega))) (fun _ => ?_)
          refine y_iconst (v := nI 1) hg dX0_readPair_115 rfl ?_
          refine y_goto hg 120 dX0_readPair_116 (by decide) ?_
          refine y_zret hg hr rfl ⟨_, rfl, ?_⟩ dX0_readPair_120 (Nat.le_refl _) (Nat.le_refl _)
          have ha : rA 20 (21 + k) = 23 := by unfold rA; rw [if_neg (by omega), if_neg (by omega), if_neg (by omega), if_neg (by omega), if_neg (by omega)]
          have hb' : rB (21 + k) = k := by unfold rB; rw [if_neg (by omega), if_neg (by omega), if_neg (by omega), if_neg (by omega), if_neg (by omega)]; omega
          exact ⟨rfl, hw3.st hW (by unfold XR; omega), (gI_n (by omega)).trans hd3.1, fun _ => hd3.row (by omega) ha hb'⟩
        · obtain ⟨rfl, rfl⟩ := hno2 hc2
          have ex : xKd A (21 + k) n (q + 2) S = (false, q + 1 + 1, 0, zA) := by unfold xKd; rw [if_neg hc2]
          rw [ex] at hr
          refine y_istore_n hg dX0_readPair_87 (by decide) (lv1 := [(0, _), (1, _), (2, _), (3, _)]) rfl ?_
          refine y_iload_n hg dX0_readPair_88 rfl ?_
          refine y_bipush (v := -9) hg dX0_readPair_89 rfl ?_
          refine y_icmp_eq hg 109 dX0_readPair_91 (by decide) (fun _ => ?_) (fun hF => absurd (rfl) hF)
          refine y_iload_n hg dX0_readPair_109 rfl ?_
          refine y_bipush (v := -9) hg dX0_readPair_110 rfl ?_
          refine y_icmp_eq hg 119 dX0_readPair_112 (by decide) (fun _ => ?_) (fun hF => absurd (rfl) hF)
          refine y_iconst (v := nI 0) hg dX0_readPair_119 rfl ?_
          refine y_zret hg hr rfl ⟨_, rfl, ?_⟩ dX0_readPair_120 (Nat.le_refl _) (Nat.le_refl _)
          exact ⟨rfl, hw2, hd2.1, fun z => absurd z Bool.false_ne_true⟩
      · have hno1 : ¬ ((rnx A 65 4 (q + 1)).isSome = true ∧ hasB (nI (flB S 4)) (nI (rtx A (q + 1) - 65)) = false) := fun z => by
          obtain ⟨-, -, e65, e69⟩ := rnx_s z.1
          refine hc ⟨z.1, ?_⟩
          have := z.2
          rw [hb_tb (by omega), flB_tb S 4 _ (by omega)] at this
          exact of_decide_eq_false this
        obtain ⟨rfl, rfl⟩ := hno hno1
        rw [if_neg hc] at hr
        refine y_istore_n hg dX0_readPair_62 (by decide) (lv1 := [(0, _), (1, _), (2, _)]) rfl ?_
        refine y_iload_n hg dX0_readPair_63 rfl ?_
        refine y_bipush (v := -9) hg dX0_readPair_64 rfl ?_
        refine y_icmp_ne hg 74 dX0_readPair_66 (by decide) (fun hT => absurd hT (fun z => z rfl)) (fun _ => ?_)
        refine y_bipush (v := -9) hg dX0_readPair_69 rfl ?_
        refine y_goto hg 87 dX0_readPair_71 (by decide) ?_
        refine y_istore_n hg dX0_readPair_87 (by decide) (lv1 := [(0, _), (1, _), (2, _), (3, _)]) rfl ?_
        refine y_iload_n hg dX0_readPair_88 rfl ?_
        refine y_bipush (v := -9) hg dX0_readPair_89 rfl ?_
        refine y_icmp_eq hg 109 dX0_readPair_91 (by decide) (fun _ => ?_) (fun hF => absurd (rfl) hF)
        refine y_iload_n hg dX0_readPair_109 rfl ?_
        refine y_bipush (v := -9) hg dX0_readPair_110 rfl ?_
        refine y_icmp_eq hg 119 dX0_readPair_112 (by decide) (fun _ => ?_) (fun hF => absurd (rfl) hF)
        refine y_iconst (v := nI 0) hg dX0_readPair_119 rfl ?_
        refine y_zret hg hr rfl ⟨_, rfl, ?_⟩ dX0_readPair_120 (Nat.le_refl _) (Nat.le_refl _)
        exact ⟨rfl, hw1, hd1.1, fun z => absurd z Bool.false_ne_true⟩
end ReadX2

