section PartX
variable {ll : Launch} {B : Bs} {σ : Mem} {A : Ab} {sd : Int64} {σ0 : Mem}
theorem xP_w {n q : Nat} {S : Ab} (t : rtx A q = 119) : xPart A n S q = if n < 10 then wK A n (spl A n 6 (q + 1) (up2 S 2 n (nI 0))).1 (spl A n 6 (q + 1) (up2 S 2 n (nI 0))).2 else (false, q, 0, zA) := by
  have ok : okS n S (rtx A q) = decide (n < 10) := by rw [t]; rfl
  unfold xPart
  rw [ok]
  by_cases h : n < 10
  · rw [decide_eq_true h, if_neg (by decide), if_pos t, if_pos h]
  · rw [decide_eq_false h, if_pos rfl, if_neg h]
theorem xP_l {n q : Nat} {S : Ab} (t : rtx A q = 43) : xPart A n S q = if sm (bg (S 11)) 8 < 12 then (if (rnx A 97 8 (q + 1)).isSome = true then (true, q + 2, n, up2 S 11 (rtx A (q + 1) - 97) (S 11 (rtx A (q + 1) - 97) + nI 1)) else (false, q + 1, 0, zA)) else (false, q, 0, zA) := by
  have ok : okS n S (rtx A q) = decide (sm (bg (S 11)) 8 < 12) := by rw [t]; rfl
  unfold xPart
  rw [ok]
  by_cases h : sm (bg (S 11)) 8 < 12
  · rw [decide_eq_true h, if_neg (by decide), if_neg (show ¬ rtx A q = 119 by omega), if_pos t, if_pos h]
  · rw [decide_eq_false h, if_pos rfl, if_neg h]
theorem xP_b {n q : Nat} {S : Ab} (t : rtx A q = 94) : xPart A n S q = if S 11 19 = nI 15 then (false, q, 0, zA) else xKd A 19 n (q + 1) S := by
  have ok : okS n S (rtx A q) = decide (¬ S 11 19 = nI 15) := by rw [t]; rfl
  unfold xPart
  rw [ok]
  by_cases h : S 11 19 = nI 15
  · rw [decide_eq_false (fun z => z h), if_pos rfl, if_pos h]
  · rw [decide_eq_true h, if_neg (by decide), if_neg (show ¬ rtx A q = 119 by omega), if_neg (show ¬ rtx A q = 43 by omega), if_pos t, if_neg h]
theorem xP_e {n q : Nat} {S : Ab} (t : rtx A q = 46) : xPart A n S q = if S 11 20 = nI 15 then (false, q, 0, zA) else xKd A 20 n (q + 1) S := by
  have ok : okS n S (rtx A q) = decide (¬ S 11 20 = nI 15) := by rw [t]; rfl
  unfold xPart
  rw [ok]
  by_cases h : S 11 20 = nI 15
  · rw [decide_eq_false (fun z => z h), if_pos rfl, if_pos h]
  · rw [decide_eq_true h, if_neg (by decide), if_neg (show ¬ rtx A q = 119 by omega), if_neg (show ¬ rtx A q = 43 by omega), if_neg (show ¬ rtx A q = 94 by omega), if_pos t, if_neg h]
theorem xP_p {n q : Nat} {S : Ab} (t : rtx A q = 58) : xPart A n S q = if S 11 21 = nI 15 ∧ S 11 22 = nI 15 ∧ S 11 23 = nI 15 ∧ S 11 24 = nI 15 then (false, q, 0, zA) else if (rnx A 65 4 (q + 1)).isSome = true ∧ ¬ S 11 (21 + (rtx A (q + 1) - 65)) = nI 15 then xKd A (21 + (rtx A (q + 1) - 65)) n (q + 2) S else (false, q + 1, 0, zA) := by
  have ok : okS n S (rtx A q) = decide (¬ (S 11 21 = nI 15 ∧ S 11 22 = nI 15 ∧ S 11 23 = nI 15 ∧ S 11 24 = nI 15)) := by rw [t]; rfl
  unfold xPart
  rw [ok]
  by_cases h : S 11 21 = nI 15 ∧ S 11 22 = nI 15 ∧ S 11 23 = nI 15 ∧ S 11 24 = nI 15
  · rw [decide_eq_false (fun z => z h), if_pos rfl, if_pos h]
  · rw [decide_eq_true h, if_neg (by decide), if_neg (show ¬ rtx A q = 119 by omega), if_neg (show ¬ rtx A q = 43 by omega), if_neg (show ¬ rtx A q = 94 by omega), if_neg (show ¬ rtx A q = 46 by omega), if_neg h]
theorem xP_o {n q : Nat} {S : Ab} (t : rtx A q ≠ 119 ∧ rtx A q ≠ 43 ∧ rtx A q ≠ 94 ∧ rtx A q ≠ 46 ∧ rtx A q ≠ 58) : xPart A n S q = (false, q, 0, zA) := by
  unfold xPart okS
  rw [if_neg t.1, if_neg t.2.1, if_neg t.2.2.1, if_neg t.2.2.2.1, if_neg t.2.2.2.2, if_pos rfl]
theorem cX_readPart (hW : WFA A) (hw0 : WXs B A sd σ0 σ) {q n : Nat} {S : Ab} (hS : WFS n S) (hd : RdX σ q n S) (hq : q < rln A) : MT ll B 4 0 0 yX0_readPart cX0_readPart 1 (some .boolean) [.ref (B.1 + 0)] σ (pRd B A sd σ0 (xPart A n S q)) := by
  have hL := hw0.1.1
  have hR := hw0.1
  obtain ⟨hln, hl180⟩ := hW.lenN
  obtain ⟨htx, ht256⟩ := hW.txN (show q < 180 by omega)
  have htx := (hR.text (show q < 180 by omega)).trans htx
  unfold pRd
  by_cases t1 : rtx A q = 119
  · rw [xP_w t1]
    rw [t1] at htx
    refine MT.of (by decide) (Nat.le_of_ble_eq_true rfl) (fun g hg hr => ?_)
    refine y_aload_n hg dX0_readPart_0 rfl ?_
    refine y_getr (j := 16) hg cf0 (hL.x) (by decide) rfl (hL.r_text) q188 dX0_readPart_1 ?_
    refine y_aload_n hg dX0_readPart_4 rfl ?_
    refine y_geti (j := 18) hg cf0 (hL.x) (by decide) rfl q190 dX0_readPart_5 ?_
    refine y_ti (hd.1) ?_
    refine y_iald hg _ (hL.k_text) rfl (by omega) dX0_readPart_8 ?_
    refine y_ti (htx) ?_
    refine y_lkup (off := 43) hg 52 dX0_readPart_9 (by decide) (by decide) (by decide) ?_
    refine y_aload_n hg dX0_readPart_52 rfl ?_
    refine y_cVi hg (cX_readWord hW hw0 hS hd (by omega)) iX0_readWord q312 (hL.x) cf0 rfl rfl (by simp [Value.category]) (Nat.le_refl _) (Nat.le_refl _) (by decide) dX0_readPart_53 (fun r σ1 hp => ?_)
    obtain ⟨rfl, h1, h2, h3⟩ := hp
    refine y_zret hg hr (nz_b2 _) ⟨_, rfl, ?_⟩ dX0_readPart_56 (Nat.le_refl _) (Nat.le_refl _)
    exact ⟨rfl, h1, h2, h3⟩
  by_cases t2 : rtx A q = 43
  · rw [xP_l t2]
    rw [t2] at htx
    refine MT.of (by decide) (Nat.le_of_ble_eq_true rfl) (fun g hg hr => ?_)
    refine y_aload_n hg dX0_readPart_0 rfl ?_
    refine y_getr (j := 16) hg cf0 (hL.x) (by decide) rfl (hL.r_text) q188 dX0_readPart_1 ?_
    refine y_aload_n hg dX0_readPart_4 rfl ?_
    refine y_geti (j := 18) hg cf0 (hL.x) (by decide) rfl q190 dX0_readPart_5 ?_
    refine y_ti (hd.1) ?_
    refine y_iald hg _ (hL.k_text) rfl (by omega) dX0_readPart_8 ?_
    refine y_ti (htx) ?_
    refine y_lkup (off := 48) hg 57 dX0_readPart_9 (by decide) (by decide) (by decide) ?_
    refine y_aload_n hg dX0_readPart_57 rfl ?_
    refine y_cVi hg (cX_readLetter hW hw0 hS hd (by omega)) iX0_readLetter q328 (hL.x) cf0 rfl rfl (by simp [Value.category]) (Nat.le_refl _) (Nat.le_refl _) (by decide) dX0_readPart_58 (fun r σ1 hp => ?_)
    obtain ⟨rfl, h1, h2, h3⟩ := hp
    refine y_zret hg hr (nz_b2 _) ⟨_, rfl, ?_⟩ dX0_readPart_61 (Nat.le_refl _) (Nat.le_refl _)
    exact ⟨rfl, h1, h2, h3⟩
  by_cases t3 : rtx A q = 94
  · rw [xP_b t3]
    rw [t3] at htx
    refine MT.of (by decide) (Nat.le_of_ble_eq_true rfl) (fun g hg hr => ?_)
    refine y_aload_n hg dX0_readPart_0 rfl ?_
    refine y_getr (j := 16) hg cf0 (hL.x) (by decide) rfl (hL.r_text) q188 dX0_readPart_1 ?_
    refine y_aload_n hg dX0_readPart_4 rfl ?_
    refine y_geti (j := 18) hg cf0 (hL.x) (by decide) rfl q190 dX0_readPart_5 ?_
    refine y_ti (hd.1) ?_
    refine y_iald hg _ (hL.k_text) rfl (by omega) dX0_readPart_8 ?_
    refine y_ti (htx) ?_
    refine y_lkup (off := 53) hg 62 dX0_readPart_9 (by decide) (by decide) (by decide) ?_
    refine y_aload_n hg dX0_readPart_62 rfl ?_
    refine y_cVi hg (cX_readBegin hW hw0 hS hd (by omega)) iX0_readBegin q336 (hL.x) cf0 rfl rfl (by simp [Value.category]) (Nat.le_refl _) (Nat.le_refl _) (by decide) dX0_readPart_63 (fun r σ1 hp => ?_)
    obtain ⟨rfl, h1, h2, h3⟩ := hp
    refine y_zret hg hr (nz_b2 _) ⟨_, rfl, ?_⟩ dX0_readPart_66 (Nat.le_refl _) (Nat.le_refl _)
    exact ⟨rfl, h1, h2, h3⟩
  by_cases t4 : rtx A q = 46
  · rw [xP_e t4]
    rw [t4] at htx
    refine MT.of (by decide) (Nat.le_of_ble_eq_true rfl) (fun g hg hr => ?_)
    refine y_aload_n hg dX0_readPart_0 rfl ?_
    refine y_getr (j := 16) hg cf0 (hL.x) (by decide) rfl (hL.r_text) q188 dX0_readPart_1 ?_
    refine y_aload_n hg dX0_readPart_4 rfl ?_
    refine y_geti (j := 18) hg cf0 (hL.x) (by decide) rfl q190 dX0_readPart_5 ?_
    refine y_ti (hd.1) ?_
    refine y_iald hg _ (hL.k_text) rfl (by omega) dX0_readPart_8 ?_
    refine y_ti (htx) ?_
    refine y_lkup (off := 58) hg 67 dX0_readPart_9 (by decide) (by decide) (by decide) ?_
    refine y_aload_n hg dX0_readPart_67 rfl ?_
    refine y_cVi hg (cX_readEnd hW hw0 hS hd (by omega)) iX0_readEnd q347 (hL.x) cf0 rfl rfl (by simp [Value.category]) (Nat.le_refl _) (Nat.le_refl _) (by decide) dX0_readPart_68 (fun r σ1 hp => ?_)
    obtain ⟨rfl, h1, h2, h3⟩ := hp
    refine y_zret hg hr (nz_b2 _) ⟨_, rfl, ?_⟩ dX0_readPart_71 (Nat.le_refl _) (Nat.le_refl _)
    exact ⟨rfl, h1, h2, h3⟩
  by_cases t5 : rtx A q = 58
  · obtain ⟨P, hP⟩ : ∃ P, P = xPart A n S q := ⟨_, rfl⟩
    have hP' := hP.trans (xP_p t5)
    rw [← hP]
    rw [t5] at htx
    refine MT.of (by decide) (Nat.le_of_ble_eq_true rfl) (fun g hg hr => ?_)
    refine y_aload_n hg dX0_readPart_0 rfl ?_
    refine y_getr (j := 16) hg cf0 (hL.x) (by decide) rfl (hL.r_text) q188 dX0_readPart_1 ?_
    refine y_aload_n hg dX0_readPart_4 rfl ?_
    refine y_geti (j := 18) hg cf0 (hL.x) (by decide) rfl q190 dX0_readPart_5 ?_
    refine y_ti (hd.1) ?_
    refine y_iald hg _ (hL.k_text) rfl (by omega) dX0_readPart_8 ?_
    refine y_ti (htx) ?_
    refine y_lkup (off := 63) hg 72 dX0_readPart_9 (by decide) (show Op.lookupswitch.offset [(43, 48), (46, 58), (94, 53), (119, 43)] 63 _ = 63 by rw [nI_toInt (by omega)]; simp only [Op.lookupswitch.offset]; rw [if_neg (by omega), if_neg (by omega), if_neg (by omega), if_neg (by omega)]) (by decide) ?_
    refine y_aload_n hg dX0_readPart_72 rfl ?_
    refine y_getr (j := 16) hg cf0 (hL.x) (by decide) rfl (hL.r_text) q188 dX0_readPart_73 ?_
    refine y_aload_n hg dX0_readPart_76 rfl ?_
    refine y_geti (j := 18) hg cf0 (hL.x) (by decide) rfl q190 dX0_readPart_77 ?_
    refine y_ti (hd.1) ?_
    refine y_iald hg _ (hL.k_text) rfl (by omega) dX0_readPart_80 ?_
    refine y_ti (htx) ?_
    refine y_bipush (v := nI 58) hg dX0_readPart_81 rfl ?_
    refine y_icmp_ne hg 97 dX0_readPart_83 (by decide) (fun hT => absurd hT (fun z => z rfl)) (fun _ => ?_)
    refine y_aload_n hg dX0_readPart_86 rfl ?_
    refine y_cVi hg (cX_readPair hW hw0 hS hd (by omega)) iX0_readPair q351 (hL.x) cf0 rfl rfl (by simp [Value.category]) (Nat.le_refl _) (Nat.le_refl _) (by decide) dX0_readPart_87 (fun r σ1 hp => ?_)
    obtain ⟨rfl, h1, h2, h3⟩ := hp
    rw [← hP'] at h2 h3 ⊢
    refine y_if_eq hg 97 dX0_readPart_90 (by decide) (fun hc => ?_) (fun hc => ?_)
    · have hb := b2F hc
      refine y_iconst (v := nI 0) hg dX0_readPart_97 rfl ?_
      refine y_zret hg hr rfl ⟨_, rfl, ?_⟩ dX0_readPart_98 (Nat.le_refl _) (Nat.le_refl _)
      exact ⟨(b2_f (by cases z : P.1 with | false => rfl | true => exact absurd z hb)).symm, h1, h2, h3⟩
    · have hb := b2T hc
      refine y_iconst (v := nI 1) hg dX0_readPart_93 rfl ?_
      refine y_goto hg 98 dX0_readPart_94 (by decide) ?_
      refine y_zret hg hr rfl ⟨_, rfl, ?_⟩ dX0_readPart_98 (Nat.le_refl _) (Nat.le_refl _)
      exact ⟨(b2_t hb).symm, h1, h2, h3⟩
  · rw [xP_o ⟨t1, t2, t3, t4, t5⟩]
    refine MT.of (by decide) (Nat.le_of_ble_eq_true rfl) (fun g hg hr => ?_)
    refine y_aload_n hg dX0_readPart_0 rfl ?_
    refine y_getr (j := 16) hg cf0 (hL.x) (by decide) rfl (hL.r_text) q188 dX0_readPart_1 ?_
    refine y_aload_n hg dX0_readPart_4 rfl ?_
    refine y_geti (j := 18) hg cf0 (hL.x) (by decide) rfl q190 dX0_readPart_5 ?_
    refine y_ti (hd.1) ?_
    refine y_iald hg _ (hL.k_text) rfl (by omega) dX0_readPart_8 ?_
    refine y_ti (htx) ?_
    refine y_lkup (off := 63) hg 72 dX0_readPart_9 (by decide) (show Op.lookupswitch.offset [(43, 48), (46, 58), (94, 53), (119, 43)] 63 _ = 63 by rw [nI_toInt (by omega)]; simp only [Op.lookupswitch.offset]; rw [if_neg (by omega), if_neg (by omega), if_neg (by omega), if_neg (by omega)]) (by decide) ?_
    refine y_aload_n hg dX0_readPart_72 rfl ?_
    refine y_getr (j := 16) hg cf0 (hL.x) (by decide) rfl (hL.r_text) q188 dX0_readPart_73 ?_
    refine y_aload_n hg dX0_readPart_76 rfl ?_
    refine y_geti (j := 18) hg cf0 (hL.x) (by decide) rfl q190 dX0_readPart_77 ?_
    refine y_ti (hd.1) ?_
    refine y_iald hg _ (hL.k_text) rfl (by omega) dX0_readPart_80 ?_
    refine y_ti (htx) ?_
    refine y_bipush (v := nI 58) hg dX0_readPart_81 rfl ?_
    refine y_icmp_ne hg 97 dX0_readPart_83 (by decide) (fun _ => ?_) (fun hF => absurd hF (fun z => t5 (nI_inj (by omega) (by omega) z)))
    refine y_iconst (v := nI 0) hg dX0_readPart_97 rfl ?_
    refine y_zret hg hr rfl ⟨_, rfl, ?_⟩ dX0_readPart_98 (Nat.le_refl _) (Nat.le_refl _)
    exact ⟨rfl, hw0, hd.1, fun z => absurd z Bool.false_ne_true⟩
end PartX

