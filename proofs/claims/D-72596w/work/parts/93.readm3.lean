section ReadM3
theorem nk9 {k : Nat} (h : k < 200) : ¬ nI k = -9 := (by decide +kernel : ∀ k, k < 200 → ¬ nI k = -9) k h
variable {ll : Launch} {B : Bs} {σ : Mem} {A : Ab} {sd : Int64}
/-- what a letter inside a part comes to -/
abbrev pIn (σ : Mem) (p pl fi n : Nat) (S : Ab) (t : Nat) : Option Value → Mem → Prop := pI fun r σ' => r = b2 (mIn p pl fi n S t).1 ∧ FrR MS σ σ' ∧ ((mIn p pl fi n S t).1 = true → MR σ' p (mIn p pl fi n S t).2.1 (mIn p pl fi n S t).2.2.1 (mIn p pl fi n S t).2.2.2.1 (mIn p pl fi n S t).2.2.2.2)
theorem cM_takeOfBag (hM : LM B σ) {fi n t : Nat} {S : Ab} (hr0 : MR σ 43 1 fi n S) (ht : t < 256) : MT ll B 1 0 0 yX3_takeOfBag cX3_takeOfBag 2 (some .boolean) [.ref (B.1 + 157), .int (nI t)] σ (pIn σ 43 1 fi n S t) := by
  have hn := hM.n
  obtain ⟨m1, m2, m3, m4, m5, m6, m7, m8⟩ := MSin
  have h175 := hr0.2.2.2.2.1
  have em : mIn 43 1 fi n S t = (decide (97 ≤ t ∧ t < 105), 0, fi, n, up2 S 11 (t - 97) (S 11 (t - 97) + nI 1)) := by unfold mIn; rw [if_neg (by decide), if_pos rfl]
  unfold pIn
  rw [em]
  refine MT.of (by decide) (Nat.le_of_ble_eq_true rfl) (fun g hg hr => ?_)
  refine y_iload_n hg dX3_takeOfBag_0 rfl ?_
  refine y_i2l hg dX3_takeOfBag_1 ?_
  refine y_ldc2 hg dX3_takeOfBag_2 q1084 ?_
  refine y_ldc2 hg dX3_takeOfBag_5 q1085 ?_
  refine y_cSi hg (cM_in _ _ _) iX3_in q1052 rfl rfl (by simp [Value.category]) (Nat.le_refl _) (Nat.le_refl _) (by decide) dX3_takeOfBag_8 (fun r σ1 hp => ?_)
  obtain ⟨rfl, rfl⟩ := hp
  rw [in97 t ht]
  refine y_if_ne hg 16 dX3_takeOfBag_11 (by decide) (fun hc => ?_) (fun hc => ?_)
  · have hk : 97 ≤ t ∧ t < 105 := of_decide_eq_true (b2T hc)
    refine y_aload_n hg dX3_takeOfBag_16 rfl ?_
    refine y_getr (j := 25) hg cf3 (hM.m) (by decide) rfl (hM.r_readRow) q936 dX3_takeOfBag_17 ?_
    refine y_iload_n hg dX3_takeOfBag_20 rfl ?_
    refine y_bipush (v := nI 97) hg dX3_takeOfBag_21 rfl ?_
    refine y_isub hg dX3_takeOfBag_23 ?_
    refine y_ti (pk_sub (by omega)) ?_
    refine y_dup2 hg dX3_takeOfBag_24 rfl rfl ?_
    refine y_iald hg _ (hM.k_readRow) rfl (by omega) dX3_takeOfBag_25 ?_
    refine y_ti (h175 _ (by omega)) ?_
    refine y_iconst (v := nI 1) hg dX3_takeOfBag_26 rfl ?_
    refine y_iadd hg dX3_takeOfBag_27 ?_
    refine y_iast hg _ (hM.k_readRow) rfl (by omega) dX3_takeOfBag_28 ?_
    refine y_aload_n hg dX3_takeOfBag_29 rfl ?_
    refine y_iconst (v := nI 0) hg dX3_takeOfBag_30 rfl ?_
    refine y_puti (j := 27) hg cf3 (hM.m) (by decide) rfl rfl q938 dX3_takeOfBag_31 ?_
    refine y_iconst (v := nI 1) hg dX3_takeOfBag_34 rfl ?_
    refine y_zret hg hr rfl ⟨_, rfl, ?_⟩ dX3_takeOfBag_35 (Nat.le_refl _) (Nat.le_refl _)
    exact ⟨by rw [decide_eq_true hk]; rfl, ((FrR.rf).stI (m5 _)).stI m2, fun _ => hr0.row hn⟩
  · have hk := b2F hc
    refine y_iconst (v := nI 0) hg dX3_takeOfBag_14 rfl ?_
    refine y_zret hg hr rfl ⟨_, rfl, ?_⟩ dX3_takeOfBag_15 (Nat.le_refl _) (Nat.le_refl _)
    exact ⟨by rw [decide_eq_false (fun z => hk (decide_eq_true z))]; rfl, FrR.rf, fun z => absurd z hk⟩
theorem cM_takeOfPair (hM : LM B σ) {pl fi n t : Nat} {S : Ab} (hm : WFm 58 pl fi n S) (hpl : 1 ≤ pl) (hr0 : MR σ 58 pl fi n S) (ht : t < 256) : MT ll B 3 0 0 yX3_takeOfPair cX3_takeOfPair 3 (some .boolean) [.ref (B.1 + 157), .int (nI t)] σ (pIn σ 58 pl fi n S t) := by
  have hn := hM.n
  obtain ⟨m1, m2, m3, m4, m5, m6, m7, m8⟩ := MSin
  obtain ⟨h1, h2, h3, h4, h175, h6, h7⟩ := id hr0
  have h2le := hm.2.1
  have hf : pl = 2 → fi < 4 := by
    rcases hm.2.2 hpl with ⟨z, -⟩ | ⟨z, -⟩ | ⟨z, -⟩ | ⟨z, -⟩ | ⟨-, z⟩
    · exact absurd z (by decide)
    · exact absurd z (by decide)
    · exact absurd z (by decide)
    · exact absurd z (by decide)
    · exact z
  unfold pIn
  by_cases e2 : pl = 2
  · have hf4 := hf e2
    have em : mIn 58 pl fi n S t = (kOK S (21 + fi) t, 0, fi, n, kSt S (21 + fi) t) := by unfold mIn; rw [if_neg (by decide), if_neg (by decide), if_neg (by decide), if_neg (by decide), if_pos e2]
    rw [em]
    refine MT.of (by decide) (Nat.le_of_ble_eq_true rfl) (fun g hg hr => ?_)
    refine y_iload_n hg dX3_takeOfPair_0 rfl ?_
    refine y_bipush (v := nI 65) hg dX3_takeOfPair_1 rfl ?_
    refine y_isub hg dX3_takeOfPair_3 ?_
    refine y_istore_n hg dX3_takeOfPair_4 (by decide) (lv1 := [(0, _), (1, _), (2, _)]) rfl ?_
    refine y_aload_n hg dX3_takeOfPair_5 rfl ?_
    refine y_geti (j := 27) hg cf3 (hM.m) (by decide) rfl q938 dX3_takeOfPair_6 ?_
    refine y_ti (h2) ?_
    refine y_iconst (v := nI 2) hg dX3_takeOfPair_9 rfl ?_
    refine y_icmp_ne hg 26 dX3_takeOfPair_10 (by decide) (fun hT => absurd hT (fun z => z (by rw [e2]))) (fun _ => ?_)
    refine y_aload_n hg dX3_takeOfPair_13 rfl ?_
    refine y_iload_n hg dX3_takeOfPair_14 rfl ?_
    refine y_bipush (v := nI 21) hg dX3_takeOfPair_15 rfl ?_
    refine y_aload_n hg dX3_takeOfPair_17 rfl ?_
    refine y_geti (j := 28) hg cf3 (hM.m) (by decide) rfl q939 dX3_takeOfPair_18 ?_
    refine y_ti (h4 e2 rfl) ?_
    refine y_iadd hg dX3_takeOfPair_21 ?_
    refine y_ti (nI_add _ _) ?_
    refine y_cVi hg (cM_takeKind (S := S) hM h175 (by omega) ht) iX3_takeKind q1092 (hM.m) cf3 rfl rfl (by simp [Value.category]) (Nat.le_refl _) (Nat.le_refl _) (by decide) dX3_takeOfPair_22 (fun r σ1 hp => ?_)
    obtain ⟨rfl, hf1, hs1⟩ := hp
    refine y_zret hg hr (nz_b2 _) ⟨_, rfl, ?_⟩ dX3_takeOfPair_25 (Nat.le_refl _) (Nat.le_refl _)
    exact ⟨rfl, hf1, fun z => by rw [hs1 z]; exact hr0.row hn⟩
  · have e1 : pl = 1 := by omega
    have em : mIn 58 pl fi n S t = (decide ((65 ≤ t ∧ t < 69) ∧ ¬ S 11 (21 + (t - 65)) = nI 15), 2, t - 65, n, S) := by unfold mIn; rw [if_neg (by decide), if_neg (by decide), if_neg (by decide), if_neg (by decide), if_neg e2]
    rw [em]
    refine MT.of (by decide) (Nat.le_of_ble_eq_true rfl) (fun g hg hr => ?_)
    refine y_iload_n hg dX3_takeOfPair_0 rfl ?_
    refine y_bipush (v := nI 65) hg dX3_takeOfPair_1 rfl ?_
    refine y_isub hg dX3_takeOfPair_3 ?_
    refine y_istore_n hg dX3_takeOfPair_4 (by decide) (lv1 := [(0, _), (1, _), (2, _)]) rfl ?_
    refine y_aload_n hg dX3_takeOfPair_5 rfl ?_
    refine y_geti (j := 27) hg cf3 (hM.m) (by decide) rfl q938 dX3_takeOfPair_6 ?_
    refine y_ti (h2) ?_
    refine y_iconst (v := nI 2) hg dX3_takeOfPair_9 rfl ?_
    refine y_icmp_ne hg 26 dX3_takeOfPair_10 (by decide) (fun _ => ?_) (fun hF => absurd hF (fun z => by have := nI_inj (by omega) (by omega) z; omega))
    refine y_aload_n hg dX3_takeOfPair_26 rfl ?_
    refine y_iload_n hg dX3_takeOfPair_27 rfl ?_
    refine y_puti (j := 28) hg cf3 (hM.m) (by decide) rfl rfl q939 dX3_takeOfPair_28 ?_
    refine y_aload_n hg dX3_takeOfPair_31 rfl ?_
    refine y_iconst (v := nI 2) hg dX3_takeOfPair_32 rfl ?_
    refine y_puti (j := 27) hg cf3 (hM.m) (by decide) rfl rfl q938 dX3_takeOfPair_33 ?_
    have f1 : FrR MS σ (setI (setI σ 157 28 (nI t - nI 65)) 157 27 (nI 2)) := ((FrR.rf).stI m4).stI m2
    have hM1 : LM B (setI (setI σ 157 28 (nI t - nI 65)) 157 27 (nI 2)) := hM
    have k175 : ∀ j, j < 25 → (setI (setI σ 157 28 (nI t - nI 65)) 157 27 (nI 2)).2.2.1 175 j = S 11 j := fun j hj => (gI_n (by omega)).trans ((gI_n (by omega)).trans (h175 j hj))
    have hs : 65 ≤ t → MR (setI (setI σ 157 28 (nI t - nI 65)) 157 27 (nI 2)) 58 2 (t - 65) n S := fun h65 => by
      refine ⟨(gI_n (by omega)).trans ((gI_n (by omega)).trans h1), gI_s, fun _ => (gI_n (by omega)).trans ((gI_n (by omega)).trans (h3 hpl)), fun _ _ => (gI_n (by omega)).trans (gI_s.trans (pk_sub h65)), k175, fun w hw => ?_, fun w hw => ?_⟩
      · have hw : w < n := by rcases hw with hw | hw <;> omega
        obtain ⟨a, b⟩ := h6 w (Or.inl hw)
        exact ⟨(gI_n (by omega)).trans ((gI_n (by omega)).trans a), fun k hk => (gI_n (by omega)).trans ((gI_n (by omega)).trans (b k hk))⟩
      · have hw : w < n := by rcases hw with hw | hw <;> omega
        exact (gI_n (by omega)).trans ((gI_n (by omega)).trans (h7 w (Or.inl hw)))
    generalize setI (setI σ 157 28 (nI t - nI 65)) 157 27 (nI 2) = σ1 at f1 hM1 k175 hs ⊢
    have hM := hM1
    refine y_iload_n hg dX3_takeOfPair_36 rfl ?_
    refine y_cSi hg (cM_isKind _) iX3_isKind q1096 rfl rfl (by simp [Value.category]) (Nat.le_refl _) (Nat.le_refl _) (by decide) dX3_takeOfPair_37 (fun r σ2 hp => ?_)
    obtain ⟨rfl, rfl⟩ := hp
    rw [isK65 t ht]
    refine y_if_eq hg 61 dX3_takeOfPair_40 (by decide) (fun hc => ?_) (fun hc => ?_)
    · have h0 := b2F hc
      refine y_iconst (v := nI 0) hg dX3_takeOfPair_61 rfl ?_
      refine y_zret hg hr rfl ⟨_, rfl, ?_⟩ dX3_takeOfPair_62 (Nat.le_refl _) (Nat.le_refl _)
      exact ⟨by rw [decide_eq_false (fun z => h0 (decide_eq_true z.1))]; rfl, f1, fun z => absurd (decide_eq_true (of_decide_eq_true z).1) h0⟩
    · have hk : 65 ≤ t ∧ t < 69 := of_decide_eq_true (b2T hc)
      rw [show nI t - nI 65 = nI (t - 65) from pk_sub (by omega)]
      refine y_aload_n hg dX3_takeOfPair_43 rfl ?_
      refine y_getr (j := 25) hg cf3 (hM.m) (by decide) rfl (hM.r_readRow) q936 dX3_takeOfPair_44 ?_
      refine y_bipush (v := nI 21) hg dX3_takeOfPair_47 rfl ?_
      refine y_iload_n hg dX3_takeOfPair_49 rfl ?_
      refine y_iadd hg dX3_takeOfPair_50 ?_
      refine y_ti (nI_add _ _) ?_
      refine y_iald hg _ (hM.k_readRow) rfl (by omega) dX3_takeOfPair_51 ?_
      refine y_ti (k175 _ (by omega)) ?_
      refine y_bipush (v := nI 15) hg dX3_takeOfPair_52 rfl ?_
      refine y_icmp_eq hg 61 dX3_takeOfPair_54 (by decide) (fun hc2 => ?_) (fun hc2 => ?_)
      · skip
        refine y_iconst (v := nI 0) hg dX3_takeOfPair_61 rfl ?_
        refine y_zret hg hr rfl ⟨_, rfl, ?_⟩ dX3_takeOfPair_62 (Nat.le_refl _) (Nat.le_refl _)
        exact ⟨by rw [decide_eq_false (fun z => z.2 hc2)]; rfl, f1, fun z => absurd hc2 (of_decide_eq_true z).2⟩
      · skip
        refine y_iconst (v := nI 1) hg dX3_takeOfPair_57 rfl ?_
        refine y_goto hg 62 dX3_takeOfPair_58 (by decide) ?_
        refine y_zret hg hr rfl ⟨_, rfl, ?_⟩ dX3_takeOfPair_62 (Nat.le_refl _) (Nat.le_refl _)
        exact ⟨by rw [decide_eq_true ⟨hk, hc2⟩]; rfl, f1, fun _ => hs hk.1⟩
theorem cM_takeOfWord (hM : LM B σ) {pl fi n t : Nat} {S : Ab} (hm : WFm 119 pl fi n S) (hpl : 1 ≤ pl) (hr0 : MR σ 119 pl fi n S) (ht : t < 256) : MT ll B 1 0 0 yX3_takeOfWord cX3_takeOfWord 3 (some .boolean) [.ref (B.1 + 157), .int (nI t)] σ (pIn σ 119 pl fi n S t) := by
  have hn := hM.n
  obtain ⟨m1, m2, m3, m4, m5, m6, m7, m8⟩ := MSin
  obtain ⟨h1, h2, h3, h4, h175, h6, h7⟩ := id hr0
  have h2le := hm.2.1
  have hWd : WdP S n pl := by
    rcases hm.2.2 hpl with ⟨-, z⟩ | ⟨z, -⟩ | ⟨z, -⟩ | ⟨z, -⟩ | ⟨z, -⟩
    · exact z
    · exact absurd z (by decide)
    · exact absurd z (by decide)
    · exact absurd z (by decide)
    · exact absurd z (by decide)
  obtain ⟨hn10, k1, k2, k3, k4⟩ := hWd
  obtain ⟨g1, g2⟩ := h6 n (Or.inr ⟨rfl, hpl, rfl⟩)
  unfold pIn
  by_cases e2 : pl = 2
  · have em : mIn 119 pl fi n S t = (decide (48 ≤ t ∧ t < 58), 0, fi, n + 1, up2 S 11 (9 + n) (nI (t - 48))) := by unfold mIn; rw [if_pos rfl, if_pos e2]
    rw [em]
    refine MT.of (by decide) (Nat.le_of_ble_eq_true rfl) (fun g hg hr => ?_)
    refine y_aload_n hg dX3_takeOfWord_0 rfl ?_
    refine y_geti (j := 21) hg cf3 (hM.m) (by decide) rfl q932 dX3_takeOfWord_1 ?_
    refine y_ti (h1) ?_
    refine y_istore_n hg dX3_takeOfWord_4 (by decide) (lv1 := [(0, _), (1, _), (2, _)]) rfl ?_
    refine y_aload_n hg dX3_takeOfWord_5 rfl ?_
    refine y_geti (j := 27) hg cf3 (hM.m) (by decide) rfl q938 dX3_takeOfWord_6 ?_
    refine y_ti (h2) ?_
    refine y_iconst (v := nI 2) hg dX3_takeOfWord_9 rfl ?_
    refine y_icmp_ne hg 53 dX3_takeOfWord_10 (by decide) (fun hT => absurd hT (fun z => z (by rw [e2]))) (fun _ => ?_)
    refine y_aload_n hg dX3_takeOfWord_13 rfl ?_
    refine y_getr (j := 25) hg cf3 (hM.m) (by decide) rfl (hM.r_readRow) q936 dX3_takeOfWord_14 ?_
    refine y_bipush (v := nI 9) hg dX3_takeOfWord_17 rfl ?_
    refine y_iload_n hg dX3_takeOfWord_19 rfl ?_
    refine y_iadd hg dX3_takeOfWord_20 ?_
    refine y_ti (nI_add _ _) ?_
    refine y_iload_n hg dX3_takeOfWord_21 rfl ?_
    refine y_bipush (v := nI 48) hg dX3_takeOfWord_22 rfl ?_
    refine y_isub hg dX3_takeOfWord_24 ?_
    refine y_iast hg _ (hM.k_readRow) rfl (by omega) dX3_takeOfWord_25 ?_
    refine y_aload_n hg dX3_takeOfWord_26 rfl ?_
    refine y_dup hg dX3_takeOfWord_27 rfl ?_
    refine y_geti (j := 21) hg cf3 (hM.m) (by decide) rfl q932 dX3_takeOfWord_28 ?_
    refine y_ti ((gI_n (by omega)).trans h1) ?_
    refine y_iconst (v := nI 1) hg dX3_takeOfWord_31 rfl ?_
    refine y_iadd hg dX3_takeOfWord_32 ?_
    refine y_ti (nI_add _ _) ?_
    refine y_puti (j := 21) hg cf3 (hM.m) (by decide) rfl rfl q932 dX3_takeOfWord_33 ?_
    refine y_aload_n hg dX3_takeOfWord_36 rfl ?_
    refine y_iconst (v := nI 0) hg dX3_takeOfWord_37 rfl ?_
    refine y_puti (j := 27) hg cf3 (hM.m) (by decide) rfl rfl q938 dX3_takeOfWord_38 ?_
    have f1 : FrR MS σ (setI (setI (setI σ 175 (9 + n) (nI t - nI 48)) 157 21 (nI (n + 1))) 157 27 (nI 0)) := (((FrR.rf).stI (m5 _)).stI m3).stI m2
    have hs : 48 ≤ t → MR (setI (setI (setI σ 175 (9 + n) (nI t - nI 48)) 157 21 (nI (n + 1))) 157 27 (nI 0)) 119 0 fi (n + 1) (up2 S 11 (9 + n) (nI (t - 48))) := fun h48 => by
      refine ⟨(gI_n (by omega)).trans gI_s, gI_s, fun z => by omega, fun z => by omega, fun i hi => ?_, fun w hw => ?_, fun w hw => ?_⟩
      · rw [gI_n (by omega), gI_n (by omega)]
        by_cases e : i = 9 + n
        · subst e; rw [gI_s, up2_s]; exact pk_sub h48
        · rw [gI_n (by omega), up2_n (by omega)]; exact h175 i hi
      · have hw : w < n + 1 := by rcases hw with hw | hw <;> omega
        obtain ⟨a, b⟩ := h6 w (by omega)
        exact ⟨(gI_n (by omega)).trans ((gI_n (by omega)).trans ((gI_n (by omega)).trans a)), fun k hk => (gI_n (by omega)).trans ((gI_n (by omega)).trans ((gI_n (by omega)).trans (b k hk)))⟩
      · have hw : w < n + 1 := by rcases hw with hw | hw <;> omega
        exact (gI_n (by omega)).trans ((gI_n (by omega)).trans ((gI_n (by omega)).trans (h7 w (by omega))))
    generalize setI (setI (setI σ 175 (9 + n) (nI t - nI 48)) 157 21 (nI (n + 1))) 157 27 (nI 0) = σ1 at f1 hs ⊢
    refine y_iload_n hg dX3_takeOfWord_41 rfl ?_
    refine y_i2l hg dX3_takeOfWord_42 ?_
    refine y_ldc2 hg dX3_takeOfWord_43 q1082 ?_
    refine y_ldc2 hg dX3_takeOfWord_46 q1083 ?_
    refine y_cSi hg (cM_in _ _ _) iX3_in q1052 rfl rfl (by simp [Value.category]) (Nat.le_refl _) (Nat.le_refl _) (by decide) dX3_takeOfWord_49 (fun r σ2 hp => ?_)
    obtain ⟨rfl, rfl⟩ := hp
    rw [in48 t ht]
    refine y_zret hg hr (nz_b2 _) ⟨_, rfl, ?_⟩ dX3_takeOfWord_52 (Nat.le_refl _) (Nat.le_refl _)
    exact ⟨rfl, f1, fun z => hs (of_decide_eq_true z).1⟩
  · have e1 : pl = 1 := by omega
    by_cases e3 : (97 ≤ t ∧ t < 105) ∧ sz S n < 6
    · have em : mIn 119 pl fi n S t = (true, 1, fi, n, adL S n t) := by unfold mIn; rw [if_pos rfl, if_neg e2, if_pos e3]
      rw [em]
      refine MT.of (by decide) (Nat.le_of_ble_eq_true rfl) (fun g hg hr => ?_)
      refine y_aload_n hg dX3_takeOfWord_0 rfl ?_
      refine y_geti (j := 21) hg cf3 (hM.m) (by decide) rfl q932 dX3_takeOfWord_1 ?_
      refine y_ti (h1) ?_
      refine y_istore_n hg dX3_takeOfWord_4 (by decide) (lv1 := [(0, _), (1, _), (2, _)]) rfl ?_
      refine y_aload_n hg dX3_takeOfWord_5 rfl ?_
      refine y_geti (j := 27) hg cf3 (hM.m) (by decide) rfl q938 dX3_takeOfWord_6 ?_
      refine y_ti (h2) ?_
      refine y_iconst (v := nI 2) hg dX3_takeOfWord_9 rfl ?_
      refine y_icmp_ne hg 53 dX3_takeOfWord_10 (by decide) (fun _ => ?_) (fun hF => absurd hF (fun z => by have := nI_inj (by omega) (by omega) z; omega))
      refine y_iload_n hg dX3_takeOfWord_53 rfl ?_
      refine y_i2l hg dX3_takeOfWord_54 ?_
      refine y_ldc2 hg dX3_takeOfWord_55 q1084 ?_
      refine y_ldc2 hg dX3_takeOfWord_58 q1085 ?_
      refine y_cSi hg (cM_in _ _ _) iX3_in q1052 rfl rfl (by simp [Value.category]) (Nat.le_refl _) (Nat.le_refl _) (by decide) dX3_takeOfWord_61 (fun r σ1 hp => ?_)
      obtain ⟨rfl, rfl⟩ := hp
      rw [in97 t ht]
      refine y_if_eq hg 110 dX3_takeOfWord_64 (by decide) (fun hT => absurd hT (fun z => b2F z (decide_eq_true e3.1))) (fun _ => ?_)
      refine y_aload_n hg dX3_takeOfWord_67 rfl ?_
      refine y_getr (j := 23) hg cf3 (hM.m) (by decide) rfl (hM.r_readSize) q934 dX3_takeOfWord_68 ?_
      refine y_iload_n hg dX3_takeOfWord_71 rfl ?_
      refine y_iald hg _ (hM.k_readSize) rfl (by omega) dX3_takeOfWord_72 ?_
      refine y_ti (g1.trans k1) ?_
      refine y_bipush (v := nI 6) hg dX3_takeOfWord_73 rfl ?_
      refine y_icmp_ge hg 110 dX3_takeOfWord_75 (by decide) (fun hT => absurd hT (nI_ge (by omega) (by omega))) (fun _ => ?_)
      refine y_aload_n hg dX3_takeOfWord_78 rfl ?_
      refine y_getr (j := 22) hg cf3 (hM.m) (by decide) rfl (hM.r_readSpelt) q933 dX3_takeOfWord_79 ?_
      refine y_bipush (v := nI 6) hg dX3_takeOfWord_82 rfl ?_
      refine y_iload_n hg dX3_takeOfWord_84 rfl ?_
      refine y_imul hg dX3_takeOfWord_85 ?_
      refine y_ti (pk_mul _ _) ?_
      refine y_aload_n hg dX3_takeOfWord_86 rfl ?_
      refine y_getr (j := 23) hg cf3 (hM.m) (by decide) rfl (hM.r_readSize) q934 dX3_takeOfWord_87 ?_
      refine y_iload_n hg dX3_takeOfWord_90 rfl ?_
      refine y_iald hg _ (hM.k_readSize) rfl (by omega) dX3_takeOfWord_91 ?_
      refine y_ti (g1.trans k1) ?_
      refine y_iadd hg dX3_takeOfWord_92 ?_
      refine y_ti (nI_add _ _) ?_
      refine y_iload_n hg dX3_takeOfWord_93 rfl ?_
      refine y_bipush (v := nI 97) hg dX3_takeOfWord_94 rfl ?_
      refine y_isub hg dX3_takeOfWord_96 ?_
      refine y_ti (pk_sub (by omega)) ?_
      refine y_iast hg _ (hM.k_readSpelt) rfl (by omega) dX3_takeOfWord_97 ?_
      refine y_aload_n hg dX3_takeOfWord_98 rfl ?_
      refine y_getr (j := 23) hg cf3 (hM.m) (by decide) rfl (hM.r_readSize) q934 dX3_takeOfWord_99 ?_
      refine y_iload_n hg dX3_takeOfWord_102 rfl ?_
      refine y_dup2 hg dX3_takeOfWord_103 rfl rfl ?_
      refine y_iald hg _ (hM.k_readSize) rfl (by omega) dX3_takeOfWord_104 ?_
      refine y_ti ((gI_n (by omega)).trans (g1.trans k1)) ?_
      refine y_iconst (v := nI 1) hg dX3_takeOfWord_105 rfl ?_
      refine y_iadd hg dX3_takeOfWord_106 ?_
      refine y_ti (nI_add _ _) ?_
      refine y_iast hg _ (hM.k_readSize) rfl (by omega) dX3_takeOfWord_107 ?_
      refine y_iconst (v := nI 1) hg dX3_takeOfWord_108 rfl ?_
      refine y_zret hg hr rfl ⟨_, rfl, ?_⟩ dX3_takeOfWord_109 (Nat.le_refl _) (Nat.le_refl _)
      have es := adL_sz (t := t) e3.2
      have h5x : ∀ i, i ≠ 6 * n + sz S n → adL S n t 5 i = S 5 i := fun i hi => by
        unfold adL
        rw [up2_n (by omega), up2_n (by omega)]
      refine ⟨rfl, ((FrR.rf).stI (m7 _)).stI (m6 _), fun _ => ⟨(gI_n (by omega)).trans ((gI_n (by omega)).trans h1), (gI_n (by omega)).trans ((gI_n (by omega)).trans (h2.trans (by rw [e1]))), fun _ => (gI_n (by omega)).trans ((gI_n (by omega)).trans (h3 hpl)), fun z => absurd z (by show ¬ 1 = 2; omega), fun j hj => (gI_n (by omega)).trans ((gI_n (by omega)).trans (h175 j hj)), fun w hw => ?_, fun w hw => ?_⟩⟩
      · have hw : w < n ∨ (w = n ∧ 1 ≤ 1 ∧ 119 = 119) := hw
        by_cases e : w = n
        · subst e
          refine ⟨gI_s.trans (by show nI (sz S w + 1) = adL S w t 2 w; unfold adL; rw [up2_s]), fun k hk => ?_⟩
          have hk : k < sz (adL S w t) w := hk
          rw [gI_n (by omega)]
          show _ = adL S w t 5 (6 * w + k)
          by_cases ek : k = sz S w
          · subst ek
            rw [gI_s]
            unfold adL
            rw [up2_n (by omega), up2_s]
          · rw [gI_n (by omega), h5x _ (by omega)]
            exact g2 k (by omega)
        · obtain ⟨a, b⟩ := h6 w (by omega)
          have e2w : adL S n t 2 w = S 2 w := by unfold adL; rw [up2_n (by omega), up2_n (by omega)]
          refine ⟨(gI_n (by omega)).trans ((gI_n (by omega)).trans (a.trans e2w.symm)), fun k hk => ?_⟩
          have hk : k < sz (adL S n t) w := hk
          rw [sz_c e2w] at hk
          have h6w := (hm.1.2.2 w (by omega)).1.2.2
          rw [gI_n (by omega), gI_n (by omega)]
          show _ = adL S n t 5 (6 * w + k)
          rw [h5x _ (by omega)]
          exact b k hk
      · have hw : w < n ∨ (w = n ∧ 1 = 2 ∧ 119 = 119) := hw
        have e3w : adL S n t 3 w = S 3 w := rfl
        exact (gI_n (by omega)).trans ((gI_n (by omega)).trans ((h7 w (by omega)).trans e3w.symm))
    · have em : mIn 119 pl fi n S t = (decide ((65 ≤ t ∧ t < 69) ∧ 0 < sz S n), 2, fi, n, up2 S 3 n (nI (t - 65))) := by unfold mIn; rw [if_pos rfl, if_neg e2, if_neg e3]
      rw [em]
      refine MT.of (by decide) (Nat.le_of_ble_eq_true rfl) (fun g hg hr => ?_)
      have J : YY g 3 σ 0 0 110 [(0, .ref (B.1 + 157)), (1, .int (nI t)), (2, .int (nI n))] [] := by
        refine y_aload_n hg dX3_takeOfWord_110 rfl ?_
        refine y_getr (j := 24) hg cf3 (hM.m) (by decide) rfl (hM.r_readKind) q935 dX3_takeOfWord_111 ?_
        refine y_iload_n hg dX3_takeOfWord_114 rfl ?_
        refine y_iload_n hg dX3_takeOfWord_115 rfl ?_
        refine y_bipush (v := nI 65) hg dX3_takeOfWord_116 rfl ?_
        refine y_isub hg dX3_takeOfWord_118 ?_
        refine y_iast hg _ (hM.k_readKind) rfl (by omega) dX3_takeOfWord_119 ?_
        refine y_aload_n hg dX3_takeOfWord_120 rfl ?_
        refine y_iconst (v := nI 2) hg dX3_takeOfWord_121 rfl ?_
        refine y_puti (j := 27) hg cf3 (hM.m) (by decide) rfl rfl q938 dX3_takeOfWord_122 ?_
        have f1 : FrR MS σ (setI (setI σ 174 n (nI t - nI 65)) 157 27 (nI 2)) := ((FrR.rf).stI (m8 _)).stI m2
        have hM1 : LM B (setI (setI σ 174 n (nI t - nI 65)) 157 27 (nI 2)) := hM
        have k173 : (setI (setI σ 174 n (nI t - nI 65)) 157 27 (nI 2)).2.2.1 173 n = nI (sz S n) := (gI_n (by omega)).trans ((gI_n (by omega)).trans (g1.trans k1))
        have hs : 65 ≤ t → MR (setI (setI σ 174 n (nI t - nI 65)) 157 27 (nI 2)) 119 2 fi n (up2 S 3 n (nI (t - 65))) := fun h65 => by
          refine ⟨(gI_n (by omega)).trans ((gI_n (by omega)).trans h1), gI_s, fun _ => (gI_n (by omega)).trans ((gI_n (by omega)).trans (h3 hpl)), fun _ z => absurd z (by decide), fun j hj => (gI_n (by omega)).trans ((gI_n (by omega)).trans (h175 j hj)), fun w hw => ?_, fun w hw => ?_⟩
          · obtain ⟨a, b⟩ := h6 w (by omega)
            exact ⟨(gI_n (by omega)).trans ((gI_n (by omega)).trans a), fun k hk => (gI_n (by omega)).trans ((gI_n (by omega)).trans (b k hk))⟩
          · rw [gI_n (by omega)]
            by_cases e : w = n
            · subst e; rw [gI_s, up2_s]; exact pk_sub h65
            · rw [gI_n (by omega), up2_n (by omega)]; exact h7 w (by omega)
        generalize setI (setI σ 174 n (nI t - nI 65)) 157 27 (nI 2) = σ1 at f1 hM1 k173 hs ⊢
        have hM := hM1
        refine y_iload_n hg dX3_takeOfWord_125 rfl ?_
        refine y_i2l hg dX3_takeOfWord_126 ?_
        refine y_ldc2 hg dX3_takeOfWord_127 q1086 ?_
        refine y_ldc2 hg dX3_takeOfWord_130 q1087 ?_
        refine y_cSi hg (cM_in _ _ _) iX3_in q1052 rfl rfl (by simp [Value.category]) (Nat.le_refl _) (Nat.le_refl _) (by decide) dX3_takeOfWord_133 (fun r σ2 hp => ?_)
        obtain ⟨rfl, rfl⟩ := hp
        rw [in65 t ht]
        refine y_if_eq hg 152 dX3_takeOfWord_136 (by decide) (fun hc => ?_) (fun hc => ?_)
        · have h0 := b2F hc
          refine y_iconst (v := nI 0) hg dX3_takeOfWord_152 rfl ?_
          refine y_zret hg hr rfl ⟨_, rfl, ?_⟩ dX3_takeOfWord_153 (Nat.le_refl _) (Nat.le_refl _)
          exact ⟨by rw [decide_eq_false (fun z => h0 (decide_eq_true z.1))]; rfl, f1, fun z => absurd (decide_eq_true (of_decide_eq_true z).1) h0⟩
        · have hk : 65 ≤ t ∧ t < 69 := of_decide_eq_true (b2T hc)
          refine y_aload_n hg dX3_takeOfWord_139 rfl ?_
          refine y_getr (j := 23) hg cf3 (hM.m) (by decide) rfl (hM.r_readSize) q934 dX3_takeOfWord_140 ?_
          refine y_iload_n hg dX3_takeOfWord_143 rfl ?_
          refine y_iald hg _ (hM.k_readSize) rfl (by omega) dX3_takeOfWord_144 ?_
          refine y_ti (k173) ?_
          refine y_if_le hg 152 dX3_takeOfWord_145 (by decide) (fun hc2 => ?_) (fun hc2 => ?_)
          · have h0 : ¬ 0 < sz S n := fun z => nI_nle z (by omega) hc2
            refine y_iconst (v := nI 0) hg dX3_takeOfWord_152 rfl ?_
            refine y_zret hg hr rfl ⟨_, rfl, ?_⟩ dX3_takeOfWord_153 (Nat.le_refl _) (Nat.le_refl _)
            exact ⟨by rw [decide_eq_false (fun z => h0 z.2)]; rfl, f1, fun z => absurd (of_decide_eq_true z).2 h0⟩
          · have h0 : 0 < sz S n := by
              rcases Nat.eq_zero_or_pos (sz S n) with z | z
              · rw [z] at hc2; exact absurd (by decide) hc2
              · exact z
            refine y_iconst (v := nI 1) hg dX3_takeOfWord_148 rfl ?_
            refine y_goto hg 153 dX3_takeOfWord_149 (by decide) ?_
            refine y_zret hg hr rfl ⟨_, rfl, ?_⟩ dX3_takeOfWord_153 (Nat.le_refl _) (Nat.le_refl _)
            exact ⟨by rw [decide_eq_true ⟨hk, h0⟩]; rfl, f1, fun _ => hs hk.1⟩
      refine y_aload_n hg dX3_takeOfWord_0 rfl ?_
      refine y_geti (j := 21) hg cf3 (hM.m) (by decide) rfl q932 dX3_takeOfWord_1 ?_
      refine y_ti (h1) ?_
      refine y_istore_n hg dX3_takeOfWord_4 (by decide) (lv1 := [(0, _), (1, _), (2, _)]) rfl ?_
      refine y_aload_n hg dX3_takeOfWord_5 rfl ?_
      refine y_geti (j := 27) hg cf3 (hM.m) (by decide) rfl q938 dX3_takeOfWord_6 ?_
      refine y_ti (h2) ?_
      refine y_iconst (v := nI 2) hg dX3_takeOfWord_9 rfl ?_
      refine y_icmp_ne hg 53 dX3_takeOfWord_10 (by decide) (fun _ => ?_) (fun hF => absurd hF (fun z => by have := nI_inj (by omega) (by omega) z; omega))
      refine y_iload_n hg dX3_takeOfWord_53 rfl ?_
      refine y_i2l hg dX3_takeOfWord_54 ?_
      refine y_ldc2 hg dX3_takeOfWord_55 q1084 ?_
      refine y_ldc2 hg dX3_takeOfWord_58 q1085 ?_
      refine y_cSi hg (cM_in _ _ _) iX3_in q1052 rfl rfl (by simp [Value.category]) (Nat.le_refl _) (Nat.le_refl _) (by decide) dX3_takeOfWord_61 (fun r σ1 hp => ?_)
      obtain ⟨rfl, rfl⟩ := hp
      rw [in97 t ht]
      refine y_if_eq hg 110 dX3_takeOfWord_64 (by decide) (fun hc => ?_) (fun hc => ?_)
      · exact J
      · have hk : 97 ≤ t ∧ t < 105 := of_decide_eq_true (b2T hc)
        refine y_aload_n hg dX3_takeOfWord_67 rfl ?_
        refine y_getr (j := 23) hg cf3 (hM.m) (by decide) rfl (hM.r_readSize) q934 dX3_takeOfWord_68 ?_
        refine y_iload_n hg dX3_takeOfWord_71 rfl ?_
        refine y_iald hg _ (hM.k_readSize) rfl (by omega) dX3_takeOfWord_72 ?_
        refine y_ti (g1.trans k1) ?_
        refine y_bipush (v := nI 6) hg dX3_takeOfWord_73 rfl ?_
        refine y_icmp_ge hg 110 dX3_takeOfWord_75 (by decide) (fun _ => ?_) (fun hF => absurd (nI_le (by omega) (by omega)) hF)
        exact J
theorem cM_takeIn (hM : LM B σ) {p pl fi n t : Nat} {S : Ab} (hm : WFm p pl fi n S) (hpl : 1 ≤ pl) (hr0 : MR σ p pl fi n S) (ht : t < 256) : MT ll B 4 0 0 yX3_takeIn cX3_takeIn 2 (some .boolean) [.ref (B.1 + 157), .int (nI t)] σ (pIn σ p pl fi n S t) := by
  have hp := hr0.2.2.1 hpl
  have hn := hM.n
  have h175 := hr0.2.2.2.2.1
  refine MT.of (by decide) (Nat.le_of_ble_eq_true rfl) (fun g hg hr => ?_)
  rcases hm.2.2 hpl with ⟨rfl, -⟩ | ⟨rfl, rfl, -⟩ | ⟨rfl, rfl⟩ | ⟨rfl, rfl⟩ | ⟨rfl, -⟩
  · refine y_aload_n hg dX3_takeIn_0 rfl ?_
    refine y_geti (j := 26) hg cf3 (hM.m) (by decide) rfl q937 dX3_takeIn_1 ?_
    refine y_ti (hp) ?_
    refine y_lkup (off := 44) hg 48 dX3_takeIn_4 (by decide) (by decide) (by decide) ?_
    refine y_aload_n hg dX3_takeIn_48 rfl ?_
    refine y_iload_n hg dX3_takeIn_49 rfl ?_
    refine y_cVi hg (cM_takeOfWord hM hm hpl hr0 ht) iX3_takeOfWord q1078 (hM.m) cf3 rfl rfl (by simp [Value.category]) (Nat.le_refl _) (Nat.le_refl _) (by decide) dX3_takeIn_50 (fun r σ1 hp => ?_)
    refine y_zret hg hr (by obtain ⟨rfl, -⟩ := hp; exact nz_b2 _) ⟨_, rfl, ?_⟩ dX3_takeIn_53 (Nat.le_refl _) (Nat.le_refl _)
    exact hp
  · refine y_aload_n hg dX3_takeIn_0 rfl ?_
    refine y_geti (j := 26) hg cf3 (hM.m) (by decide) rfl q937 dX3_takeIn_1 ?_
    refine y_ti (hp) ?_
    refine y_lkup (off := 50) hg 54 dX3_takeIn_4 (by decide) (by decide) (by decide) ?_
    refine y_aload_n hg dX3_takeIn_54 rfl ?_
    refine y_iload_n hg dX3_takeIn_55 rfl ?_
    refine y_cVi hg (cM_takeOfBag hM hr0 ht) iX3_takeOfBag q1088 (hM.m) cf3 rfl rfl (by simp [Value.category]) (Nat.le_refl _) (Nat.le_refl _) (by decide) dX3_takeIn_56 (fun r σ1 hp => ?_)
    refine y_zret hg hr (by obtain ⟨rfl, -⟩ := hp; exact nz_b2 _) ⟨_, rfl, ?_⟩ dX3_takeIn_59 (Nat.le_refl _) (Nat.le_refl _)
    exact hp
  · have em : mIn 94 1 fi n S t = (kOK S 19 t, 0, fi, n, kSt S 19 t) := by unfold mIn; rw [if_neg (by decide), if_neg (by decide), if_pos rfl]
    unfold pIn at hr
    rw [em] at hr
    refine y_aload_n hg dX3_takeIn_0 rfl ?_
    refine y_geti (j := 26) hg cf3 (hM.m) (by decide) rfl q937 dX3_takeIn_1 ?_
    refine y_ti (hp) ?_
    refine y_lkup (off := 56) hg 60 dX3_takeIn_4 (by decide) (by decide) (by decide) ?_
    refine y_aload_n hg dX3_takeIn_60 rfl ?_
    refine y_iload_n hg dX3_takeIn_61 rfl ?_
    refine y_bipush (v := nI 19) hg dX3_takeIn_62 rfl ?_
    refine y_cVi hg (cM_takeKind (S := S) hM h175 (by omega) ht) iX3_takeKind q1092 (hM.m) cf3 rfl rfl (by simp [Value.category]) (Nat.le_refl _) (Nat.le_refl _) (by decide) dX3_takeIn_64 (fun r σ1 hp => ?_)
    obtain ⟨rfl, hf1, hs1⟩ := hp
    refine y_zret hg hr (nz_b2 _) ⟨_, rfl, ?_⟩ dX3_takeIn_67 (Nat.le_refl _) (Nat.le_refl _)
    exact ⟨rfl, hf1, fun z => by rw [hs1 z]; exact hr0.row hn⟩
  · have em : mIn 46 1 fi n S t = (kOK S 20 t, 0, fi, n, kSt S 20 t) := by unfold mIn; rw [if_neg (by decide), if_neg (by decide), if_neg (by decide), if_pos rfl]
    unfold pIn at hr
    rw [em] at hr
    refine y_aload_n hg dX3_takeIn_0 rfl ?_
    refine y_geti (j := 26) hg cf3 (hM.m) (by decide) rfl q937 dX3_takeIn_1 ?_
    refine y_ti (hp) ?_
    refine y_lkup (off := 64) hg 68 dX3_takeIn_4 (by decide) (by decide) (by decide) ?_
    refine y_aload_n hg dX3_takeIn_68 rfl ?_
    refine y_iload_n hg dX3_takeIn_69 rfl ?_
    refine y_bipush (v := nI 20) hg dX3_takeIn_70 rfl ?_
    refine y_cVi hg (cM_takeKind (S := S) hM h175 (by omega) ht) iX3_takeKind q1092 (hM.m) cf3 rfl rfl (by simp [Value.category]) (Nat.le_refl _) (Nat.le_refl _) (by decide) dX3_takeIn_72 (fun r σ1 hp => ?_)
    obtain ⟨rfl, hf1, hs1⟩ := hp
    refine y_zret hg hr (nz_b2 _) ⟨_, rfl, ?_⟩ dX3_takeIn_75 (Nat.le_refl _) (Nat.le_refl _)
    exact ⟨rfl, hf1, fun z => by rw [hs1 z]; exact hr0.row hn⟩
  · have hq : σ.2.2.1 157 26 = nI 58 := hp
    refine y_aload_n hg dX3_takeIn_0 rfl ?_
    refine y_geti (j := 26) hg cf3 (hM.m) (by decide) rfl q937 dX3_takeIn_1 ?_
    refine y_ti (hq) ?_
    refine y_lkup (off := 72) hg 76 dX3_takeIn_4 (by decide) (show Op.lookupswitch.offset [(43, 50), (46, 64), (94, 56), (119, 44)] 72 _ = 72 by rw [nI_toInt (by omega)]; simp only [Op.lookupswitch.offset]; rw [if_neg (by omega), if_neg (by omega), if_neg (by omega), if_neg (by omega)]) (by decide) ?_
    refine y_aload_n hg dX3_takeIn_76 rfl ?_
    refine y_iload_n hg dX3_takeIn_77 rfl ?_
    refine y_cVi hg (cM_takeOfPair hM hm hpl hr0 ht) iX3_takeOfPair q1103 (hM.m) cf3 rfl rfl (by simp [Value.category]) (Nat.le_refl _) (Nat.le_refl _) (by decide) dX3_takeIn_78 (fun r σ1 hp => ?_)
    refine y_zret hg hr (by obtain ⟨rfl, -⟩ := hp; exact nz_b2 _) ⟨_, rfl, ?_⟩ dX3_takeIn_81 (Nat.le_refl _) (Nat.le_refl _)
    exact hp
/-- M's reading at work -/
def WMr (B : Bs) (A : Ab) (sd : Int64) (σ σ' : Mem) : Prop := RMm B A sd σ' ∧ FrR MS σ σ'
theorem WMr.go {σ' σ'' : Mem} (h : WMr B A sd σ σ') (hf : FrR MS σ' σ'') : WMr B A sd σ σ'' := ⟨h.1.scr hf, h.2.tr hf⟩
theorem WMr.fin {σ' : Mem} (h : WMr B A sd σ σ') : RMm B A sd σ' ∧ FrR (fun a _ => 157 ≤ a) σ σ' := ⟨h.1, h.2.mono (fun a j q => by unfold MS at q; omega)⟩
theorem WFr.z : WFr 0 (zA 11) := ⟨fun x _ => rfl, by decide, ⟨0, by decide, rfl⟩, fun w _ => ⟨0, by omega, rfl⟩, ⟨0, by omega, rfl⟩, ⟨0, by omega, rfl⟩, fun k _ => ⟨0, by omega, rfl⟩⟩
theorem WFm.z {p fi : Nat} : WFm p 0 fi 0 zA := ⟨⟨by omega, WFr.z, fun w hw => by omega⟩, by omega, fun z => by omega⟩
def mR0 (A : Ab) : Int32 × Nat × Ab := mRun A (rln A) 0 0 0 0 0 zA
theorem cM_readText (hW : WFA A) (hR : RMm B A sd σ) : MT ll B 6 0 0 yX3_readText cX3_readText 2 (some .int) [.ref (B.1 + 157)] σ (pI fun r σ' => r = (mR0 A).1 ∧ WMr B A sd σ σ' ∧ ((mR0 A).1 = -9 → ∃ p fi, MR σ' p 0 fi (mR0 A).2.1 (mR0 A).2.2 ∧ WFS (mR0 A).2.1 (mR0 A).2.2)) := by
  have hM := hR.1
  have hn := hM.n
  obtain ⟨m1, m2, m3, m4, m5, m6, m7, m8⟩ := MSin
  obtain ⟨hln, hl180⟩ := hW.lenN
  refine MT.of (by decide) (Nat.le_of_ble_eq_true rfl) (fun g hg hr => ?_)
  refine y_aload_n hg dX3_readText_0 rfl ?_
  refine y_iconst (v := nI 0) hg dX3_readText_1 rfl ?_
  refine y_puti (j := 21) hg cf3 (hM.m) (by decide) rfl rfl q932 dX3_readText_2 ?_
  refine y_aload_n hg dX3_readText_5 rfl ?_
  refine y_getr (j := 25) hg cf3 (hM.m) (by decide) rfl (hM.r_readRow) q936 dX3_readText_6 ?_
  have hM1 : LM B (setI σ 157 21 (nI 0)) := hM
  have hM := hM1
  refine y_cSv hg (cM_empty hM.k_readRow (by decide)) iX3_empty q908 rfl rfl (by simp [Value.category]) (Nat.le_refl _) (Nat.le_refl _) (by decide) dX3_readText_9 (fun σ1 hp => ?_)
  obtain ⟨hf1, hv1⟩ := hp
  have hw1 : WMr B A sd σ σ1 := WMr.go (σ := σ) (σ' := σ) ⟨hR, FrR.rf⟩ (((FrR.rf).stI m3).tr (hf1.mono (fun a j q => by rw [q]; exact m5 j)))
  have e21 : σ1.2.2.1 157 21 = nI 0 := (hf1.i (by show 157 < σ.2.1; omega) (by omega)).trans gI_s
  have hM := hw1.1.1
  refine y_aload_n hg dX3_readText_12 rfl ?_
  refine y_iconst (v := nI 0) hg dX3_readText_13 rfl ?_
  refine y_puti (j := 27) hg cf3 (hM.m) (by decide) rfl rfl q938 dX3_readText_14 ?_
  have hw2 : WMr B A sd σ (setI σ1 157 27 (nI 0)) := hw1.go ((FrR.rf).stI m2)
  have hr2 : MR (setI σ1 157 27 (nI 0)) 0 0 0 0 zA := ⟨(gI_n (by omega)).trans e21, gI_s, fun z => by omega, fun z => by omega, fun j hj => (gI_n (by omega)).trans (by rw [hv1 j, if_pos hj]; rfl), fun w hw => by omega, fun w hw => by omega⟩
  generalize setI σ1 157 27 (nI 0) = σ2 at hw2 hr2 ⊢
  refine y_iconst (v := nI 0) hg dX3_readText_17 rfl ?_
  refine y_istore_n hg dX3_readText_18 (by decide) (lv1 := [(0, _), (1, _)]) rfl ?_
  have LOOP : ∀ F k p pl fi n S (s : Mem), k + F = rln A → WMr B A sd σ s → MR s p pl fi n S → WFm p pl fi n S → mRun A F k p pl fi n S = mR0 A → YY g 2 s 0 0 19 [(0, .ref (B.1 + 157)), (1, .int (nI k))] [] := by
    intro F
    induction F with
    | zero =>
      intro k p pl fi n S s hk hws hrs hms hrun
      have hM := hws.1.1
      unfold mRun at hrun
      by_cases e0 : pl = 0
      · rw [if_pos e0] at hrun
        rw [← hrun] at hr
        subst e0
        refine y_iload_n hg dX3_readText_19 rfl ?_
        refine y_aload_n hg dX3_readText_20 rfl ?_
        refine y_geti (j := 1) hg cf3 (hM.m) (by decide) rfl q912 dX3_readText_21 ?_
        refine y_ti (hws.1.len.trans hln) ?_
        refine y_icmp_ge hg 71 dX3_readText_24 (by decide) (fun _ => ?_) (fun hF => absurd (nI_le (by omega) (by omega)) hF)
        refine y_aload_n hg dX3_readText_71 rfl ?_
        refine y_geti (j := 27) hg cf3 (hM.m) (by decide) rfl q938 dX3_readText_72 ?_
        refine y_ti (hrs.2.1) ?_
        refine y_if_ne hg 83 dX3_readText_75 (by decide) (fun hT => absurd hT (fun z => z rfl)) (fun _ => ?_)
        refine y_bipush (v := -9) hg dX3_readText_78 rfl ?_
        refine y_goto hg 87 dX3_readText_80 (by decide) ?_
        refine y_iret hg hr ⟨_, rfl, ?_⟩ dX3_readText_87 (Nat.le_refl _) (Nat.le_refl _)
        exact ⟨rfl, hws, fun _ => ⟨p, fi, hrs, hms.1⟩⟩
      · rw [if_neg e0] at hrun
        rw [← hrun] at hr
        have h2 := hms.2.1
        refine y_iload_n hg dX3_readText_19 rfl ?_
        refine y_aload_n hg dX3_readText_20 rfl ?_
        refine y_geti (j := 1) hg cf3 (hM.m) (by decide) rfl q912 dX3_readText_21 ?_
        refine y_ti (hws.1.len.trans hln) ?_
        refine y_icmp_ge hg 71 dX3_readText_24 (by decide) (fun _ => ?_) (fun hF => absurd (nI_le (by omega) (by omega)) hF)
        refine y_aload_n hg dX3_readText_71 rfl ?_
        refine y_geti (j := 27) hg cf3 (hM.m) (by decide) rfl q938 dX3_readText_72 ?_
        refine y_ti (hrs.2.1) ?_
        refine y_if_ne hg 83 dX3_readText_75 (by decide) (fun _ => ?_) (fun hF => absurd hF (nI_ne0 (by omega) (by omega)))
        refine y_aload_n hg dX3_readText_83 rfl ?_
        refine y_geti (j := 1) hg cf3 (hM.m) (by decide) rfl q912 dX3_readText_84 ?_
        refine y_ti (hws.1.len.trans hln) ?_
        refine y_iret hg hr ⟨_, rfl, ?_⟩ dX3_readText_87 (Nat.le_refl _) (Nat.le_refl _)
        exact ⟨by show nI (rln A) = nI k; rw [show rln A = k by omega], hws, fun z => absurd z (nk9 (by omega))⟩
    | succ F ih =>
      intro k p pl fi n S s hk hws hrs hms hrun
      have hM := hws.1.1
      obtain ⟨htx, ht256⟩ := hW.txN (show k < 180 by omega)
      rw [mRun] at hrun
      have h2 := hms.2.1
      by_cases e0 : pl = 0
      · subst e0
        rw [if_pos rfl] at hrun
        refine y_iload_n hg dX3_readText_19 rfl ?_
        refine y_aload_n hg dX3_readText_20 rfl ?_
        refine y_geti (j := 1) hg cf3 (hM.m) (by decide) rfl q912 dX3_readText_21 ?_
        refine y_ti (hws.1.len.trans hln) ?_
        refine y_icmp_ge hg 71 dX3_readText_24 (by decide) (fun hT => absurd hT (nI_ge (by omega) (by omega))) (fun _ => ?_)
        refine y_aload_n hg dX3_readText_27 rfl ?_
        refine y_geti (j := 27) hg cf3 (hM.m) (by decide) rfl q938 dX3_readText_28 ?_
        refine y_ti (hrs.2.1) ?_
        refine y_if_ne hg 50 dX3_readText_31 (by decide) (fun hT => absurd hT (fun z => z rfl)) (fun _ => ?_)
        refine y_aload_n hg dX3_readText_34 rfl ?_
        refine y_aload_n hg dX3_readText_35 rfl ?_
        refine y_getr (j := 0) hg cf3 (hM.m) (by decide) rfl (hM.r_text) q911 dX3_readText_36 ?_
        refine y_iload_n hg dX3_readText_39 rfl ?_
        refine y_iald hg _ (hM.k_text) rfl (by omega) dX3_readText_40 ?_
        refine y_ti ((hws.1.text (by omega)).trans htx) ?_
        refine y_cVi hg (cM_takeSign hM hms hrs ht256) iX3_takeSign q1067 (hM.m) cf3 rfl rfl (by simp [Value.category]) (Nat.le_refl _) (Nat.le_refl _) (by decide) dX3_readText_41 (fun r s1 hp => ?_)
        obtain ⟨rfl, hf3, hs3⟩ := hp
        refine y_if_eq hg 63 dX3_readText_44 (by decide) (fun hc => ?_) (fun hc => ?_)
        · have h0 := b2F hc
          rw [if_neg h0] at hrun
          rw [← hrun] at hr
          refine y_iload_n hg dX3_readText_63 rfl ?_
          refine y_iret hg hr ⟨_, rfl, ?_⟩ dX3_readText_64 (Nat.le_refl _) (Nat.le_refl _)
          exact ⟨rfl, hws.go hf3, fun z => absurd z (nk9 (by omega))⟩
        · have h0 := b2T hc
          rw [if_pos h0] at hrun
          refine y_goto hg 65 dX3_readText_47 (by decide) ?_
          refine y_iinc hg dX3_readText_65 rfl (inc1 _) (by decide) (lv1 := [(0, _), (1, _)]) rfl ?_
          refine y_goto hg 19 dX3_readText_68 (by decide) ?_
          exact ih _ _ _ _ _ _ _ (by omega) (hws.go hf3) (hs3 h0) (wf_sign hms h0) hrun
      · rw [if_neg e0] at hrun
        refine y_iload_n hg dX3_readText_19 rfl ?_
        refine y_aload_n hg dX3_readText_20 rfl ?_
        refine y_geti (j := 1) hg cf3 (hM.m) (by decide) rfl q912 dX3_readText_21 ?_
        refine y_ti (hws.1.len.trans hln) ?_
        refine y_icmp_ge hg 71 dX3_readText_24 (by decide) (fun hT => absurd hT (nI_ge (by omega) (by omega))) (fun _ => ?_)
        refine y_aload_n hg dX3_readText_27 rfl ?_
        refine y_geti (j := 27) hg cf3 (hM.m) (by decide) rfl q938 dX3_readText_28 ?_
        refine y_ti (hrs.2.1) ?_
        refine y_if_ne hg 50 dX3_readText_31 (by decide) (fun _ => ?_) (fun hF => absurd hF (nI_ne0 (by omega) (by omega)))
        refine y_aload_n hg dX3_readText_50 rfl ?_
        refine y_aload_n hg dX3_readText_51 rfl ?_
        refine y_getr (j := 0) hg cf3 (hM.m) (by decide) rfl (hM.r_text) q911 dX3_readText_52 ?_
        refine y_iload_n hg dX3_readText_55 rfl ?_
        refine y_iald hg _ (hM.k_text) rfl (by omega) dX3_readText_56 ?_
        refine y_ti ((hws.1.text (by omega)).trans htx) ?_
        refine y_cVi hg (cM_takeIn hM hms (by omega) hrs ht256) iX3_takeIn q1074 (hM.m) cf3 rfl rfl (by simp [Value.category]) (Nat.le_refl _) (Nat.le_refl _) (by decide) dX3_readText_57 (fun r s1 hp => ?_)
        obtain ⟨rfl, hf3, hs3⟩ := hp
        refine y_if_ne hg 65 dX3_readText_60 (by decide) (fun hc => ?_) (fun hc => ?_)
        · have h0 := b2T hc
          rw [if_pos h0] at hrun
          refine y_iinc hg dX3_readText_65 rfl (inc1 _) (by decide) (lv1 := [(0, _), (1, _)]) rfl ?_
          refine y_goto hg 19 dX3_readText_68 (by decide) ?_
          exact ih _ _ _ _ _ _ _ (by omega) (hws.go hf3) (hs3 h0) (wf_in hms (by omega) h0) hrun
        · have h0 := b2F hc
          rw [if_neg h0] at hrun
          rw [← hrun] at hr
          refine y_iload_n hg dX3_readText_63 rfl ?_
          refine y_iret hg hr ⟨_, rfl, ?_⟩ dX3_readText_64 (Nat.le_refl _) (Nat.le_refl _)
          exact ⟨rfl, hws.go hf3, fun z => absurd z (nk9 (by omega))⟩
  exact LOOP (rln A) 0 0 0 0 0 zA σ2 (by omega) hw2 hr2 WFm.z rfl
end ReadM3

