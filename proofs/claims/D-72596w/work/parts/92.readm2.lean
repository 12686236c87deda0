section ReadM
variable {ll : Launch} {B : Bs} {σ : Mem} {A : Ab} {sd : Int64}
/-- M's memory while it reads -/
def MR (σ : Mem) (p pl fi n : Nat) (S : Ab) : Prop := σ.2.2.1 157 21 = nI n ∧ σ.2.2.1 157 27 = nI pl ∧ (1 ≤ pl → σ.2.2.1 157 26 = nI p) ∧ (pl = 2 → p = 58 → σ.2.2.1 157 28 = nI fi) ∧ (∀ j, j < 25 → σ.2.2.1 175 j = S 11 j) ∧ (∀ w, (w < n ∨ (w = n ∧ 1 ≤ pl ∧ p = 119)) → σ.2.2.1 173 w = S 2 w ∧ ∀ k, k < sz S w → σ.2.2.1 172 (6 * w + k) = S 5 (6 * w + k)) ∧ (∀ w, (w < n ∨ (w = n ∧ pl = 2 ∧ p = 119)) → σ.2.2.1 174 w = S 3 w)
theorem in48 : ∀ t, t < 256 → inL (nI t).toInt64 48 57 = decide (48 ≤ t ∧ t < 58) := by decide +kernel
theorem in97 : ∀ t, t < 256 → inL (nI t).toInt64 97 104 = decide (97 ≤ t ∧ t < 105) := by decide +kernel
theorem in65 : ∀ t, t < 256 → inL (nI t).toInt64 65 68 = decide (65 ≤ t ∧ t < 69) := by decide +kernel
theorem isK65 : ∀ t, t < 256 → inL (nI t - nI 65).toInt64 0 3 = decide (65 ≤ t ∧ t < 69) := by decide +kernel
/-- a row's place changes and the part is at its end -/
theorem MR.row {p pl fi n j : Nat} {S : Ab} {v : Int32} (h : MR σ p pl fi n S) (hn : 186 < σ.2.1) : MR (setI (setI σ 175 j v) 157 27 (nI 0)) p 0 fi n (up2 S 11 j v) := by
  obtain ⟨h1, h2, h3, h4, h5, h6, h7⟩ := h
  refine ⟨(gI_n (by omega)).trans ((gI_n (by omega)).trans h1), gI_s, fun z => by omega, fun z => by omega, fun i hi => ?_, fun w hw => ?_, fun w hw => ?_⟩
  · rw [gI_n (by omega)]
    by_cases e : i = j
    · subst e; rw [gI_s, up2_s]
    · rw [gI_n (by omega), up2_n (by omega)]; exact h5 i hi
  · have hw : w < n := by rcases hw with hw | hw <;> omega
    obtain ⟨a, b⟩ := h6 w (Or.inl hw)
    exact ⟨(gI_n (by omega)).trans ((gI_n (by omega)).trans a), fun k hk => (gI_n (by omega)).trans ((gI_n (by omega)).trans (b k hk))⟩
  · have hw : w < n := by rcases hw with hw | hw <;> omega
    exact (gI_n (by omega)).trans ((gI_n (by omega)).trans (h7 w (Or.inl hw)))
theorem MR.sign {p fi n t : Nat} {S : Ab} (h : MR σ p 0 fi n S) (ht : t ≠ 119) : MR (setI (setI σ 157 26 (nI t)) 157 27 (nI 1)) t 1 fi n S := by
  obtain ⟨h1, h2, h3, h4, h5, h6, h7⟩ := h
  refine ⟨(gI_n (by omega)).trans ((gI_n (by omega)).trans h1), gI_s, fun z => (gI_n (by omega)).trans gI_s, fun z => by omega, fun i hi => (gI_n (by omega)).trans ((gI_n (by omega)).trans (h5 i hi)), fun w hw => ?_, fun w hw => ?_⟩
  · have hw : w < n := by rcases hw with hw | hw <;> omega
    obtain ⟨a, b⟩ := h6 w (Or.inl hw)
    exact ⟨(gI_n (by omega)).trans ((gI_n (by omega)).trans a), fun k hk => (gI_n (by omega)).trans ((gI_n (by omega)).trans (b k hk))⟩
  · have hw : w < n := by rcases hw with hw | hw <;> omega
    exact (gI_n (by omega)).trans ((gI_n (by omega)).trans (h7 w (Or.inl hw)))
theorem MR.signW {p fi n : Nat} {S : Ab} (h : MR σ p 0 fi n S) : MR (setI (setI (setI σ 157 26 (nI 119)) 157 27 (nI 1)) 173 n (nI 0)) 119 1 fi n (up2 S 2 n (nI 0)) := by
  obtain ⟨h1, h2, h3, h4, h5, h6, h7⟩ := h
  have e0 : sz (up2 S 2 n (nI 0)) n = 0 := by show (up2 S 2 n (nI 0) 2 n).toNatClampNeg = 0; rw [up2_s]; rfl
  refine ⟨(gI_n (by omega)).trans ((gI_n (by omega)).trans ((gI_n (by omega)).trans h1)), (gI_n (by omega)).trans gI_s, fun z => (gI_n (by omega)).trans ((gI_n (by omega)).trans gI_s), fun z => by omega, fun i hi => (gI_n (by omega)).trans ((gI_n (by omega)).trans ((gI_n (by omega)).trans (h5 i hi))), fun w hw => ?_, fun w hw => ?_⟩
  · by_cases e : w = n
    · subst e
      exact ⟨gI_s.trans up2_s.symm, fun k hk => by rw [e0] at hk; omega⟩
    · have hw : w < n := by rcases hw with hw | hw <;> omega
      obtain ⟨a, b⟩ := h6 w (Or.inl hw)
      have es : sz (up2 S 2 n (nI 0)) w = sz S w := sz_c (up2_n (by omega))
      refine ⟨(gI_n (by omega)).trans ((gI_n (by omega)).trans ((gI_n (by omega)).trans (a.trans (up2_n (by omega)).symm))), fun k hk => ?_⟩
      rw [es] at hk
      exact (gI_n (by omega)).trans ((gI_n (by omega)).trans ((gI_n (by omega)).trans (b k hk)))
  · have hw : w < n := by rcases hw with hw | hw <;> omega
    exact (gI_n (by omega)).trans ((gI_n (by omega)).trans ((gI_n (by omega)).trans (h7 w (Or.inl hw))))
theorem MSin : MS 157 26 ∧ MS 157 27 ∧ MS 157 21 ∧ MS 157 28 ∧ (∀ j, MS 175 j) ∧ (∀ j, MS 173 j) ∧ (∀ j, MS 172 j) ∧ ∀ j, MS 174 j := ⟨by unfold MS; omega, by unfold MS; omega, by unfold MS; omega, by unfold MS; omega, fun j => by unfold MS; omega, fun j => by unfold MS; omega, fun j => by unfold MS; omega, fun j => by unfold MS; omega⟩
theorem sum60 : ∀ a, a < 16 → ∀ b, b < 16 → ∀ c, c < 16 → ∀ d, d < 16 → (nI a + nI b + nI c + nI d = nI 60 ↔ (nI a = nI 15 ∧ nI b = nI 15 ∧ nI c = nI 15 ∧ nI d = nI 15)) := by
  intro a ha b hb c hc d hd
  rw [nI_add, nI_add, nI_add, nI_eq (by omega) (by omega), nI_eq (by omega) (by omega), nI_eq (by omega) (by omega), nI_eq (by omega) (by omega), nI_eq (by omega) (by omega)]
  omega
set_option maxHeartbeats 1000000 in
theorem cM_takeSign (hM : LM B σ) {p fi n t : Nat} {S : Ab} (hm : WFm p 0 fi n S) (hr0 : MR σ p 0 fi n S) (ht : t < 256) : MT ll B 1 0 0 yX3_takeSign cX3_takeSign 2 (some .boolean) [.ref (B.1 + 157), .int (nI t)] σ (pI fun r σ' => r = b2 (okS n S t) ∧ FrR MS σ σ' ∧ (okS n S t = true → MR σ' t 1 fi n (stS n S t))) := by
  obtain ⟨⟨hn10, hwr, hwd⟩, -, -⟩ := hm
  have hn := hM.n
  obtain ⟨m1, m2, m3, m4, m5, m6, m7, m8⟩ := MSin
  refine MT.of (by decide) (Nat.le_of_ble_eq_true rfl) (fun g hg hr => ?_)
  refine y_aload_n hg dX3_takeSign_0 rfl ?_
  refine y_iload_n hg dX3_takeSign_1 rfl ?_
  refine y_puti (j := 26) hg cf3 (hM.m) (by decide) rfl rfl q937 dX3_takeSign_2 ?_
  refine y_aload_n hg dX3_takeSign_5 rfl ?_
  refine y_iconst (v := nI 1) hg dX3_takeSign_6 rfl ?_
  refine y_puti (j := 27) hg cf3 (hM.m) (by decide) rfl rfl q938 dX3_takeSign_7 ?_
  have hM1 : LM B (setI (setI σ 157 26 (nI t)) 157 27 (nI 1)) := hM
  have f1 : FrR MS σ (setI (setI σ 157 26 (nI t)) 157 27 (nI 1)) := ((FrR.rf).stI m1).stI m2
  have e21 : (setI (setI σ 157 26 (nI t)) 157 27 (nI 1)).2.2.1 157 21 = nI n := (gI_n (by omega)).trans ((gI_n (by omega)).trans hr0.1)
  have e175 : ∀ j, j < 25 → (setI (setI σ 157 26 (nI t)) 157 27 (nI 1)).2.2.1 175 j = S 11 j := fun j hj => (gI_n (by omega)).trans ((gI_n (by omega)).trans (hr0.2.2.2.2.1 j hj))
  by_cases t1 : t = 119
  · subst t1
    have hs := hr0.signW
    have hM := hM1
    have eok : okS n S 119 = decide (n < 10) := by unfold okS; rw [if_pos rfl]
    have est : stS n S 119 = up2 S 2 n (nI 0) := by unfold stS; rw [if_pos rfl]
    rw [eok, est] at hr
    generalize setI (setI σ 157 26 (nI 119)) 157 27 (nI 1) = σ1 at hM f1 e21 e175 hs ⊢
    by_cases h10 : n < 10
    · refine y_iload_n hg dX3_takeSign_10 rfl ?_
      refine y_lkup (off := 49) hg 60 dX3_takeSign_11 (by decide) (by decide) (by decide) ?_
      refine y_aload_n hg dX3_takeSign_60 rfl ?_
      refine y_getr (j := 23) hg cf3 (hM.m) (by decide) rfl (hM.r_readSize) q934 dX3_takeSign_61 ?_
      refine y_aload_n hg dX3_takeSign_64 rfl ?_
      refine y_geti (j := 21) hg cf3 (hM.m) (by decide) rfl q932 dX3_takeSign_65 ?_
      refine y_ti (e21) ?_
      refine y_bipush (v := nI 10) hg dX3_takeSign_68 rfl ?_
      refine y_icmp_ge hg 80 dX3_takeSign_70 (by decide) (fun hT => absurd hT (nI_ge (by omega) (by omega))) (fun _ => ?_)
      refine y_aload_n hg dX3_takeSign_73 rfl ?_
      refine y_geti (j := 21) hg cf3 (hM.m) (by decide) rfl q932 dX3_takeSign_74 ?_
      refine y_ti (e21) ?_
      refine y_goto hg 81 dX3_takeSign_77 (by decide) ?_
      refine y_aload_n hg dX3_takeSign_81 rfl ?_
      refine y_geti (j := 21) hg cf3 (hM.m) (by decide) rfl q932 dX3_takeSign_82 ?_
      refine y_ti (e21) ?_
      refine y_bipush (v := nI 10) hg dX3_takeSign_85 rfl ?_
      refine y_icmp_ge hg 94 dX3_takeSign_87 (by decide) (fun hT => absurd hT (nI_ge (by omega) (by omega))) (fun _ => ?_)
      refine y_iconst (v := nI 0) hg dX3_takeSign_90 rfl ?_
      refine y_goto hg 100 dX3_takeSign_91 (by decide) ?_
      refine y_iast hg _ (hM.k_readSize) rfl (by omega) dX3_takeSign_100 ?_
      refine y_aload_n hg dX3_takeSign_101 rfl ?_
      refine y_geti (j := 21) hg cf3 (hM.m) (by decide) rfl q932 dX3_takeSign_102 ?_
      refine y_ti ((gI_n (by omega)).trans e21) ?_
      refine y_bipush (v := nI 10) hg dX3_takeSign_105 rfl ?_
      refine y_icmp_ge hg 114 dX3_takeSign_107 (by decide) (fun hT => absurd hT (nI_ge (by omega) (by omega))) (fun _ => ?_)
      refine y_iconst (v := nI 1) hg dX3_takeSign_110 rfl ?_
      refine y_goto hg 115 dX3_takeSign_111 (by decide) ?_
      refine y_zret hg hr rfl ⟨_, rfl, ?_⟩ dX3_takeSign_115 (Nat.le_refl _) (Nat.le_refl _)
      exact ⟨by rw [decide_eq_true h10]; rfl, f1.stI (m6 _), fun _ => hs⟩
    · refine y_iload_n hg dX3_takeSign_10 rfl ?_
      refine y_lkup (off := 49) hg 60 dX3_takeSign_11 (by decide) (by decide) (by decide) ?_
      refine y_aload_n hg dX3_takeSign_60 rfl ?_
      refine y_getr (j := 23) hg cf3 (hM.m) (by decide) rfl (hM.r_readSize) q934 dX3_takeSign_61 ?_
      refine y_aload_n hg dX3_takeSign_64 rfl ?_
      refine y_geti (j := 21) hg cf3 (hM.m) (by decide) rfl q932 dX3_takeSign_65 ?_
      refine y_ti (e21) ?_
      refine y_bipush (v := nI 10) hg dX3_takeSign_68 rfl ?_
      refine y_icmp_ge hg 80 dX3_takeSign_70 (by decide) (fun _ => ?_) (fun hF => absurd (nI_le (by omega) (by omega)) hF)
      refine y_iconst (v := nI 0) hg dX3_takeSign_80 rfl ?_
      refine y_aload_n hg dX3_takeSign_81 rfl ?_
      refine y_geti (j := 21) hg cf3 (hM.m) (by decide) rfl q932 dX3_takeSign_82 ?_
      refine y_ti (e21) ?_
      refine y_bipush (v := nI 10) hg dX3_takeSign_85 rfl ?_
      refine y_icmp_ge hg 94 dX3_takeSign_87 (by decide) (fun _ => ?_) (fun hF => absurd (nI_le (by omega) (by omega)) hF)
      refine y_aload_n hg dX3_takeSign_94 rfl ?_
      refine y_getr (j := 23) hg cf3 (hM.m) (by decide) rfl (hM.r_readSize) q934 dX3_takeSign_95 ?_
      refine y_iconst (v := nI 0) hg dX3_takeSign_98 rfl ?_
      refine y_iald hg 0 (hM.k_readSize) rfl (by omega) dX3_takeSign_99 ?_
      refine y_iast hg 0 (hM.k_readSize) rfl (by omega) dX3_takeSign_100 ?_
      refine y_aload_n hg dX3_takeSign_101 rfl ?_
      refine y_geti (j := 21) hg cf3 (hM.m) (by decide) rfl q932 dX3_takeSign_102 ?_
      refine y_ti ((gI_n (by omega)).trans e21) ?_
      refine y_bipush (v := nI 10) hg dX3_takeSign_105 rfl ?_
      refine y_icmp_ge hg 114 dX3_takeSign_107 (by decide) (fun _ => ?_) (fun hF => absurd (nI_le (by omega) (by omega)) hF)
      refine y_iconst (v := nI 0) hg dX3_takeSign_114 rfl ?_
      refine y_zret hg hr rfl ⟨_, rfl, ?_⟩ dX3_takeSign_115 (Nat.le_refl _) (Nat.le_refl _)
      exact ⟨by rw [decide_eq_false h10]; rfl, f1.stI (m6 _), fun z => absurd (of_decide_eq_true z) h10⟩
  · have hs := hr0.sign (t := t) t1
    have est : stS n S t = S := by unfold stS; rw [if_neg t1]
    rw [est] at hr
    have hM := hM1
    generalize setI (setI σ 157 26 (nI t)) 157 27 (nI 1) = σ1 at hM f1 e21 e175 hs ⊢
    by_cases t2 : t = 43
    · subst t2
      have eok : okS n S 43 = decide (sm (bg (S 11)) 8 < 12) := by unfold okS; rw [if_neg (by decide), if_pos rfl]
      rw [eok] at hr
      have hbag : fo (fun x n => n + σ1.2.2.1 175 x) 0 8 = nI (sm (bg (S 11)) 8) := by
        rw [fo_congr (g := fun x n => n + S 11 x) 8 (fun i x hi => by rw [e175 i (by omega)])]
        exact bagS_nI hwr.1
      have hle := hwr.2.1
      by_cases h12 : sm (bg (S 11)) 8 < 12
      · refine y_iload_n hg dX3_takeSign_10 rfl ?_
        refine y_lkup (off := 105) hg 116 dX3_takeSign_11 (by decide) (by decide) (by decide) ?_
        refine y_aload_n hg dX3_takeSign_116 rfl ?_
        refine y_getr (j := 25) hg cf3 (hM.m) (by decide) rfl (hM.r_readRow) q936 dX3_takeSign_117 ?_
        refine y_cSi hg (cM_bagOf hM.k_readRow (by decide)) iX3_bagOf q1071 rfl rfl (by simp [Value.category]) (Nat.le_refl _) (Nat.le_refl _) (by decide) dX3_takeSign_120 (fun r σ2 hp => ?_)
        obtain ⟨rfl, rfl⟩ := hp
        refine y_ti hbag ?_
        refine y_bipush (v := nI 12) hg dX3_takeSign_123 rfl ?_
        refine y_icmp_ge hg 132 dX3_takeSign_125 (by decide) (fun hT => absurd hT (nI_ge (by omega) (by omega))) (fun _ => ?_)
        refine y_iconst (v := nI 1) hg dX3_takeSign_128 rfl ?_
        refine y_goto hg 133 dX3_takeSign_129 (by decide) ?_
        refine y_zret hg hr rfl ⟨_, rfl, ?_⟩ dX3_takeSign_133 (Nat.le_refl _) (Nat.le_refl _)
        exact ⟨by rw [decide_eq_true h12]; rfl, f1, fun _ => hs⟩
      · refine y_iload_n hg dX3_takeSign_10 rfl ?_
        refine y_lkup (off := 105) hg 116 dX3_takeSign_11 (by decide) (by decide) (by decide) ?_
        refine y_aload_n hg dX3_takeSign_116 rfl ?_
        refine y_getr (j := 25) hg cf3 (hM.m) (by decide) rfl (hM.r_readRow) q936 dX3_takeSign_117 ?_
        refine y_cSi hg (cM_bagOf hM.k_readRow (by decide)) iX3_bagOf q1071 rfl rfl (by simp [Value.category]) (Nat.le_refl _) (Nat.le_refl _) (by decide) dX3_takeSign_120 (fun r σ2 hp => ?_)
        obtain ⟨rfl, rfl⟩ := hp
        refine y_ti hbag ?_
        refine y_bipush (v := nI 12) hg dX3_takeSign_123 rfl ?_
        refine y_icmp_ge hg 132 dX3_takeSign_125 (by decide) (fun _ => ?_) (fun hF => absurd (nI_le (by omega) (by omega)) hF)
        refine y_iconst (v := nI 0) hg dX3_takeSign_132 rfl ?_
        refine y_zret hg hr rfl ⟨_, rfl, ?_⟩ dX3_takeSign_133 (Nat.le_refl _) (Nat.le_refl _)
        exact ⟨by rw [decide_eq_false h12]; rfl, f1, fun z => absurd (of_decide_eq_true z) h12⟩
    · by_cases t3 : t = 94
      · subst t3
        have eok : okS n S 94 = decide (¬ S 11 19 = nI 15) := by unfold okS; rw [if_neg (by decide), if_neg (by decide), if_pos rfl]
        rw [eok] at hr
        by_cases h15 : S 11 19 = nI 15
        · refine y_iload_n hg dX3_takeSign_10 rfl ?_
          refine y_lkup (off := 123) hg 134 dX3_takeSign_11 (by decide) (by decide) (by decide) ?_
          refine y_aload_n hg dX3_takeSign_134 rfl ?_
          refine y_getr (j := 25) hg cf3 (hM.m) (by decide) rfl (hM.r_readRow) q936 dX3_takeSign_135 ?_
          refine y_bipush (v := nI 19) hg dX3_takeSign_138 rfl ?_
          refine y_iald hg _ (hM.k_readRow) rfl (by omega) dX3_takeSign_140 ?_
          refine y_ti (e175 _ (by omega)) ?_
          refine y_bipush (v := nI 15) hg dX3_takeSign_141 rfl ?_
          refine y_icmp_eq hg 150 dX3_takeSign_143 (by decide) (fun _ => ?_) (fun hF => absurd (h15) hF)
          refine y_iconst (v := nI 0) hg dX3_takeSign_150 rfl ?_
          refine y_zret hg hr rfl ⟨_, rfl, ?_⟩ dX3_takeSign_151 (Nat.le_refl _) (Nat.le_refl _)
          exact ⟨by rw [decide_eq_false (fun z => z h15)]; rfl, f1, fun z => absurd h15 (of_decide_eq_true z)⟩
        · refine y_iload_n hg dX3_takeSign_10 rfl ?_
          refine y_lkup (off := 123) hg 134 dX3_takeSign_11 (by decide) (by decide) (by decide) ?_
          refine y_aload_n hg dX3_takeSign_134 rfl ?_
          refine y_getr (j := 25) hg cf3 (hM.m) (by decide) rfl (hM.r_readRow) q936 dX3_takeSign_135 ?_
          refine y_bipush (v := nI 19) hg dX3_takeSign_138 rfl ?_
          refine y_iald hg _ (hM.k_readRow) rfl (by omega) dX3_takeSign_140 ?_
          refine y_ti (e175 _ (by omega)) ?_
          refine y_bipush (v := nI 15) hg dX3_takeSign_141 rfl ?_
          refine y_icmp_eq hg 150 dX3_takeSign_143 (by decide) (fun hT => absurd hT (h15)) (fun _ => ?_)
          refine y_iconst (v := nI 1) hg dX3_takeSign_146 rfl ?_
          refine y_goto hg 151 dX3_takeSign_147 (by decide) ?_
          refine y_zret hg hr rfl ⟨_, rfl, ?_⟩ dX3_takeSign_151 (Nat.le_refl _) (Nat.le_refl _)
          exact ⟨by rw [decide_eq_true h15]; rfl, f1, fun _ => hs⟩
      · by_cases t4 : t = 46
        · subst t4
          have eok : okS n S 46 = decide (¬ S 11 20 = nI 15) := by unfold okS; rw [if_neg (by decide), if_neg (by decide), if_neg (by decide), if_pos rfl]
          rw [eok] at hr
          by_cases h15 : S 11 20 = nI 15
          · refine y_iload_n hg dX3_takeSign_10 rfl ?_
            refine y_lkup (off := 141) hg 152 dX3_takeSign_11 (by decide) (by decide) (by decide) ?_
            refine y_aload_n hg dX3_takeSign_152 rfl ?_
            refine y_getr (j := 25) hg cf3 (hM.m) (by decide) rfl (hM.r_readRow) q936 dX3_takeSign_153 ?_
            refine y_bipush (v := nI 20) hg dX3_takeSign_156 rfl ?_
            refine y_iald hg _ (hM.k_readRow) rfl (by omega) dX3_takeSign_158 ?_
            refine y_ti (e175 _ (by omega)) ?_
            refine y_bipush (v := nI 15) hg dX3_takeSign_159 rfl ?_
            refine y_icmp_eq hg 168 dX3_takeSign_161 (by decide) (fun _ => ?_) (fun hF => absurd (h15) hF)
            refine y_iconst (v := nI 0) hg dX3_takeSign_168 rfl ?_
            refine y_zret hg hr rfl ⟨_, rfl, ?_⟩ dX3_takeSign_169 (Nat.le_refl _) (Nat.le_refl _)
            exact ⟨by rw [decide_eq_false (fun z => z h15)]; rfl, f1, fun z => absurd h15 (of_decide_eq_true z)⟩
          · refine y_iload_n hg dX3_takeSign_10 rfl ?_
            refine y_lkup (off := 141) hg 152 dX3_takeSign_11 (by decide) (by decide) (by decide) ?_
            refine y_aload_n hg dX3_takeSign_152 rfl ?_
            refine y_getr (j := 25) hg cf3 (hM.m) (by decide) rfl (hM.r_readRow) q936 dX3_takeSign_153 ?_
            refine y_bipush (v := nI 20) hg dX3_takeSign_156 rfl ?_
            refine y_iald hg _ (hM.k_readRow) rfl (by omega) dX3_takeSign_158 ?_
            refine y_ti (e175 _ (by omega)) ?_
            refine y_bipush (v := nI 15) hg dX3_takeSign_159 rfl ?_
            refine y_icmp_eq hg 168 dX3_takeSign_161 (by decide) (fun hT => absurd hT (h15)) (fun _ => ?_)
            refine y_iconst (v := nI 1) hg dX3_takeSign_164 rfl ?_
            refine y_goto hg 169 dX3_takeSign_165 (by decide) ?_
            refine y_zret hg hr rfl ⟨_, rfl, ?_⟩ dX3_takeSign_169 (Nat.le_refl _) (Nat.le_refl _)
            exact ⟨by rw [decide_eq_true h15]; rfl, f1, fun _ => hs⟩
        · by_cases t5 : t = 58
          · subst t5
            have eok : okS n S 58 = decide (¬ (S 11 21 = nI 15 ∧ S 11 22 = nI 15 ∧ S 11 23 = nI 15 ∧ S 11 24 = nI 15)) := by unfold okS; rw [if_neg (by decide), if_neg (by decide), if_neg (by decide), if_neg (by decide), if_pos rfl]
            rw [eok] at hr
            obtain ⟨b0, hb0, e0⟩ := hwr.b16 (j := 21) (by omega) (by omega)
            obtain ⟨b1, hb1, e1⟩ := hwr.b16 (j := 22) (by omega) (by omega)
            obtain ⟨b2, hb2, e2⟩ := hwr.b16 (j := 23) (by omega) (by omega)
            obtain ⟨b3, hb3, e3⟩ := hwr.b16 (j := 24) (by omega) (by omega)
            have h60 := sum60 b0 hb0 b1 hb1 b2 hb2 b3 hb3
            rw [← e0, ← e1, ← e2, ← e3] at h60
            by_cases h15 : S 11 21 = nI 15 ∧ S 11 22 = nI 15 ∧ S 11 23 = nI 15 ∧ S 11 24 = nI 15
            · refine y_iload_n hg dX3_takeSign_10 rfl ?_
              refine y_lkup (off := 159) hg 170 dX3_takeSign_11 (by decide) (by decide) (by decide) ?_
              refine y_aload_n hg dX3_takeSign_170 rfl ?_
              refine y_getr (j := 25) hg cf3 (hM.m) (by decide) rfl (hM.r_readRow) q936 dX3_takeSign_171 ?_
              refine y_bipush (v := nI 21) hg dX3_takeSign_174 rfl ?_
              refine y_iald hg _ (hM.k_readRow) rfl (by omega) dX3_takeSign_176 ?_
              refine y_ti (e175 _ (by omega)) ?_
              refine y_aload_n hg dX3_takeSign_177 rfl ?_
              refine y_getr (j := 25) hg cf3 (hM.m) (by decide) rfl (hM.r_readRow) q936 dX3_takeSign_178 ?_
              refine y_bipush (v := nI 22) hg dX3_takeSign_181 rfl ?_
              refine y_iald hg _ (hM.k_readRow) rfl (by omega) dX3_takeSign_183 ?_
              refine y_ti (e175 _ (by omega)) ?_
              refine y_iadd hg dX3_takeSign_184 ?_
              refine y_aload_n hg dX3_takeSign_185 rfl ?_
              refine y_getr (j := 25) hg cf3 (hM.m) (by decide) rfl (hM.r_readRow) q936 dX3_takeSign_186 ?_
              refine y_bipush (v := nI 23) hg dX3_takeSign_189 rfl ?_
              refine y_iald hg _ (hM.k_readRow) rfl (by omega) dX3_takeSign_191 ?_
              refine y_ti (e175 _ (by omega)) ?_
              refine y_iadd hg dX3_takeSign_192 ?_
              refine y_aload_n hg dX3_takeSign_193 rfl ?_
              refine y_getr (j := 25) hg cf3 (hM.m) (by decide) rfl (hM.r_readRow) q936 dX3_takeSign_194 ?_
              refine y_bipush (v := nI 24) hg dX3_takeSign_197 rfl ?_
              refine y_iald hg _ (hM.k_readRow) rfl (by omega) dX3_takeSign_199 ?_
              refine y_ti (e175 _ (by omega)) ?_
              refine y_iadd hg dX3_takeSign_200 ?_
              refine y_bipush (v := nI 60) hg dX3_takeSign_201 rfl ?_
              refine y_icmp_eq hg 210 dX3_takeSign_203 (by decide) (fun _ => ?_) (fun hF => absurd (h60.mpr h15) hF)
              refine y_iconst (v := nI 0) hg dX3_takeSign_210 rfl ?_
              refine y_zret hg hr rfl ⟨_, rfl, ?_⟩ dX3_takeSign_211 (Nat.le_refl _) (Nat.le_refl _)
              exact ⟨by rw [decide_eq_false (fun z => z h15)]; rfl, f1, fun z => absurd h15 (of_decide_eq_true z)⟩
            · refine y_iload_n hg dX3_takeSign_10 rfl ?_
              refine y_lkup (off := 159) hg 170 dX3_takeSign_11 (by decide) (by decide) (by decide) ?_
              refine y_aload_n hg dX3_takeSign_170 rfl ?_
              refine y_getr (j := 25) hg cf3 (hM.m) (by decide) rfl (hM.r_readRow) q936 dX3_takeSign_171 ?_
              refine y_bipush (v := nI 21) hg dX3_takeSign_174 rfl ?_
              refine y_iald hg _ (hM.k_readRow) rfl (by omega) dX3_takeSign_176 ?_
              refine y_ti (e175 _ (by omega)) ?_
              refine y_aload_n hg dX3_takeSign_177 rfl ?_
              refine y_getr (j := 25) hg cf3 (hM.m) (by decide) rfl (hM.r_readRow) q936 dX3_takeSign_178 ?_
              refine y_bipush (v := nI 22) hg dX3_takeSign_181 rfl ?_
              refine y_iald hg _ (hM.k_readRow) rfl (by omega) dX3_takeSign_183 ?_
              refine y_ti (e175 _ (by omega)) ?_
              refine y_iadd hg dX3_takeSign_184 ?_
              refine y_aload_n hg dX3_takeSign_185 rfl ?_
              refine y_getr (j := 25) hg cf3 (hM.m) (by decide) rfl (hM.r_readRow) q936 dX3_takeSign_186 ?_
              refine y_bipush (v := nI 23) hg dX3_takeSign_189 rfl ?_
              refine y_iald hg _ (hM.k_readRow) rfl (by omega) dX3_takeSign_191 ?_
              refine y_ti (e175 _ (by omega)) ?_
              refine y_iadd hg dX3_takeSign_192 ?_
              refine y_aload_n hg dX3_takeSign_193 rfl ?_
              refine y_getr (j := 25) hg cf3 (hM.m) (by decide) rfl (hM.r_readRow) q936 dX3_takeSign_194 ?_
              refine y_bipush (v := nI 24) hg dX3_takeSign_197 rfl ?_
              refine y_iald hg _ (hM.k_readRow) rfl (by omega) dX3_takeSign_199 ?_
              refine y_ti (e175 _ (by omega)) ?_
              refine y_iadd hg dX3_takeSign_200 ?_
              refine y_bipush (v := nI 60) hg dX3_takeSign_201 rfl ?_
              refine y_icmp_eq hg 210 dX3_takeSign_203 (by decide) (fun hT => absurd hT (fun z => h15 (h60.mp z))) (fun _ => ?_)
              refine y_iconst (v := nI 1) hg dX3_takeSign_206 rfl ?_
              refine y_goto hg 211 dX3_takeSign_207 (by decide) ?_
              refine y_zret hg hr rfl ⟨_, rfl, ?_⟩ dX3_takeSign_211 (Nat.le_refl _) (Nat.le_refl _)
              exact ⟨by rw [decide_eq_true h15]; rfl, f1, fun _ => hs⟩
          · have eok : okS n S t = false := by unfold okS; rw [if_neg t1, if_neg t2, if_neg t3, if_neg t4, if_neg t5]
            rw [eok] at hr
            refine y_iload_n hg dX3_takeSign_10 rfl ?_
            refine y_lkup (off := 201) hg 212 dX3_takeSign_11 (by decide) (show Op.lookupswitch.offset [(43, 105), (46, 141), (58, 159), (94, 123), (119, 49)] 201 _ = 201 by rw [nI_toInt (by omega)]; simp only [Op.lookupswitch.offset]; rw [if_neg (by omega), if_neg (by omega), if_neg (by omega), if_neg (by omega), if_neg (by omega)]) (by decide) ?_
            refine y_iconst (v := nI 0) hg dX3_takeSign_212 rfl ?_
            refine y_zret hg hr rfl ⟨_, rfl, ?_⟩ dX3_takeSign_213 (Nat.le_refl _) (Nat.le_refl _)
            exact ⟨rfl, f1, fun z => absurd z (by decide)⟩
theorem cM_takeKind (hM : LM B σ) {j t : Nat} {S : Ab} (h175 : ∀ j, j < 25 → σ.2.2.1 175 j = S 11 j) (hj : j < 25) (ht : t < 256) : MT ll B 2 0 0 yX3_takeKind cX3_takeKind 4 (some .boolean) [.ref (B.1 + 157), .int (nI t), .int (nI j)] σ (pI fun r σ' => r = b2 (kOK S j t) ∧ FrR MS σ σ' ∧ (kOK S j t = true → σ' = setI (setI σ 175 j (S 11 j ||| nI (2 ^ (t - 65)))) 157 27 (nI 0))) := by
  have hn := hM.n
  obtain ⟨m1, m2, m3, m4, m5, m6, m7, m8⟩ := MSin
  refine MT.of (by decide) (Nat.le_of_ble_eq_true rfl) (fun g hg hr => ?_)
  refine y_iload_n hg dX3_takeKind_0 rfl ?_
  refine y_bipush (v := nI 65) hg dX3_takeKind_1 rfl ?_
  refine y_isub hg dX3_takeKind_3 ?_
  refine y_istore_n hg dX3_takeKind_4 (by decide) (lv1 := [(0, _), (1, _), (2, _), (3, _)]) rfl ?_
  refine y_iload_n hg dX3_takeKind_5 rfl ?_
  refine y_cSi hg (cM_isKind _) iX3_isKind q1096 rfl rfl (by simp [Value.category]) (Nat.le_refl _) (Nat.le_refl _) (by decide) dX3_takeKind_6 (fun r σ1 hp => ?_)
  obtain ⟨rfl, rfl⟩ := hp
  rw [isK65 t ht]
  refine y_if_eq hg 25 dX3_takeKind_9 (by decide) (fun hc => ?_) (fun hc => ?_)
  · have h0 := b2F hc
    have ek : kOK S j t = false := by unfold kOK; rw [decide_eq_false (fun z => h0 (decide_eq_true z))]; rfl
    refine y_iconst (v := nI 0) hg dX3_takeKind_25 rfl ?_
    refine y_zret hg hr rfl ⟨_, rfl, ?_⟩ dX3_takeKind_26 (Nat.le_refl _) (Nat.le_refl _)
    exact ⟨by rw [ek]; rfl, FrR.rf, fun z => by rw [ek] at z; exact absurd z (by decide)⟩
  · have hk : 65 ≤ t ∧ t < 69 := of_decide_eq_true (b2T hc)
    have es : nI t - nI 65 = nI (t - 65) := pk_sub (by omega)
    rw [es]
    refine y_aload_n hg dX3_takeKind_12 rfl ?_
    refine y_getr (j := 25) hg cf3 (hM.m) (by decide) rfl (hM.r_readRow) q936 dX3_takeKind_13 ?_
    refine y_iload_n hg dX3_takeKind_16 rfl ?_
    refine y_iald hg _ (hM.k_readRow) rfl (by omega) dX3_takeKind_17 ?_
    refine y_ti (h175 _ hj) ?_
    refine y_iload_n hg dX3_takeKind_18 rfl ?_
    refine y_cSi hg (cM_has _ _) iX3_has q1100 rfl rfl (by simp [Value.category]) (Nat.le_refl _) (Nat.le_refl _) (by decide) dX3_takeKind_19 (fun r σ2 hp => ?_)
    obtain ⟨rfl, rfl⟩ := hp
    refine y_if_eq hg 27 dX3_takeKind_22 (by decide) (fun hc2 => ?_) (fun hc2 => ?_)
    · have ek : kOK S j t = true := by
        unfold kOK
        rw [decide_eq_true hk]
        have := b2F hc2
        cases q : hasB (S 11 j) (nI (t - 65)) with
        | false => rfl
        | true => exact absurd q this
      refine y_aload_n hg dX3_takeKind_27 rfl ?_
      refine y_getr (j := 25) hg cf3 (hM.m) (by decide) rfl (hM.r_readRow) q936 dX3_takeKind_28 ?_
      refine y_iload_n hg dX3_takeKind_31 rfl ?_
      refine y_dup2 hg dX3_takeKind_32 rfl rfl ?_
      refine y_iald hg _ (hM.k_readRow) rfl (by omega) dX3_takeKind_33 ?_
      refine y_ti (h175 _ hj) ?_
      refine y_iconst (v := nI 1) hg dX3_takeKind_34 rfl ?_
      refine y_iload_n hg dX3_takeKind_35 rfl ?_
      refine y_ishl hg dX3_takeKind_36 ?_
      refine y_ti (sh_nI _ (by omega)) ?_
      refine y_ior hg dX3_takeKind_37 ?_
      refine y_iast hg _ (hM.k_readRow) rfl (by omega) dX3_takeKind_38 ?_
      refine y_aload_n hg dX3_takeKind_39 rfl ?_
      refine y_iconst (v := nI 0) hg dX3_takeKind_40 rfl ?_
      refine y_puti (j := 27) hg cf3 (hM.m) (by decide) rfl rfl q938 dX3_takeKind_41 ?_
      refine y_iconst (v := nI 1) hg dX3_takeKind_44 rfl ?_
      refine y_zret hg hr rfl ⟨_, rfl, ?_⟩ dX3_takeKind_45 (Nat.le_refl _) (Nat.le_refl _)
      exact ⟨by rw [ek]; rfl, ((FrR.rf).stI (m5 _)).stI m2, fun _ => rfl⟩
    · have ek : kOK S j t = false := by unfold kOK; rw [b2T hc2, Bool.not_true, Bool.and_false]
      refine y_iconst (v := nI 0) hg dX3_takeKind_25 rfl ?_
      refine y_zret hg hr rfl ⟨_, rfl, ?_⟩ dX3_takeKind_26 (Nat.le_refl _) (Nat.le_refl _)
      exact ⟨by rw [ek]; rfl, FrR.rf, fun z => by rw [ek] at z; exact absurd z (by decide)⟩
end ReadM

