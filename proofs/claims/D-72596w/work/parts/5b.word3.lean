section Wd3
variable {ll : Launch} {B : Bs} {σ : Mem} {A : Ab} {sd : Int64}
def sel (l : List Int32) (d v : Int32) : Int32 := if v.toInt < 0 ∨ (l.length : Int) ≤ v.toInt then d else l.getD v.toInt.toNat d
theorem sel_k {l : List Int32} {d : Int32} {k : Nat} (h : k < l.length) (h2 : l.length < 2147483648) : sel l d (nI k) = l.getD k d := by
  unfold sel
  rw [nI_toInt (by omega), if_neg (by omega)]
  rfl
theorem sel_o {l : List Int32} {d v : Int32} (h : v.toInt < 0 ∨ (l.length : Int) ≤ v.toInt) : sel l d v = d := by
  unfold sel
  rw [if_pos h]
theorem ts_split (v : Int32) (n : Nat) (hn : n < 2147483648) : (∃ k, k ≤ n ∧ v = nI k) ∨ (v.toInt < 0 ∨ (n : Int) < v.toInt) := by
  by_cases h : v.toInt < 0
  · exact Or.inr (Or.inl h)
  · by_cases h2 : (n : Int) < v.toInt
    · exact Or.inr (Or.inr h2)
    · refine Or.inl ⟨v.toInt.toNat, by omega, ?_⟩
      apply Int32.toInt_inj.mp
      rw [nI_toInt (by omega)]
      omega
def wdL (A : Ab) (n : Nat) : List Int32 := [A 2 n, A 3 n, A 11 (9 + n), (A 11 8 >>> (nI n &&& 31)) &&& nI 1, rar A n, twn A n, tms A n, lts A n]
theorem wd_k {w : Nat} (k : Nat) (hk : k < 8) : (wdL A w).getD k (-2) = sel (wdL A w) (-2) (nI k) := (sel_k (l := wdL A w) (show k < 8 from hk) (show 8 < 2147483648 by decide)).symm
def rWord (A : Ab) (w v : Int32) : Int32 := if isW (nm A) w = true then sel (wdL A w.toNatClampNeg) (-2) v else -1
theorem rWord_k {w : Nat} (hm : nm A ≤ 10) (hw : w < nm A) {v : Int32} : rWord A (nI w) v = sel (wdL A w) (-2) v := by
  unfold rWord
  rw [if_pos ((isW_iff hm).mpr ⟨w, hw, rfl⟩), nI_clamp (by omega)]
theorem cX_word (hW : WFA A) (hR : RX B A sd σ) (w v : Int32) : MT ll B 24 0 0 yX0_word cX0_word 4 (some .int) [.ref (B.1 + 0), .int w, .int v] σ (oX B sd σ (rWord A w v, A)) := by
  have hL := hR.1
  have hm := hW.nmle
  refine MT.of (by decide) (Nat.le_of_ble_eq_true rfl) (fun g hg hr => ?_)
  refine y_aload_n hg dX0_word_0 rfl ?_
  refine y_iload_n hg dX0_word_1 rfl ?_
  refine y_cVi hg (cX_isW hW hR _) iX0_isWord q440 (hL.x) cf0 rfl rfl (by simp [Value.category]) (Nat.le_refl _) (Nat.le_refl _) (by decide) dX0_word_2 (fun r σ1 hp => ?_)
  obtain ⟨rfl, rfl⟩ := hp
  refine y_if_ne hg 10 dX0_word_5 (by decide) (fun hc => ?_) (fun hc => ?_)
  · obtain ⟨w, hw, rfl⟩ := (isW_iff hm).mp (b2T hc)
    rw [rWord_k hm hw] at hr
    have hWd := hL.w_words (i := w) (by omega)
    have E : ∀ r, r = sel (wdL A w) (-2) v → (r = (sel (wdL A w) (-2) v, A).1 ∧ RX B (sel (wdL A w) (-2) v, A).2 sd σ1 ∧ Fr (fun a _ => a < 157) σ1 σ1) := fun r h => ⟨h, hR, Fr.rf⟩
    refine y_aload_n hg dX0_word_10 rfl ?_
    refine y_getr (j := 0) hg cf0 (hL.x) (by decide) rfl (hL.r_words) q172 dX0_word_11 ?_
    refine y_iload_n hg dX0_word_14 rfl ?_
    refine y_aald3 hg _ (hL.k_words) rfl (by omega) (hL.e_words (by omega)) dX0_word_15 ?_
    refine y_astore_n hg dX0_word_16 (by decide) (lv1 := [(0, _), (1, _), (2, _), (3, _)]) rfl ?_
    refine y_iload_n hg dX0_word_17 rfl ?_
    rcases ts_split v 7 (by decide) with ⟨k, hk, rfl⟩ | ho
    · have hk8 : k = 0 ∨ k = 1 ∨ k = 2 ∨ k = 3 ∨ k = 4 ∨ k = 5 ∨ k = 6 ∨ k = 7 := by omega
      rcases hk8 with rfl | rfl | rfl | rfl | rfl | rfl | rfl | rfl
      · refine y_tsIn hg 64 dX0_word_18 (by decide) (by decide) rfl (by decide) ?_
        refine y_aload_n hg dX0_word_64 rfl ?_
        refine y_getiN (j := 1) hg cf2 (hWd.o) (by decide) rfl nf7 dX0_word_65 ?_
        refine y_iret hg hr ⟨_, rfl, ?_⟩ dX0_word_68 (Nat.le_refl _) (Nat.le_refl _)
        exact E _ ((hR.size hw).trans (wd_k 0 (by decide)))
      · refine y_tsIn hg 69 dX0_word_18 (by decide) (by decide) rfl (by decide) ?_
        refine y_aload_n hg dX0_word_69 rfl ?_
        refine y_getiN (j := 2) hg cf2 (hWd.o) (by decide) rfl nf8 dX0_word_70 ?_
        refine y_iret hg hr ⟨_, rfl, ?_⟩ dX0_word_73 (Nat.le_refl _) (Nat.le_refl _)
        exact E _ ((hR.kind hw).trans (wd_k 1 (by decide)))
      · refine y_tsIn hg 74 dX0_word_18 (by decide) (by decide) rfl (by decide) ?_
        refine y_aload_n hg dX0_word_74 rfl ?_
        refine y_getr (j := 2) hg cf0 (hL.x) (by decide) rfl (hL.r_now) q174 dX0_word_75 ?_
        refine y_getrN (j := 2) hg cf1 (hL.s_now.o) (by decide) rfl (hL.s_now.r_ranks) nf2 dX0_word_78 ?_
        refine y_iload_n hg dX0_word_81 rfl ?_
        refine y_iald hg _ (hL.s_now.k_ranks) rfl (by omega) dX0_word_82 ?_
        refine y_iret hg hr ⟨_, rfl, ?_⟩ dX0_word_83 (Nat.le_refl _) (Nat.le_refl _)
        exact E _ ((hR.ranks (by omega)).trans (wd_k 2 (by decide)))
      · refine y_tsIn hg 84 dX0_word_18 (by decide) (by decide) rfl (by decide) ?_
        refine y_aload_n hg dX0_word_84 rfl ?_
        refine y_getr (j := 2) hg cf0 (hL.x) (by decide) rfl (hL.r_now) q174 dX0_word_85 ?_
        refine y_getiN (j := 1) hg cf1 (hL.s_now.o) (by decide) rfl nf1 dX0_word_88 ?_
        refine y_ti (hR.barred) ?_
        refine y_iload_n hg dX0_word_91 rfl ?_
        refine y_ishr hg dX0_word_92 ?_
        refine y_iconst (v := nI 1) hg dX0_word_93 rfl ?_
        refine y_iand hg dX0_word_94 ?_
        refine y_iret hg hr ⟨_, rfl, ?_⟩ dX0_word_95 (Nat.le_refl _) (Nat.le_refl _)
        exact E _ (wd_k 3 (by decide))
      · refine y_tsIn hg 96 dX0_word_18 (by decide) (by decide) rfl (by decide) ?_
        refine y_aload_n hg dX0_word_96 rfl ?_
        refine y_aload_n hg dX0_word_97 rfl ?_
        refine y_cVi hg (cX_rarest hW hR hw) iX0_rarest q444 (hL.x) cf0 rfl rfl (by simp [Value.category]) (Nat.le_refl _) (Nat.le_refl _) (by decide) dX0_word_98 (fun r σ2 hp => ?_)
        obtain ⟨rfl, rfl⟩ := hp
        refine y_iret hg hr ⟨_, rfl, ?_⟩ dX0_word_101 (Nat.le_refl _) (Nat.le_refl _)
        exact E _ (wd_k 4 (by decide))
      · refine y_tsIn hg 102 dX0_word_18 (by decide) (by decide) rfl (by decide) ?_
        refine y_aload_n hg dX0_word_102 rfl ?_
        refine y_aload_n hg dX0_word_103 rfl ?_
        refine y_cVi hg (cX_twins hW hR hw) iX0_twins q452 (hL.x) cf0 rfl rfl (by simp [Value.category]) (Nat.le_refl _) (Nat.le_refl _) (by decide) dX0_word_104 (fun r σ2 hp => ?_)
        obtain ⟨rfl, rfl⟩ := hp
        refine y_iret hg hr ⟨_, rfl, ?_⟩ dX0_word_107 (Nat.le_refl _) (Nat.le_refl _)
        exact E _ (wd_k 5 (by decide))
      · refine y_tsIn hg 108 dX0_word_18 (by decide) (by decide) rfl (by decide) ?_
        refine y_aload_n hg dX0_word_108 rfl ?_
        refine y_aload_n hg dX0_word_109 rfl ?_
        refine y_getr (j := 2) hg cf0 (hL.x) (by decide) rfl (hL.r_now) q174 dX0_word_110 ?_
        refine y_getrN (j := 0) hg cf1 (hL.s_now.o) (by decide) rfl (hL.s_now.r_bag) nf0 dX0_word_113 ?_
        refine y_cVi hg (cX_tms hW hR hw) iX2_times q389 (hWd.o) cf2 rfl rfl (by simp [Value.category]) (Nat.le_refl _) (Nat.le_refl _) (by decide) dX0_word_116 (fun r σ2 hp => ?_)
        obtain ⟨rfl, rfl⟩ := hp
        refine y_iret hg hr ⟨_, rfl, ?_⟩ dX0_word_119 (Nat.le_refl _) (Nat.le_refl _)
        exact E _ (wd_k 6 (by decide))
      · refine y_tsIn hg 120 dX0_word_18 (by decide) (by decide) rfl (by decide) ?_
        refine y_aload_n hg dX0_word_120 rfl ?_
        refine y_cSi hg (cX_lettersOf hW hR hw) iX0_lettersOf q460 rfl rfl (by simp [Value.category]) (Nat.le_refl _) (Nat.le_refl _) (by decide) dX0_word_121 (fun r σ2 hp => ?_)
        obtain ⟨rfl, rfl⟩ := hp
        refine y_iret hg hr ⟨_, rfl, ?_⟩ dX0_word_124 (Nat.le_refl _) (Nat.le_refl _)
        exact E _ (wd_k 7 (by decide))
    · refine y_tsOut hg 125 dX0_word_18 (ho) (by decide) ?_
      refine y_bipush (v := -2) hg dX0_word_125 rfl ?_
      refine y_iret hg hr ⟨_, rfl, ?_⟩ dX0_word_127 (Nat.le_refl _) (Nat.le_refl _)
      exact E _ (sel_o (ho.imp id (fun z => z))).symm
  · refine y_iconst (v := -1) hg dX0_word_8 rfl ?_
    refine y_iret hg hr ⟨_, rfl, ?_⟩ dX0_word_9 (Nat.le_refl _) (Nat.le_refl _)
    have eo : rWord A w v = -1 := by unfold rWord; rw [if_neg (b2F hc)]
    exact ⟨eo.symm, hR, Fr.rf⟩
theorem cM_word (hW : WFA A) (hR : RMm B A sd σ) (w v : Int32) : MT ll B 24 0 0 yX3_word cX3_word 3 (some .int) [.ref (B.1 + 157), .int w, .int v] σ (oM B sd σ (rWord A w v, A)) := by
  have hM := hR.1
  have hm := hW.nmle
  refine MT.of (by decide) (Nat.le_of_ble_eq_true rfl) (fun g hg hr => ?_)
  refine y_aload_n hg dX3_word_0 rfl ?_
  refine y_iload_n hg dX3_word_1 rfl ?_
  refine y_cVi hg (cM_isW hW hR _) iX3_isWord q1174 (hM.m) cf3 rfl rfl (by simp [Value.category]) (Nat.le_refl _) (Nat.le_refl _) (by decide) dX3_word_2 (fun r σ1 hp => ?_)
  obtain ⟨rfl, rfl⟩ := hp
  refine y_if_ne hg 10 dX3_word_5 (by decide) (fun hc => ?_) (fun hc => ?_)
  · obtain ⟨w, hw, rfl⟩ := (isW_iff hm).mp (b2T hc)
    rw [rWord_k hm hw] at hr
    have E : ∀ r, r = sel (wdL A w) (-2) v → (r = (sel (wdL A w) (-2) v, A).1 ∧ RMm B (sel (wdL A w) (-2) v, A).2 sd σ1 ∧ FrR (fun a _ => 157 ≤ a) σ1 σ1) := fun r h => ⟨h, hR, FrR.rf⟩
    refine y_iload_n hg dX3_word_10 rfl ?_
    rcases ts_split v 7 (by decide) with ⟨k, hk, rfl⟩ | ho
    · have hk8 : k = 0 ∨ k = 1 ∨ k = 2 ∨ k = 3 ∨ k = 4 ∨ k = 5 ∨ k = 6 ∨ k = 7 := by omega
      rcases hk8 with rfl | rfl | rfl | rfl | rfl | rfl | rfl | rfl
      · refine y_tsIn hg 56 dX3_word_11 (by decide) (by decide) rfl (by decide) ?_
        refine y_aload_n hg dX3_word_56 rfl ?_
        refine y_getr (j := 4) hg cf3 (hM.m) (by decide) rfl (hM.r_size) q915 dX3_word_57 ?_
        refine y_iload_n hg dX3_word_60 rfl ?_
        refine y_iald hg _ (hM.k_size) rfl (by omega) dX3_word_61 ?_
        refine y_iret hg hr ⟨_, rfl, ?_⟩ dX3_word_62 (Nat.le_refl _) (Nat.le_refl _)
        exact E _ ((hR.size hw).trans (wd_k 0 (by decide)))
      · refine y_tsIn hg 63 dX3_word_11 (by decide) (by decide) rfl (by decide) ?_
        refine y_aload_n hg dX3_word_63 rfl ?_
        refine y_getr (j := 5) hg cf3 (hM.m) (by decide) rfl (hM.r_kind) q916 dX3_word_64 ?_
        refine y_iload_n hg dX3_word_67 rfl ?_
        refine y_iald hg _ (hM.k_kind) rfl (by omega) dX3_word_68 ?_
        refine y_iret hg hr ⟨_, rfl, ?_⟩ dX3_word_69 (Nat.le_refl _) (Nat.le_refl _)
        exact E _ ((hR.kind hw).trans (wd_k 1 (by decide)))
      · refine y_tsIn hg 70 dX3_word_11 (by decide) (by decide) rfl (by decide) ?_
        refine y_aload_n hg dX3_word_70 rfl ?_
        refine y_getr (j := 7) hg cf3 (hM.m) (by decide) rfl (hM.r_now) q918 dX3_word_71 ?_
        refine y_bipush (v := nI 9) hg dX3_word_74 rfl ?_
        refine y_iload_n hg dX3_word_76 rfl ?_
        refine y_iadd hg dX3_word_77 ?_
        refine y_ti (nI_add _ _) ?_
        refine y_iald hg _ (hM.k_now) rfl (by omega) dX3_word_78 ?_
        refine y_iret hg hr ⟨_, rfl, ?_⟩ dX3_word_79 (Nat.le_refl _) (Nat.le_refl _)
        exact E _ ((hR.ranks (by omega)).trans (wd_k 2 (by decide)))
      · refine y_tsIn hg 80 dX3_word_11 (by decide) (by decide) rfl (by decide) ?_
        refine y_aload_n hg dX3_word_80 rfl ?_
        refine y_getr (j := 7) hg cf3 (hM.m) (by decide) rfl (hM.r_now) q918 dX3_word_81 ?_
        refine y_bipush (v := nI 8) hg dX3_word_84 rfl ?_
        refine y_iald hg _ (hM.k_now) rfl (by omega) dX3_word_86 ?_
        refine y_ti (hR.barred) ?_
        refine y_iload_n hg dX3_word_87 rfl ?_
        refine y_ishr hg dX3_word_88 ?_
        refine y_iconst (v := nI 1) hg dX3_word_89 rfl ?_
        refine y_iand hg dX3_word_90 ?_
        refine y_iret hg hr ⟨_, rfl, ?_⟩ dX3_word_91 (Nat.le_refl _) (Nat.le_refl _)
        exact E _ (wd_k 3 (by decide))
      · refine y_tsIn hg 92 dX3_word_11 (by decide) (by decide) rfl (by decide) ?_
        refine y_aload_n hg dX3_word_92 rfl ?_
        refine y_iload_n hg dX3_word_93 rfl ?_
        refine y_cVi hg (cM_rarest hW hR hw) iX3_rarest q1178 (hM.m) cf3 rfl rfl (by simp [Value.category]) (Nat.le_refl _) (Nat.le_refl _) (by decide) dX3_word_94 (fun r σ2 hp => ?_)
        obtain ⟨rfl, rfl⟩ := hp
        refine y_iret hg hr ⟨_, rfl, ?_⟩ dX3_word_97 (Nat.le_refl _) (Nat.le_refl _)
        exact E _ (wd_k 4 (by decide))
      · refine y_tsIn hg 98 dX3_word_11 (by decide) (by decide) rfl (by decide) ?_
        refine y_aload_n hg dX3_word_98 rfl ?_
        refine y_iload_n hg dX3_word_99 rfl ?_
        refine y_cVi hg (cM_twins hW hR hw) iX3_twins q1186 (hM.m) cf3 rfl rfl (by simp [Value.category]) (Nat.le_refl _) (Nat.le_refl _) (by decide) dX3_word_100 (fun r σ2 hp => ?_)
        obtain ⟨rfl, rfl⟩ := hp
        refine y_iret hg hr ⟨_, rfl, ?_⟩ dX3_word_103 (Nat.le_refl _) (Nat.le_refl _)
        exact E _ (wd_k 5 (by decide))
      · refine y_tsIn hg 104 dX3_word_11 (by decide) (by decide) rfl (by decide) ?_
        refine y_aload_n hg dX3_word_104 rfl ?_
        refine y_iload_n hg dX3_word_105 rfl ?_
        refine y_cVi hg (cM_madeOf hW hR hw) iX3_madeOf q1130 (hM.m) cf3 rfl rfl (by simp [Value.category]) (Nat.le_refl _) (Nat.le_refl _) (by decide) dX3_word_106 (fun r σ2 hp => ?_)
        obtain ⟨rfl, rfl⟩ := hp
        refine y_iret hg hr ⟨_, rfl, ?_⟩ dX3_word_109 (Nat.le_refl _) (Nat.le_refl _)
        exact E _ (wd_k 6 (by decide))
      · refine y_tsIn hg 110 dX3_word_11 (by decide) (by decide) rfl (by decide) ?_
        refine y_aload_n hg dX3_word_110 rfl ?_
        refine y_iload_n hg dX3_word_111 rfl ?_
        refine y_cVi hg (cM_lettersOf hW hR hw) iX3_lettersOf q1190 (hM.m) cf3 rfl rfl (by simp [Value.category]) (Nat.le_refl _) (Nat.le_refl _) (by decide) dX3_word_112 (fun r σ2 hp => ?_)
        obtain ⟨rfl, rfl⟩ := hp
        refine y_iret hg hr ⟨_, rfl, ?_⟩ dX3_word_115 (Nat.le_refl _) (Nat.le_refl _)
        exact E _ (wd_k 7 (by decide))
    · refine y_tsOut hg 116 dX3_word_11 (ho) (by decide) ?_
      refine y_bipush (v := -2) hg dX3_word_116 rfl ?_
      refine y_iret hg hr ⟨_, rfl, ?_⟩ dX3_word_118 (Nat.le_refl _) (Nat.le_refl _)
      exact E _ (sel_o (ho.imp id (fun z => z))).symm
  · refine y_iconst (v := -1) hg dX3_word_8 rfl ?_
    refine y_iret hg hr ⟨_, rfl, ?_⟩ dX3_word_9 (Nat.le_refl _) (Nat.le_refl _)
    have eo : rWord A w v = -1 := by unfold rWord; rw [if_neg (b2F hc)]
    exact ⟨eo.symm, hR, FrR.rf⟩
/-- letter -/
def leL (A : Ab) (n : Nat) : List Int32 := [A 11 n, hav A n, A 11 (21 + n)]
theorem le_k {w : Nat} (k : Nat) (hk : k < 3) : (leL A w).getD k (-2) = sel (leL A w) (-2) (nI k) := (sel_k (l := leL A w) (show k < 3 from hk) (show 3 < 2147483648 by decide)).symm
def rLetter (A : Ab) (x v : Int32) : Int32 := if inL x.toInt64 0 7 = true ∧ (v = nI 2 → inL x.toInt64 0 3 = true) then sel (leL A x.toNatClampNeg) (-2) v else -1
theorem cX_letter (hW : WFA A) (hR : RX B A sd σ) (x v : Int32) : MT ll B 24 0 0 yX0_letter cX0_letter 3 (some .int) [.ref (B.1 + 0), .int x, .int v] σ (oX B sd σ (rLetter A x v, A)) := by
  have hL := hR.1
  have hm := hW.nmle
  refine MT.of (by decide) (Nat.le_of_ble_eq_true rfl) (fun g hg hr => ?_)
  have BAD : ¬ (inL x.toInt64 0 7 = true ∧ (v = nI 2 → inL x.toInt64 0 3 = true)) → YY g 3 σ 0 0 19 [(0, .ref (B.1 + 0)), (1, .int x), (2, .int v)] [] := by
    intro h
    refine y_iconst (v := -1) hg dX0_letter_19 rfl ?_
    refine y_iret hg hr ⟨_, rfl, ?_⟩ dX0_letter_20 (Nat.le_refl _) (Nat.le_refl _)
    have eo : rLetter A x v = -1 := by unfold rLetter; rw [if_neg h]
    rw [eo]
    exact ⟨rfl, hR, Fr.rf⟩
  have OK : inL x.toInt64 0 7 = true → (v = nI 2 → inL x.toInt64 0 3 = true) → YY g 3 σ 0 0 21 [(0, .ref (B.1 + 0)), (1, .int x), (2, .int v)] [] := by
    intro h h2
    have eo : rLetter A x v = sel (leL A x.toNatClampNeg) (-2) v := by unfold rLetter; rw [if_pos ⟨h, h2⟩]
    obtain ⟨x, hx, rfl⟩ := (inL_iff 7 rfl (by decide)).mp h
    rw [nI_clamp (by omega)] at eo
    rw [eo] at hr
    have E : ∀ r, r = sel (leL A x) (-2) v → (r = (sel (leL A x) (-2) v, A).1 ∧ RX B (sel (leL A x) (-2) v, A).2 sd σ ∧ Fr (fun a _ => a < 157) σ σ) := fun r h => ⟨h, hR, Fr.rf⟩
    refine y_iload_n hg dX0_letter_21 rfl ?_
    rcases ts_split v 2 (by decide) with ⟨k, hk, rfl⟩ | ho
    · have hk8 : k = 0 ∨ k = 1 ∨ k = 2 := by omega
      rcases hk8 with rfl | rfl | rfl
      · refine y_tsIn hg 48 dX0_letter_22 (by decide) (by decide) rfl (by decide) ?_
        refine y_aload_n hg dX0_letter_48 rfl ?_
        refine y_getr (j := 2) hg cf0 (hL.x) (by decide) rfl (hL.r_now) q174 dX0_letter_49 ?_
        refine y_getrN (j := 0) hg cf1 (hL.s_now.o) (by decide) rfl (hL.s_now.r_bag) nf0 dX0_letter_52 ?_
        refine y_iload_n hg dX0_letter_55 rfl ?_
        refine y_iald hg _ (hL.s_now.k_bag) rfl (by omega) dX0_letter_56 ?_
        refine y_iret hg hr ⟨_, rfl, ?_⟩ dX0_letter_57 (Nat.le_refl _) (Nat.le_refl _)
        exact E _ ((hR.bag (by omega)).trans (le_k 0 (by decide)))
      · refine y_tsIn hg 58 dX0_letter_22 (by decide) (by decide) rfl (by decide) ?_
        refine y_aload_n hg dX0_letter_58 rfl ?_
        refine y_iload_n hg dX0_letter_59 rfl ?_
        refine y_cVi hg (cX_wordsWith hW hR (by omega)) iX0_wordsWith q448 (hL.x) cf0 rfl rfl (by simp [Value.category]) (Nat.le_refl _) (Nat.le_refl _) (by decide) dX0_letter_60 (fun r σ2 hp => ?_)
        obtain ⟨rfl, rfl⟩ := hp
        refine y_iret hg hr ⟨_, rfl, ?_⟩ dX0_letter_63 (Nat.le_refl _) (Nat.le_refl _)
        exact E _ (le_k 1 (by decide))
      · obtain ⟨y, hy, ey⟩ := (inL_iff 3 rfl (by decide)).mp (h2 rfl)
        have ey := nI_inj (by omega) (by omega) ey
        subst ey
        refine y_tsIn hg 64 dX0_letter_22 (by decide) (by decide) rfl (by decide) ?_
        refine y_aload_n hg dX0_letter_64 rfl ?_
        refine y_getr (j := 2) hg cf0 (hL.x) (by decide) rfl (hL.r_now) q174 dX0_letter_65 ?_
        refine y_getrN (j := 5) hg cf1 (hL.s_now.o) (by decide) rfl (hL.s_now.r_follows) nf5 dX0_letter_68 ?_
        refine y_iload_n hg dX0_letter_71 rfl ?_
        refine y_iald hg _ (hL.s_now.k_follows) rfl (by omega) dX0_letter_72 ?_
        refine y_iret hg hr ⟨_, rfl, ?_⟩ dX0_letter_73 (Nat.le_refl _) (Nat.le_refl _)
        exact E _ ((hR.follows (by omega)).trans (le_k 2 (by decide)))
    · refine y_tsOut hg 74 dX0_letter_22 (ho) (by decide) ?_
      refine y_bipush (v := -2) hg dX0_letter_74 rfl ?_
      refine y_iret hg hr ⟨_, rfl, ?_⟩ dX0_letter_76 (Nat.le_refl _) (Nat.le_refl _)
      exact E _ (sel_o (ho.imp id (fun z => z))).symm
  refine y_iload_n hg dX0_letter_0 rfl ?_
  refine y_cSi hg (cX_isLetter _) iX0_isLetter q467 rfl rfl (by simp [Value.category]) (Nat.le_refl _) (Nat.le_refl _) (by decide) dX0_letter_1 (fun r σ1 hp => ?_)
  obtain ⟨rfl, rfl⟩ := hp
  refine y_if_eq hg 19 dX0_letter_4 (by decide) (fun hc => ?_) (fun hc => ?_)
  · exact BAD (fun z => b2F hc z.1)
  refine y_iload_n hg dX0_letter_7 rfl ?_
  refine y_iconst (v := nI 2) hg dX0_letter_8 rfl ?_
  refine y_icmp_ne hg 21 dX0_letter_9 (by decide) (fun hc1 => ?_) (fun hc1 => ?_)
  · exact OK (b2T hc) (fun z => absurd z hc1)
  refine y_iload_n hg dX0_letter_12 rfl ?_
  refine y_cSi hg (cX_isKind _) iX0_isKind q471 rfl rfl (by simp [Value.category]) (Nat.le_refl _) (Nat.le_refl _) (by decide) dX0_letter_13 (fun r σ1 hp => ?_)
  obtain ⟨rfl, rfl⟩ := hp
  refine y_if_ne hg 21 dX0_letter_16 (by decide) (fun hc2 => ?_) (fun hc2 => ?_)
  · exact OK (b2T hc) (fun _ => b2T hc2)
  · exact BAD (fun z => b2F hc2 (z.2 hc1))
theorem cM_letter (hW : WFA A) (hR : RMm B A sd σ) (x v : Int32) : MT ll B 24 0 0 yX3_letter cX3_letter 3 (some .int) [.ref (B.1 + 157), .int x, .int v] σ (oM B sd σ (rLetter A x v, A)) := by
  have hM := hR.1
  have hm := hW.nmle
  refine MT.of (by decide) (Nat.le_of_ble_eq_true rfl) (fun g hg hr => ?_)
  have BAD : ¬ (inL x.toInt64 0 7 = true ∧ (v = nI 2 → inL x.toInt64 0 3 = true)) → YY g 3 σ 0 0 19 [(0, .ref (B.1 + 157)), (1, .int x), (2, .int v)] [] := by
    intro h
    refine y_iconst (v := -1) hg dX3_letter_19 rfl ?_
    refine y_iret hg hr ⟨_, rfl, ?_⟩ dX3_letter_20 (Nat.le_refl _) (Nat.le_refl _)
    have eo : rLetter A x v = -1 := by unfold rLetter; rw [if_neg h]
    rw [eo]
    exact ⟨rfl, hR, FrR.rf⟩
  have OK : inL x.toInt64 0 7 = true → (v = nI 2 → inL x.toInt64 0 3 = true) → YY g 3 σ 0 0 21 [(0, .ref (B.1 + 157)), (1, .int x), (2, .int v)] [] := by
    intro h h2
    have eo : rLetter A x v = sel (leL A x.toNatClampNeg) (-2) v := by unfold rLetter; rw [if_pos ⟨h, h2⟩]
    obtain ⟨x, hx, rfl⟩ := (inL_iff 7 rfl (by decide)).mp h
    rw [nI_clamp (by omega)] at eo
    rw [eo] at hr
    have E : ∀ r, r = sel (leL A x) (-2) v → (r = (sel (leL A x) (-2) v, A).1 ∧ RMm B (sel (leL A x) (-2) v, A).2 sd σ ∧ FrR (fun a _ => 157 ≤ a) σ σ) := fun r h => ⟨h, hR, FrR.rf⟩
    refine y_iload_n hg dX3_letter_21 rfl ?_
    rcases ts_split v 2 (by decide) with ⟨k, hk, rfl⟩ | ho
    · have hk8 : k = 0 ∨ k = 1 ∨ k = 2 := by omega
      rcases hk8 with rfl | rfl | rfl
      · refine y_tsIn hg 48 dX3_letter_22 (by decide) (by decide) rfl (by decide) ?_
        refine y_aload_n hg dX3_letter_48 rfl ?_
        refine y_getr (j := 7) hg cf3 (hM.m) (by decide) rfl (hM.r_now) q918 dX3_letter_49 ?_
        refine y_iload_n hg dX3_letter_52 rfl ?_
        refine y_iald hg _ (hM.k_now) rfl (by omega) dX3_letter_53 ?_
        refine y_iret hg hr ⟨_, rfl, ?_⟩ dX3_letter_54 (Nat.le_refl _) (Nat.le_refl _)
        exact E _ ((hR.bag (by omega)).trans (le_k 0 (by decide)))
      · refine y_tsIn hg 55 dX3_letter_22 (by decide) (by decide) rfl (by decide) ?_
        refine y_aload_n hg dX3_letter_55 rfl ?_
        refine y_iload_n hg dX3_letter_56 rfl ?_
        refine y_cVi hg (cM_havers hW hR (by omega)) iX3_havers q1182 (hM.m) cf3 rfl rfl (by simp [Value.category]) (Nat.le_refl _) (Nat.le_refl _) (by decide) dX3_letter_57 (fun r σ2 hp => ?_)
        obtain ⟨rfl, rfl⟩ := hp
        refine y_iret hg hr ⟨_, rfl, ?_⟩ dX3_letter_60 (Nat.le_refl _) (Nat.le_refl _)
        exact E _ (le_k 1 (by decide))
      · obtain ⟨y, hy, ey⟩ := (inL_iff 3 rfl (by decide)).mp (h2 rfl)
        have ey := nI_inj (by omega) (by omega) ey
        subst ey
        refine y_tsIn hg 61 dX3_letter_22 (by decide) (by decide) rfl (by decide) ?_
        refine y_aload_n hg dX3_letter_61 rfl ?_
        refine y_getr (j := 7) hg cf3 (hM.m) (by decide) rfl (hM.r_now) q918 dX3_letter_62 ?_
        refine y_bipush (v := nI 21) hg dX3_letter_65 rfl ?_
        refine y_iload_n hg dX3_letter_67 rfl ?_
        refine y_iadd hg dX3_letter_68 ?_
        refine y_ti (nI_add _ _) ?_
        refine y_iald hg _ (hM.k_now) rfl (by omega) dX3_letter_69 ?_
        refine y_iret hg hr ⟨_, rfl, ?_⟩ dX3_letter_70 (Nat.le_refl _) (Nat.le_refl _)
        exact E _ ((hR.now (by omega)).trans (le_k 2 (by decide)))
    · refine y_tsOut hg 71 dX3_letter_22 (ho) (by decide) ?_
      refine y_bipush (v := -2) hg dX3_letter_71 rfl ?_
      refine y_iret hg hr ⟨_, rfl, ?_⟩ dX3_letter_73 (Nat.le_refl _) (Nat.le_refl _)
      exact E _ (sel_o (ho.imp id (fun z => z))).symm
  refine y_iload_n hg dX3_letter_0 rfl ?_
  refine y_cSi hg (cM_isLetter _) iX3_isLetter q1198 rfl rfl (by simp [Value.category]) (Nat.le_refl _) (Nat.le_refl _) (by decide) dX3_letter_1 (fun r σ1 hp => ?_)
  obtain ⟨rfl, rfl⟩ := hp
  refine y_if_eq hg 19 dX3_letter_4 (by decide) (fun hc => ?_) (fun hc => ?_)
  · exact BAD (fun z => b2F hc z.1)
  refine y_iload_n hg dX3_letter_7 rfl ?_
  refine y_iconst (v := nI 2) hg dX3_letter_8 rfl ?_
  refine y_icmp_ne hg 21 dX3_letter_9 (by decide) (fun hc1 => ?_) (fun hc1 => ?_)
  · exact OK (b2T hc) (fun z => absurd z hc1)
  refine y_iload_n hg dX3_letter_12 rfl ?_
  refine y_cSi hg (cM_isKind _) iX3_isKind q1096 rfl rfl (by simp [Value.category]) (Nat.le_refl _) (Nat.le_refl _) (by decide) dX3_letter_13 (fun r σ1 hp => ?_)
  obtain ⟨rfl, rfl⟩ := hp
  refine y_if_ne hg 21 dX3_letter_16 (by decide) (fun hc2 => ?_) (fun hc2 => ?_)
  · exact OK (b2T hc) (fun _ => b2T hc2)
  · exact BAD (fun z => b2F hc2 (z.2 hc1))
end Wd3

