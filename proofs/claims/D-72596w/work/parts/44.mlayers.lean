section MLayers
variable {ll : Launch} {B : Bs} {σ : Mem}
def MYP : Nat → Nat → Prop := fun a _ => a = 180 ∨ a = 181
theorem cM_manyBy {P : Pb} {n : Nat} (hP : WFP P) (hX : PM B σ P) (hn1 : 1 ≤ n) (hn12 : n ≤ 12) :
    MT ll B 2 0 0 yX3_manyBy cX3_manyBy 9 (some .long) [.ref (B.1 + 157), .int (nI n)] σ (pL fun v σ' => v = lN (gJ P n (nS P - 1) 4) ∧ FrR MYP σ σ') := by
  have h10 := hP.1
  have hnS := nS_le hP
  have hpos := nS_pos P
  have hn := hX.1.n
  have hEM : ∀ a j, MYP a j → EM a j := fun a j h => by unfold MYP at h; unfold EM; omega
  refine MT.of (by decide) (Nat.le_of_ble_eq_true rfl) (fun g hg hr => ?_)
  refine y_iconst (v := nI 0) hg dX3_manyBy_0 rfl ?_
  refine y_istore_n hg dX3_manyBy_1 (by decide) (lv1 := [(0, _), (1, _), (2, _)]) rfl ?_
  refine (loop_st (S := Mem) (G := fun i s => YY g 9 s 0 0 2 [(0, .ref (B.1 + 157)), (1, .int (nI n)), (2, .int (nI i))] []) (I := fun i s => FrR MYP σ s ∧ ∀ q, q < i → s.2.2.2.1 180 q = lN 0) (5 * nS P) (fun i s hi hI ih => ?_) (fun s hI => ?_) 0 _ (Nat.zero_le _) ⟨FrR.rf, fun q hq => absurd hq (by omega)⟩)
  · obtain ⟨hf, h1⟩ := hI
    have hXs := hX.fr hf hEM
    have hM := hXs.1
    have hwh := hXs.2.2.2.2.1
    refine y_iload_n hg dX3_manyBy_2 rfl ?_
    refine y_iconst (v := nI 5) hg dX3_manyBy_3 rfl ?_
    refine y_aload_n hg dX3_manyBy_4 rfl ?_
    refine y_geti (j := 31) hg cf3 (hM.m) (by decide) rfl q942 dX3_manyBy_5 ?_
    refine y_ti (hwh) ?_
    refine y_imul hg dX3_manyBy_8 ?_
    refine y_ti (pk_mul _ _) ?_
    refine y_iconst (v := nI 4) hg dX3_manyBy_9 rfl ?_
    refine y_iadd hg dX3_manyBy_10 ?_
    refine y_ti (nI_add _ _) ?_
    refine y_icmp_gt hg 27 dX3_manyBy_11 (by decide) (fun hT => absurd hT (nI_nlt (by omega) (by omega))) (fun _ => ?_)
    refine y_aload_n hg dX3_manyBy_14 rfl ?_
    refine y_getr (j := 35) hg cf3 (hM.m) (by decide) rfl (hM.r_layer) q946 dX3_manyBy_15 ?_
    refine y_iload_n hg dX3_manyBy_18 rfl ?_
    refine y_lconst (v := 0) hg dX3_manyBy_19 rfl ?_
    refine y_last hg _ (hM.k_layer) rfl (by omega) dX3_manyBy_20 ?_
    refine y_iinc hg dX3_manyBy_21 rfl (inc1 _) (by decide) (lv1 := [(0, _), (1, _), (2, _)]) rfl ?_
    refine y_goto hg 2 dX3_manyBy_24 (by decide) ?_
    refine ih _ ⟨hf.stL (Or.inl rfl), fun q hq => ?_⟩
    by_cases e : q = i
    · subst e; exact gL_s
    · exact (gL_n (by omega)).trans (h1 q (by omega))
  obtain ⟨hf, h1⟩ := hI
  have hXs := hX.fr hf hEM
  have hM := hXs.1
  have hwh := hXs.2.2.2.2.1
  refine y_iload_n hg dX3_manyBy_2 rfl ?_
  refine y_iconst (v := nI 5) hg dX3_manyBy_3 rfl ?_
  refine y_aload_n hg dX3_manyBy_4 rfl ?_
  refine y_geti (j := 31) hg cf3 (hM.m) (by decide) rfl q942 dX3_manyBy_5 ?_
  refine y_ti (hwh) ?_
  refine y_imul hg dX3_manyBy_8 ?_
  refine y_ti (pk_mul _ _) ?_
  refine y_iconst (v := nI 4) hg dX3_manyBy_9 rfl ?_
  refine y_iadd hg dX3_manyBy_10 ?_
  refine y_ti (nI_add _ _) ?_
  refine y_icmp_gt hg 27 dX3_manyBy_11 (by decide) (fun _ => ?_) (fun hF => absurd (nI_lt (by omega) (by omega)) hF)
  refine y_iconst (v := nI 1) hg dX3_manyBy_27 rfl ?_
  refine y_istore_n hg dX3_manyBy_28 (by decide) (lv1 := [(0, _), (1, _), (2, _)]) rfl ?_
  -- lay t: what the layer holds after t steps (nothing ahead of the first)
  have LOOP := loop_st (S := Mem) (G := fun t s => YY g 9 s 0 0 29 [(0, .ref (B.1 + 157)), (1, .int (nI n)), (2, .int (nI (1 + t)))] []) (I := fun t s => FrR MYP σ s ∧ ∀ q, q < 5 * nS P → s.2.2.2.1 180 q = lN (if t = 0 then 0 else gJ P t (q / 5) (q % 5))) n ?_ ?_ 0 s (Nat.zero_le _) ⟨hf, fun q hq => h1 q hq⟩
  · exact LOOP
  · intro t s ht hI ih
    obtain ⟨hf, h2⟩ := hI
    -- what a word adds
    have hval : ∀ q w, q < 5 * nS P → w < P.1 → mayB P w (q / 5) (q % 5) = true → 0 < q / 5 - stp P w → s.2.2.2.1 180 (5 * (q / 5 - stp P w) + P.2.2.1 w) = lN (gJ P t (q / 5 - stp P w) (P.2.2.1 w)) := by
      intro q w hq hw hm h0
      have hkd4 := (hP.2.1 w hw).1
      rw [h2 _ (by omega), show (5 * (q / 5 - stp P w) + P.2.2.1 w) / 5 = q / 5 - stp P w by omega, show (5 * (q / 5 - stp P w) + P.2.2.1 w) % 5 = P.2.2.1 w by omega]
      by_cases e : t = 0
      · rw [if_pos e, e]
        show lN 0 = lN (if _ ∧ _ then 1 else 0)
        rw [if_neg (fun z => by omega)]
      · rw [if_neg e]
    refine y_iload_n hg dX3_manyBy_29 rfl ?_
    refine y_iload_n hg dX3_manyBy_30 rfl ?_
    refine y_icmp_gt hg 217 dX3_manyBy_31 (by decide) (fun hT => absurd hT (nI_nlt (by omega) (by omega))) (fun _ => ?_)
    refine y_iconst (v := nI 0) hg dX3_manyBy_34 rfl ?_
    refine y_istore_n hg dX3_manyBy_35 (by decide) (lv1 := [(0, _), (1, _), (2, _), (3, _)]) rfl ?_
    refine (loop_st (S := Mem) (G := fun q u => YY g 9 u 0 0 36 [(0, .ref (B.1 + 157)), (1, .int (nI n)), (2, .int (nI (1 + t))), (3, .int (nI q))] []) (I := fun q u => FrR (fun a _ => a = 181) s u ∧ ∀ p, p < q → u.2.2.2.1 181 p = lN (gJ P (t + 1) (p / 5) (p % 5))) (5 * nS P) (fun q u hq hI ih2 => ?_) (fun u hI => ?_) 0 s (Nat.zero_le _) ⟨FrR.rf, fun p hp => absurd hp (by omega)⟩)
    · obtain ⟨hfu, h3⟩ := hI
      have hXu := (hX.fr hf hEM).fr hfu (fun a j h => by unfold EM; omega)
      have hns := (hX.fr hf hEM).1.n
      have hM := hXu.1
      have hW := hXu.2.1
      have hwh := hXu.2.2.2.2.1
      have hop := hXu.2.2.1
      have hrS : q / 5 < nS P := by omega
      have hk : q % 5 < 5 := Nat.mod_lt _ (by omega)
      have hdv : nI q / nI 5 = nI (q / 5) := pk_div (by omega) (by omega) (by omega)
      have hrm : nI q - nI q / nI 5 * nI 5 = nI (q % 5) := pk_rem (by omega) (by omega) (by omega)
      obtain ⟨A, hA⟩ : ∃ A : Nat → Nat, A = fun w => if mayB P w (q / 5) (q % 5) = true then gJ P t (q / 5 - stp P w) (P.2.2.1 w) else 0 := ⟨_, rfl⟩
      refine y_iload_n hg dX3_manyBy_36 rfl ?_
      refine y_iconst (v := nI 5) hg dX3_manyBy_37 rfl ?_
      refine y_aload_n hg dX3_manyBy_38 rfl ?_
      refine y_geti (j := 31) hg cf3 (hM.m) (by decide) rfl q942 dX3_manyBy_39 ?_
      refine y_ti (hwh) ?_
      refine y_imul hg dX3_manyBy_42 ?_
      refine y_ti (pk_mul _ _) ?_
      refine y_iconst (v := nI 4) hg dX3_manyBy_43 rfl ?_
      refine y_iadd hg dX3_manyBy_44 ?_
      refine y_ti (nI_add _ _) ?_
      refine y_icmp_gt hg 179 dX3_manyBy_45 (by decide) (fun hT => absurd hT (nI_nlt (by omega) (by omega))) (fun _ => ?_)
      refine y_lconst (v := 0) hg dX3_manyBy_48 rfl ?_
      refine y_lstore hg dX3_manyBy_49 (by decide) (lv1 := [(0, _), (1, _), (2, _), (3, _), (4, _)]) rfl ?_
      refine y_iconst (v := nI 0) hg dX3_manyBy_51 rfl ?_
      refine y_istore hg dX3_manyBy_52 (by decide) (lv1 := [(0, _), (1, _), (2, _), (3, _), (4, _), (6, _)]) rfl ?_
      refine (loop_up (G := fun w => YY g 9 u 0 0 54 [(0, .ref (B.1 + 157)), (1, .int (nI n)), (2, .int (nI (1 + t))), (3, .int (nI q)), (4, .long (lN (sm A w))), (6, .int (nI w))] []) P.1 (fun w hw ih3 => ?_) ?_ 0 (Nat.zero_le _))
      · have hkd4 := (hP.2.1 w hw).1
        have hkd := (hW.2 w hw).1
        have hpr := hXu.2.2.2.2.2.2.1 w hw
        have J : ∀ (v : Int64) (x7 x8 : Int32), v = lN (A w) → YY g 9 u 0 0 156 [(0, .ref (B.1 + 157)), (1, .int (nI n)), (2, .int (nI (1 + t))), (3, .int (nI q)), (4, .long (lN (sm A w))), (6, .int (nI w)), (7, .int x7), (8, .int x8)] [.long v, .long (lN (sm A w))] := by
          intro v x7 x8 hv
          subst hv
          refine y_ladd hg dX3_manyBy_156 ?_
          refine y_tl (lN_add _ _) ?_
          refine y_lstore hg dX3_manyBy_157 (by decide) (lv1 := [(0, _), (1, _), (2, _), (3, _), (4, _), (6, _), (7, _), (8, _)]) rfl ?_
          refine y_iinc hg dX3_manyBy_159 rfl (inc1 _) (by decide) (lv1 := [(0, _), (1, _), (2, _), (3, _), (4, _), (6, _), (7, _), (8, _)]) rfl ?_
          refine y_goto hg 54 dX3_manyBy_162 (by decide) ?_
          exact y_sub [0, 1, 2, 3, 4, 5] rfl ih3
        refine y_iload hg dX3_manyBy_54 rfl ?_
        refine y_aload_n hg dX3_manyBy_56 rfl ?_
        refine y_geti (j := 2) hg cf3 (hM.m) (by decide) rfl q913 dX3_manyBy_57 ?_
        refine y_ti (hW.1) ?_
        refine y_icmp_ge hg 165 dX3_manyBy_60 (by decide) (fun hT => absurd hT (ge_c hw (by omega))) (fun _ => ?_)
        refine y_iload_n hg dX3_manyBy_63 rfl ?_
        refine y_iconst (v := nI 5) hg dX3_manyBy_64 rfl ?_
        refine y_idiv hg dX3_manyBy_65 (by decide) ?_
        refine y_ti (hdv) ?_
        refine y_aload_n hg dX3_manyBy_66 rfl ?_
        refine y_getr (j := 33) hg cf3 (hM.m) (by decide) rfl (hM.r_price) q944 dX3_manyBy_67 ?_
        refine y_iload hg dX3_manyBy_70 rfl ?_
        refine y_iald hg _ (hM.k_price) rfl (by omega) dX3_manyBy_72 ?_
        refine y_ti (hpr) ?_
        refine y_isub hg dX3_manyBy_73 ?_
        refine y_istore hg dX3_manyBy_74 (by decide) (lv1 := [(0, _), (1, _), (2, _), (3, _), (4, _), (6, _), (7, _)]) rfl ?_
        refine y_aload_n hg dX3_manyBy_76 rfl ?_
        refine y_iload_n hg dX3_manyBy_77 rfl ?_
        refine y_iconst (v := nI 5) hg dX3_manyBy_78 rfl ?_
        refine y_idiv hg dX3_manyBy_79 (by decide) ?_
        refine y_ti (hdv) ?_
        refine y_iload_n hg dX3_manyBy_80 rfl ?_
        refine y_iconst (v := nI 5) hg dX3_manyBy_81 rfl ?_
        refine y_irem hg dX3_manyBy_82 (by decide) ?_
        refine y_ti (hrm) ?_
        refine y_iload hg dX3_manyBy_83 rfl ?_
        refine y_cVi hg (cM_mayCome hP hXu hw hrS hk) iX3_mayCome q1150 (hM.m) cf3 rfl rfl (by simp [Value.category]) (Nat.le_refl _) (Nat.le_refl _) (by decide) dX3_manyBy_85 (fun r σ1 hp => ?_)
        obtain ⟨rfl, rfl⟩ := hp
        refine y_istore hg dX3_manyBy_88 (by decide) (lv1 := [(0, _), (1, _), (2, _), (3, _), (4, _), (6, _), (7, _), (8, _)]) rfl ?_
        refine y_lload hg dX3_manyBy_90 rfl ?_
        refine y_iload hg dX3_manyBy_92 rfl ?_
        refine y_if_ne hg 101 dX3_manyBy_94 (by decide) (fun hc => ?_) (fun hc => ?_)
        · have hmay := (b2_ne _).mp hc
          have hle := stp_le (may_fit hmay)
          have hAw : A w = gJ P t (q / 5 - stp P w) (P.2.2.1 w) := by rw [hA]; exact if_pos hmay
          rw [pk_sub hle]
          refine y_iload hg dX3_manyBy_101 rfl ?_
          refine y_if_le hg 126 dX3_manyBy_103 (by decide) (fun hc2 => ?_) (fun hc2 => ?_)
          · have h0 : q / 5 - stp P w = 0 := by
              rcases Nat.eq_zero_or_pos (q / 5 - stp P w) with z | z
              · exact z
              · exact absurd hc2 (nI_nle z (by omega))
            have hAw0 : A w = if t = 0 ∧ endB P (P.2.2.1 w) = true then 1 else 0 := by
              rw [hAw, h0]
              cases t with
              | zero => show (if _ ∧ _ then 1 else 0) = _; simp
              | succ t => rw [gJ_z hP, if_neg (fun z => by omega)]
            refine y_iload_n hg dX3_manyBy_126 rfl ?_
            refine y_iconst (v := nI 1) hg dX3_manyBy_127 rfl ?_
            refine y_icmp_ne hg 155 dX3_manyBy_128 (by decide) (fun hc3 => ?_) (fun hc3 => ?_)
            · refine y_lconst (v := 0) hg dX3_manyBy_155 rfl ?_
              refine J _ _ _ ?_
              have ht0 : t ≠ 0 := fun e => hc3 (by rw [e])
              rw [hAw0, if_neg (fun z => ht0 z.1)]
              rfl
            · have ht0 : t = 0 := by
                have := nI_inj (a := 1 + t) (b := 1) (by omega) (by omega) hc3
                omega
              refine y_aload_n hg dX3_manyBy_131 rfl ?_
              refine y_getr (j := 29) hg cf3 (hM.m) (by decide) rfl (hM.r_open) q940 dX3_manyBy_132 ?_
              refine y_bipush (v := nI 20) hg dX3_manyBy_135 rfl ?_
              refine y_iald hg _ (hM.k_open) rfl (by omega) dX3_manyBy_137 ?_
              refine y_ti (hop 20 (by omega)) ?_
              refine y_aload_n hg dX3_manyBy_138 rfl ?_
              refine y_getr (j := 5) hg cf3 (hM.m) (by decide) rfl (hM.r_kind) q916 dX3_manyBy_139 ?_
              refine y_iload hg dX3_manyBy_142 rfl ?_
              refine y_iald hg _ (hM.k_kind) rfl (by omega) dX3_manyBy_144 ?_
              refine y_ti (hkd) ?_
              refine y_cSi hg (cM_has _ _) iX3_has q1100 rfl rfl (by simp [Value.category]) (Nat.le_refl _) (Nat.le_refl _) (by decide) dX3_manyBy_145 (fun r σ1 hp => ?_)
              obtain ⟨rfl, rfl⟩ := hp
              refine y_if_eq hg 155 dX3_manyBy_148 (by decide) (fun hc4 => ?_) (fun hc4 => ?_)
              · refine y_lconst (v := 0) hg dX3_manyBy_155 rfl ?_
                refine J _ _ _ ?_
                rw [hAw0, endB, (b2_eq _).mp hc4, Bool.and_false, if_neg (fun z => by cases z.2)]
                rfl
              · refine y_lconst (v := 1) hg dX3_manyBy_151 rfl ?_
                refine y_goto hg 156 dX3_manyBy_152 (by decide) ?_
                refine J _ _ _ ?_
                rw [hAw0, endB, (b2_ne _).mp hc4, decide_eq_true hkd4, if_pos ⟨ht0, rfl⟩]
                rfl
          · have h0 : 0 < q / 5 - stp P w := by
              rcases Nat.eq_zero_or_pos (q / 5 - stp P w) with z | z
              · exact absurd (by rw [z]; decide) hc2
              · exact z
            refine y_aload_n hg dX3_manyBy_106 rfl ?_
            refine y_getr (j := 35) hg cf3 (hM.m) (by decide) rfl (hM.r_layer) q946 dX3_manyBy_107 ?_
            refine y_iconst (v := nI 5) hg dX3_manyBy_110 rfl ?_
            refine y_iload hg dX3_manyBy_111 rfl ?_
            refine y_imul hg dX3_manyBy_113 ?_
            refine y_ti (pk_mul _ _) ?_
            refine y_aload_n hg dX3_manyBy_114 rfl ?_
            refine y_getr (j := 5) hg cf3 (hM.m) (by decide) rfl (hM.r_kind) q916 dX3_manyBy_115 ?_
            refine y_iload hg dX3_manyBy_118 rfl ?_
            refine y_iald hg _ (hM.k_kind) rfl (by omega) dX3_manyBy_120 ?_
            refine y_ti (hkd) ?_
            refine y_iadd hg dX3_manyBy_121 ?_
            refine y_ti (nI_add _ _) ?_
            refine y_lald hg _ (hM.k_layer) rfl (by omega) dX3_manyBy_122 ?_
            refine y_tl ((hfu.l (by omega) (by omega)).trans (hval q w hq hw hmay h0)) ?_
            refine y_goto hg 156 dX3_manyBy_123 (by decide) ?_
            exact J _ _ _ (by rw [hAw])
        · refine y_lconst (v := 0) hg dX3_manyBy_97 rfl ?_
          refine y_goto hg 156 dX3_manyBy_98 (by decide) ?_
          refine J _ _ _ ?_
          rw [hA]
          show _ = lN (if _ then _ else 0)
          rw [if_neg (by rw [(b2_eq _).mp hc]; decide)]
          rfl
      · refine y_iload hg dX3_manyBy_54 rfl ?_
        refine y_aload_n hg dX3_manyBy_56 rfl ?_
        refine y_geti (j := 2) hg cf3 (hM.m) (by decide) rfl q913 dX3_manyBy_57 ?_
        refine y_ti (hW.1) ?_
        refine y_icmp_ge hg 165 dX3_manyBy_60 (by decide) (fun _ => ?_) (fun hF => absurd (le_c (Nat.le_refl _) (by omega)) hF)
        refine y_aload_n hg dX3_manyBy_165 rfl ?_
        refine y_getr (j := 36) hg cf3 (hM.m) (by decide) rfl (hM.r_later) q947 dX3_manyBy_166 ?_
        refine y_iload_n hg dX3_manyBy_169 rfl ?_
        refine y_lload hg dX3_manyBy_170 rfl ?_
        refine y_last hg _ (hM.k_later) rfl (by omega) dX3_manyBy_172 ?_
        refine y_iinc hg dX3_manyBy_173 rfl (inc1 _) (by decide) (lv1 := [(0, _), (1, _), (2, _), (3, _), (4, _), (6, _)]) rfl ?_
        refine y_goto hg 36 dX3_manyBy_176 (by decide) ?_
        refine y_sub [0, 1, 2, 3] rfl (ih2 _ ⟨hfu.stL rfl, fun p hp => ?_⟩)
        by_cases e : p = q
        · subst e
          rw [gL_s, hA]
          rfl
        · exact (gL_n (by omega)).trans (h3 p (by omega))
    · obtain ⟨hfu, h3⟩ := hI
      have hXu := (hX.fr hf hEM).fr hfu (fun a j h => by unfold EM; omega)
      have hns := (hX.fr hf hEM).1.n
      have hM := hXu.1
      have hwh := hXu.2.2.2.2.1
      have hfu2 : FrR MYP σ u := hf.tr (hfu.mono (fun a j h => Or.inr h))
      refine y_iload_n hg dX3_manyBy_36 rfl ?_
      refine y_iconst (v := nI 5) hg dX3_manyBy_37 rfl ?_
      refine y_aload_n hg dX3_manyBy_38 rfl ?_
      refine y_geti (j := 31) hg cf3 (hM.m) (by decide) rfl q942 dX3_manyBy_39 ?_
      refine y_ti (hwh) ?_
      refine y_imul hg dX3_manyBy_42 ?_
      refine y_ti (pk_mul _ _) ?_
      refine y_iconst (v := nI 4) hg dX3_manyBy_43 rfl ?_
      refine y_iadd hg dX3_manyBy_44 ?_
      refine y_ti (nI_add _ _) ?_
      refine y_icmp_gt hg 179 dX3_manyBy_45 (by decide) (fun _ => ?_) (fun hF => absurd (nI_lt (by omega) (by omega)) hF)
      refine y_iconst (v := nI 0) hg dX3_manyBy_179 rfl ?_
      refine y_istore_n hg dX3_manyBy_180 (by decide) (lv1 := [(0, _), (1, _), (2, _), (3, _)]) rfl ?_
      refine (loop_st (S := Mem) (G := fun q v => YY g 9 v 0 0 181 [(0, .ref (B.1 + 157)), (1, .int (nI n)), (2, .int (nI (1 + t))), (3, .int (nI q))] []) (I := fun q v => FrR (fun a _ => a = 180) u v ∧ ∀ p, p < q → v.2.2.2.1 180 p = lN (gJ P (t + 1) (p / 5) (p % 5))) (5 * nS P) (fun q v hq hI ih2 => ?_) (fun v hI => ?_) 0 u (Nat.zero_le _) ⟨FrR.rf, fun p hp => absurd hp (by omega)⟩)
      · obtain ⟨hfv, h4⟩ := hI
        have hXv := hXu.fr hfv (fun a j h => by unfold EM; omega)
        have hnu := hXu.1.n
        have hM := hXv.1
        have hwh := hXv.2.2.2.2.1
        refine y_iload_n hg dX3_manyBy_181 rfl ?_
        refine y_iconst (v := nI 5) hg dX3_manyBy_182 rfl ?_
        refine y_aload_n hg dX3_manyBy_183 rfl ?_
        refine y_geti (j := 31) hg cf3 (hM.m) (by decide) rfl q942 dX3_manyBy_184 ?_
        refine y_ti (hwh) ?_
        refine y_imul hg dX3_manyBy_187 ?_
        refine y_ti (pk_mul _ _) ?_
        refine y_iconst (v := nI 4) hg dX3_manyBy_188 rfl ?_
        refine y_iadd hg dX3_manyBy_189 ?_
        refine y_ti (nI_add _ _) ?_
        refine y_icmp_gt hg 211 dX3_manyBy_190 (by decide) (fun hT => absurd hT (nI_nlt (by omega) (by omega))) (fun _ => ?_)
        refine y_aload_n hg dX3_manyBy_193 rfl ?_
        refine y_getr (j := 35) hg cf3 (hM.m) (by decide) rfl (hM.r_layer) q946 dX3_manyBy_194 ?_
        refine y_iload_n hg dX3_manyBy_197 rfl ?_
        refine y_aload_n hg dX3_manyBy_198 rfl ?_
        refine y_getr (j := 36) hg cf3 (hM.m) (by decide) rfl (hM.r_later) q947 dX3_manyBy_199 ?_
        refine y_iload_n hg dX3_manyBy_202 rfl ?_
        refine y_lald hg _ (hM.k_later) rfl (by omega) dX3_manyBy_203 ?_
        refine y_tl ((hfv.l (by omega) (by omega)).trans (h3 q hq)) ?_
        refine y_last hg _ (hM.k_layer) rfl (by omega) dX3_manyBy_204 ?_
        refine y_iinc hg dX3_manyBy_205 rfl (inc1 _) (by decide) (lv1 := [(0, _), (1, _), (2, _), (3, _)]) rfl ?_
        refine y_goto hg 181 dX3_manyBy_208 (by decide) ?_
        refine ih2 _ ⟨hfv.stL rfl, fun p hp => ?_⟩
        by_cases e : p = q
        · subst e; exact gL_s
        · exact (gL_n (by omega)).trans (h4 p (by omega))
      · obtain ⟨hfv, h4⟩ := hI
        have hXv := hXu.fr hfv (fun a j h => by unfold EM; omega)
        have hM := hXv.1
        have hwh := hXv.2.2.2.2.1
        refine y_iload_n hg dX3_manyBy_181 rfl ?_
        refine y_iconst (v := nI 5) hg dX3_manyBy_182 rfl ?_
        refine y_aload_n hg dX3_manyBy_183 rfl ?_
        refine y_geti (j := 31) hg cf3 (hM.m) (by decide) rfl q942 dX3_manyBy_184 ?_
        refine y_ti (hwh) ?_
        refine y_imul hg dX3_manyBy_187 ?_
        refine y_ti (pk_mul _ _) ?_
        refine y_iconst (v := nI 4) hg dX3_manyBy_188 rfl ?_
        refine y_iadd hg dX3_manyBy_189 ?_
        refine y_ti (nI_add _ _) ?_
        refine y_icmp_gt hg 211 dX3_manyBy_190 (by decide) (fun _ => ?_) (fun hF => absurd (nI_lt (by omega) (by omega)) hF)
        refine y_iinc hg dX3_manyBy_211 rfl (inc1 _) (by decide) (lv1 := [(0, _), (1, _), (2, _), (3, _)]) rfl ?_
        refine y_goto hg 29 dX3_manyBy_214 (by decide) ?_
        refine y_sub [0, 1, 2] rfl (ih _ ⟨hfu2.tr (hfv.mono (fun a j h => Or.inl h)), fun q hq => ?_⟩)
        rw [h4 q hq, if_neg (by omega)]
  · intro s hI
    obtain ⟨hf, h2⟩ := hI
    have hXs := hX.fr hf hEM
    have hM := hXs.1
    have hwh := hXs.2.2.2.2.1
    refine y_iload_n hg dX3_manyBy_29 rfl ?_
    refine y_iload_n hg dX3_manyBy_30 rfl ?_
    refine y_icmp_gt hg 217 dX3_manyBy_31 (by decide) (fun _ => ?_) (fun hF => absurd (nI_lt (by omega) (by omega)) hF)
    refine y_aload_n hg dX3_manyBy_217 rfl ?_
    refine y_getr (j := 35) hg cf3 (hM.m) (by decide) rfl (hM.r_layer) q946 dX3_manyBy_218 ?_
    refine y_iconst (v := nI 5) hg dX3_manyBy_221 rfl ?_
    refine y_aload_n hg dX3_manyBy_222 rfl ?_
    refine y_geti (j := 31) hg cf3 (hM.m) (by decide) rfl q942 dX3_manyBy_223 ?_
    refine y_ti (hwh) ?_
    refine y_imul hg dX3_manyBy_226 ?_
    refine y_ti (pk_mul _ _) ?_
    refine y_iconst (v := nI 4) hg dX3_manyBy_227 rfl ?_
    refine y_iadd hg dX3_manyBy_228 ?_
    refine y_ti (nI_add _ _) ?_
    refine y_lald hg _ (hM.k_layer) rfl (by omega) dX3_manyBy_229 ?_
    refine y_lret hg hr ⟨_, rfl, ?_⟩ dX3_manyBy_230 (Nat.le_refl _) (Nat.le_refl _)
    refine ⟨?_, hf⟩
    rw [h2 _ (by omega), if_neg (by omega), show (5 * (nS P - 1) + 4) / 5 = nS P - 1 by omega, show (5 * (nS P - 1) + 4) % 5 = 4 by omega]
theorem cM_few {P : Pb} {mo : Int32} (hP : WFP P) (hX : PM B σ P) :
    MT ll B 3 0 0 yX3_few cX3_few 4 (some .int) [.ref (B.1 + 157), .int mo] σ (pI fun v σ' => v = lenR P (decide (¬ mo = 0)) ∧ FrR MYP σ σ') := by
  have hEM : ∀ a j, MYP a j → EM a j := fun a j h => by unfold MYP at h; unfold EM; omega
  obtain ⟨p, hp0⟩ : ∃ p : Nat → Bool, p = fun j => decide (0 < gJ P j (nS P - 1) 4) := ⟨_, rfl⟩
  have hres : lenR P (decide (¬ mo = 0)) = fd (lenM p (decide (¬ mo = 0))) 12 (-9) := by rw [len_eq, hp0]; rfl
  rw [hres]
  refine MT.of (by decide) (Nat.le_of_ble_eq_true rfl) (fun g hg hr => ?_)
  refine y_bipush (v := -9) hg dX3_few_0 rfl ?_
  refine y_istore_n hg dX3_few_2 (by decide) (lv1 := [(0, _), (1, _), (2, _)]) rfl ?_
  refine y_bipush (v := nI 12) hg dX3_few_3 rfl ?_
  refine y_istore_n hg dX3_few_5 (by decide) (lv1 := [(0, _), (1, _), (2, _), (3, _)]) rfl ?_
  -- what is to come is the rest of the way down
  have LOOP := loop_dst (S := Mem × Int32) (G := fun i s => YY g 4 s.1 0 0 6 [(0, .ref (B.1 + 157)), (1, .int mo), (2, .int s.2), (3, .int (nI i))] []) (I := fun i s => i ≤ 12 ∧ FrR MYP σ s.1 ∧ fd (lenM p (decide (¬ mo = 0))) i s.2 = fd (lenM p (decide (¬ mo = 0))) 12 (-9)) ?_ ?_ 12 (σ, -9) ⟨Nat.le_refl _, FrR.rf, rfl⟩
  · exact LOOP
  · intro i s hI ih
    obtain ⟨s, acc⟩ := s
    obtain ⟨hi, hf, he⟩ := hI
    have hf : FrR MYP σ s := hf
    have hXs := hX.fr hf hEM
    have hM := hXs.1
    have hgb := gJ_le hP (i + 1) (nS P - 1) 4
    have hgb2 : gJ P (i + 1) (nS P - 1) 4 ≤ 10000000000000 := Nat.le_trans hgb (Nat.le_trans (Nat.pow_le_pow_right (by omega) (show i + 1 ≤ 13 by omega)) (by decide))
    have estep : fd (lenM p (decide (¬ mo = 0))) (i + 1) acc = fd (lenM p (decide (¬ mo = 0))) i (if 0 < gJ P (i + 1) (nS P - 1) 4 ∧ (mo = 0 ∨ acc = -9) then nI (i + 1) else acc) := by
      show fd _ i (lenM _ _ i acc) = _
      congr 1
      unfold lenM
      rw [hp0]
      simp only [decide_eq_true_eq, decide_eq_false_iff_not, Decidable.not_not]
    have he : fd (lenM p (decide (¬ mo = 0))) (i + 1) acc = fd (lenM p (decide (¬ mo = 0))) 12 (-9) := he
    rw [estep] at he
    have J : ∀ (s1 : Mem) (v : Int32), v = (if 0 < gJ P (i + 1) (nS P - 1) 4 ∧ (mo = 0 ∨ acc = -9) then nI (i + 1) else acc) → FrR MYP σ s1 → YY g 4 s1 0 0 35 [(0, .ref (B.1 + 157)), (1, .int mo), (2, .int acc), (3, .int (nI (i + 1)))] [.int v] := by
      intro s1 v hv hf1
      refine y_istore_n hg dX3_few_35 (by decide) (lv1 := [(0, _), (1, _), (2, _), (3, _)]) rfl ?_
      refine y_iinc hg dX3_few_36 rfl (dec1 _) (by decide) (lv1 := [(0, _), (1, _), (2, _), (3, _)]) rfl ?_
      refine y_goto hg 6 dX3_few_39 (by decide) ?_
      exact ih (s1, v) ⟨by omega, hf1, by show fd _ i v = _; rw [hv]; exact he⟩
    refine y_iload_n hg dX3_few_6 rfl ?_
    refine y_if_le hg 42 dX3_few_7 (by decide) (fun hT => absurd hT (nI_nle (by omega) (by omega))) (fun _ => ?_)
    refine y_aload_n hg dX3_few_10 rfl ?_
    refine y_iload_n hg dX3_few_11 rfl ?_
    refine y_cVl hg (cM_manyBy hP hXs (show 1 ≤ i + 1 by omega) hi) iX3_manyBy q1166 (hM.m) cf3 rfl rfl (by simp [Value.category]) (Nat.le_refl _) (Nat.le_refl _) (by decide) dX3_few_12 (fun r σ2 hp => ?_)
    obtain ⟨rfl, hf2⟩ := hp
    refine y_lconst (v := 0) hg dX3_few_15 rfl ?_
    refine y_lc_le hg 34 dX3_few_16 dX3_few_17 (by decide) (fun hc => ?_) (fun hc => ?_)
    · refine y_iload_n hg dX3_few_34 rfl ?_
      have h0 := (pk_lLE (b := 0) (by omega) (by omega)).mp hc
      exact J _ _ (by rw [if_neg (fun q => by omega)]) (hf.tr hf2)
    · have h0 : 0 < gJ P (i + 1) (nS P - 1) 4 := by
        rcases Nat.eq_zero_or_pos (gJ P (i + 1) (nS P - 1) 4) with z | z
        · exact absurd (by rw [z]; decide) hc
        · exact z
      refine y_iload_n hg dX3_few_20 rfl ?_
      refine y_if_eq hg 30 dX3_few_21 (by decide) (fun hc2 => ?_) (fun hc2 => ?_)
      · refine y_iload_n hg dX3_few_30 rfl ?_
        refine y_goto hg 35 dX3_few_31 (by decide) ?_
        exact J _ _ (by rw [if_pos ⟨h0, Or.inl hc2⟩]) (hf.tr hf2)
      · refine y_iload_n hg dX3_few_24 rfl ?_
        refine y_bipush (v := -9) hg dX3_few_25 rfl ?_
        refine y_icmp_ne hg 34 dX3_few_27 (by decide) (fun hc3 => ?_) (fun hc3 => ?_)
        · refine y_iload_n hg dX3_few_34 rfl ?_
          exact J _ _ (by rw [if_neg (fun q => q.2.elim hc2 hc3)]) (hf.tr hf2)
        · refine y_iload_n hg dX3_few_30 rfl ?_
          refine y_goto hg 35 dX3_few_31 (by decide) ?_
          exact J _ _ (by rw [if_pos ⟨h0, Or.inr hc3⟩]) (hf.tr hf2)
  · intro s hI
    obtain ⟨s, acc⟩ := s
    obtain ⟨hi, hf, he⟩ := hI
    refine y_iload_n hg dX3_few_6 rfl ?_
    refine y_if_le hg 42 dX3_few_7 (by decide) (fun _ => ?_) (fun hF => absurd ((by decide)) hF)
    refine y_iload_n hg dX3_few_42 rfl ?_
    refine y_iret hg hr ⟨_, rfl, ?_⟩ dX3_few_43 (Nat.le_refl _) (Nat.le_refl _)
    exact ⟨he, hf⟩
end MLayers

