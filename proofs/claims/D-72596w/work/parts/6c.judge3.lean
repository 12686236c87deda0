section Judge3
variable {ll : Launch} {B : Bs} {σ : Mem} {A : Ab} {sd : Int64}
theorem ten_N : ∀ n, n < 5 → tenF n = lN (10000 ^ n) := by decide +kernel
theorem inLn2 {v : Int64} {t : Nat} (ht : t ≤ 100000000000000000) : inL v 0 (lN t - 1) = true ↔ ∃ m, m < t ∧ v = lN m := by
  unfold inL
  rw [Bool.and_eq_true, decide_eq_true_eq, decide_eq_true_eq, Int64.le_iff_toInt_le, Int64.le_iff_toInt_le]
  have e1 : (lN t - 1).toInt = (t : Int) - 1 := by
    rw [show (1 : Int64) = lN 1 from rfl, Int64.toInt_sub, pk_lT (by omega), pk_lT (by omega), Int.bmod_eq_of_le (by omega) (by omega)]
    rfl
  rw [e1]
  show (0 : Int) ≤ v.toInt ∧ v.toInt ≤ _ ↔ _
  constructor
  · intro h
    refine ⟨v.toInt.toNat, by omega, ?_⟩
    apply Int64.toInt_inj.mp
    rw [pk_lT (by omega)]
    omega
  · rintro ⟨m, hm, rfl⟩
    rw [pk_lT (by omega)]
    omega
def jud (A : Ab) (f : Nat → Int32) (q : Nat) : Bool × (Nat → Int32) := dj A f (q / 1000) (q / 100 % 10) (q / 10 % 10) (q % 10)
def jgF (A : Ab) (R n : Nat) : Nat → Nat → (Nat → Int32) → Int32
  | 0, _, _ => -9
  | m + 1, k, f => if (jud A f (R / 10000 ^ (n - 1 - k) % 10000)).1 = true then jgF A R n m (k + 1) (jud A f (R / 10000 ^ (n - 1 - k) % 10000)).2 else nI k
def rJudge (A : Ab) (n : Int32) (v : Int64) : Int32 := if inL n.toInt64 1 4 = true ∧ inL v 0 (tenF n.toNatClampNeg - 1) = true then jgF A v.toInt.toNat n.toNatClampNeg n.toNatClampNeg 0 (A 11) else -2
theorem p4 : ∀ n, n < 5 → 0 < 10000 ^ n ∧ 10000 ^ n ≤ 10000000000000000 := by decide +kernel
theorem rJudge_k {n R : Nat} (h1 : 1 ≤ n) (h4 : n ≤ 4) (hR : R < 10000 ^ n) : rJudge A (nI n) (lN R) = jgF A R n n 0 (A 11) := by
  have := p4 n (by omega)
  unfold rJudge
  rw [nI_clamp (by omega), ten_N n (by omega), if_pos ⟨(inL1_iff 4 rfl (by decide)).mpr ⟨n, h1, h4, rfl⟩, (inLn2 (by omega)).mpr ⟨R, hR, rfl⟩⟩, pk_lT (by omega)]
  rfl
theorem cX_judge (hW : WFA A) (hR : RX B A sd σ) (n : Int32) (v : Int64) : MT ll B 24 0 0 yX0_judge cX0_judge 6 (some .int) [.ref (B.1 + 0), .int n, .long v] σ (oX B sd σ (rJudge A n v, A)) := by
  have hL := hR.1
  have hm := hW.nmle
  refine MT.of (by decide) (Nat.le_of_ble_eq_true rfl) (fun g hg hr => ?_)
  have BAD : ¬ (inL n.toInt64 1 4 = true ∧ inL v 0 (tenF n.toNatClampNeg - 1) = true) → YY g 6 σ 0 0 26 [(0, .ref (B.1 + 0)), (1, .int n), (2, .long v)] [] := by
    intro z
    refine y_bipush (v := -2) hg dX0_judge_26 rfl ?_
    refine y_iret hg hr ⟨_, rfl, ?_⟩ dX0_judge_28 (Nat.le_refl _) (Nat.le_refl _)
    have eo : rJudge A n v = -2 := by unfold rJudge; rw [if_neg z]
    exact ⟨eo.symm, hR, Fr.rf⟩
  refine y_iload_n hg dX0_judge_0 rfl ?_
  refine y_i2l hg dX0_judge_1 ?_
  refine y_lconst (v := 1) hg dX0_judge_2 rfl ?_
  refine y_ldc2 hg dX0_judge_3 q817 ?_
  refine y_cSi hg (cX_isIn _ _ _) iX0_isIn q286 rfl rfl (by simp [Value.category]) (Nat.le_refl _) (Nat.le_refl _) (by decide) dX0_judge_6 (fun r σ1 hp => ?_)
  obtain ⟨rfl, rfl⟩ := hp
  refine y_if_eq hg 26 dX0_judge_9 (by decide) (fun hc => ?_) (fun hc => ?_)
  · exact BAD (fun z => b2F hc z.1)
  have h1 := b2T hc
  obtain ⟨n, hn1, hn4, rfl⟩ := (inL1_iff 4 rfl (by decide)).mp h1
  rw [nI_clamp (by omega)] at BAD
  have hp4 := p4 n (by omega)
  refine y_lload_n hg dX0_judge_12 rfl ?_
  refine y_lconst (v := 0) hg dX0_judge_13 rfl ?_
  refine y_iload_n hg dX0_judge_14 rfl ?_
  refine y_cSl hg (cX_ten n (by omega)) iX0_tenThousandTo q818 rfl rfl (by simp [Value.category]) (Nat.le_refl _) (Nat.le_refl _) (by decide) dX0_judge_15 (fun r σ1 hp => ?_)
  obtain ⟨rfl, rfl⟩ := hp
  refine y_lconst (v := 1) hg dX0_judge_18 rfl ?_
  refine y_lsub hg dX0_judge_19 ?_
  refine y_cSi hg (cX_isIn _ _ _) iX0_isIn q286 rfl rfl (by simp [Value.category]) (Nat.le_refl _) (Nat.le_refl _) (by decide) dX0_judge_20 (fun r σ1 hp => ?_)
  obtain ⟨rfl, rfl⟩ := hp
  refine y_if_ne hg 29 dX0_judge_23 (by decide) (fun hc1 => ?_) (fun hc1 => ?_)
  · have h2 := b2T hc1
    rw [ten_N n (by omega)] at h2
    obtain ⟨R, hRl, rfl⟩ := (inLn2 (by omega)).mp h2
    rw [rJudge_k hn1 hn4 hRl] at hr
    refine y_aload_n hg dX0_judge_29 rfl ?_
    refine y_getr (j := 3) hg cf0 (hL.x) (by decide) rfl (hL.r_trial) q175 dX0_judge_30 ?_
    refine y_aload_n hg dX0_judge_33 rfl ?_
    refine y_getr (j := 2) hg cf0 (hL.x) (by decide) rfl (hL.r_now) q174 dX0_judge_34 ?_
    refine y_cVv hg (cX_scopy hL.s_trial hL.s_now (by omega)) iX1_copy q301 (hL.s_trial.o) cf1 rfl rfl (by simp [Value.category]) (Nat.le_refl _) (Nat.le_refl _) (by decide) dX0_judge_37 (fun σ2 hp => ?_)
    obtain ⟨hf2, hr2⟩ := hp
    refine y_iconst (v := nI 0) hg dX0_judge_40 rfl ?_
    refine y_istore hg dX0_judge_41 (by decide) (lv1 := [(0, _), (1, _), (2, _), (4, _)]) rfl ?_
    have hT0 : TX B A sd σ1 σ2 (A 11) := ⟨(WX.rf hR).goR hW hf2 (fun a j z => by unfold SP at z; unfold XE; omega), fun j hj => by rw [hr2 j, if_pos hj]; exact hR.now hj⟩
    have LOOP := loop_st (S := Mem × (Nat → Int32)) (G := fun i s => YY g 6 s.1 0 0 43 [(0, .ref (B.1 + 0)), (1, .int (nI n)), (2, .long (lN R)), (4, .int (nI i))] []) (I := fun i s => TX B A sd σ1 s.1 s.2 ∧ WFr (nm A) s.2 ∧ jgF A R n (n - i) i s.2 = jgF A R n n 0 (A 11)) n ?_ ?_ 0 (σ2, A 11) (Nat.zero_le _) ⟨hT0, hW.now, rfl⟩
    · exact LOOP
    · intro i s hi hI ih
      obtain ⟨s, f⟩ := s
      obtain ⟨hT, hf, hj⟩ := hI
      have hL := hT.1.1.1
      have hp := p4 (n - 1 - i) (by omega)
      show YY g 6 s 0 0 43 [(0, .ref (B.1 + 0)), (1, .int (nI n)), (2, .long (lN R)), (4, .int (nI i))] []
      rw [show n - i = (n - (i + 1)) + 1 by omega] at hj
      replace hj : (if (jud A f (R / 10000 ^ (n - 1 - i) % 10000)).1 = true then jgF A R n (n - (i + 1)) (i + 1) (jud A f (R / 10000 ^ (n - 1 - i) % 10000)).2 else nI i) = jgF A R n n 0 (A 11) := hj
      have hq4 : R / 10000 ^ (n - 1 - i) % 10000 < 10000 := Nat.mod_lt _ (by decide)
      have hdl : R / 10000 ^ (n - 1 - i) ≤ R := Nat.div_le_self _ _
      refine y_iload hg dX0_judge_43 rfl ?_
      refine y_iload_n hg dX0_judge_45 rfl ?_
      refine y_icmp_ge hg 113 dX0_judge_46 (by decide) (fun hT => absurd hT (ge_c hi (by omega))) (fun _ => ?_)
      refine y_lload_n hg dX0_judge_49 rfl ?_
      refine y_iload_n hg dX0_judge_50 rfl ?_
      refine y_iconst (v := nI 1) hg dX0_judge_51 rfl ?_
      refine y_isub hg dX0_judge_52 ?_
      refine y_ti (pk_sub hn1) ?_
      refine y_iload hg dX0_judge_53 rfl ?_
      refine y_isub hg dX0_judge_55 ?_
      refine y_ti (pk_sub (by omega)) ?_
      refine y_cSl hg (cX_ten (n - 1 - i) (by omega)) iX0_tenThousandTo q818 rfl rfl (by simp [Value.category]) (Nat.le_refl _) (Nat.le_refl _) (by decide) dX0_judge_56 (fun r σ3 hp => ?_)
      obtain ⟨rfl, rfl⟩ := hp
      rw [ten_N (n - 1 - i) (by omega)]
      refine y_ldiv hg dX0_judge_59 (fun z => by have := (pk_lEQ (b := 0) (by omega) (by omega)).mp z; omega) ?_
      refine y_tl (pk_lDiv (by omega) (by omega) (by omega)) ?_
      refine y_iconst (v := nI 1) hg dX0_judge_60 rfl ?_
      refine y_cSl hg (cX_ten 1 (by omega)) iX0_tenThousandTo q818 rfl rfl (by simp [Value.category]) (Nat.le_refl _) (Nat.le_refl _) (by decide) dX0_judge_61 (fun r σ3 hp => ?_)
      obtain ⟨rfl, rfl⟩ := hp
      refine y_lrem hg dX0_judge_64 (by decide) ?_
      refine y_tl (pk_lRem (b := 10000) (by omega) (by omega) (by omega)) ?_
      refine y_l2i hg dX0_judge_65 ?_
      refine y_ti (l2i_N _) ?_
      refine y_istore hg dX0_judge_66 (by decide) (lv1 := [(0, _), (1, _), (2, _), (4, _), (5, _)]) rfl ?_
      generalize R / 10000 ^ (n - 1 - i) % 10000 = q4 at *
      refine y_aload_n hg dX0_judge_68 rfl ?_
      refine y_iload hg dX0_judge_69 rfl ?_
      refine y_bipush (v := nI 100) hg dX0_judge_71 rfl ?_
      refine y_idiv hg dX0_judge_73 (by decide) ?_
      refine y_ti (pk_div (by omega) (by omega) (by omega)) ?_
      refine y_bipush (v := nI 10) hg dX0_judge_74 rfl ?_
      refine y_idiv hg dX0_judge_76 (by decide) ?_
      refine y_ti (pk_div (by omega) (by omega) (by omega)) ?_
      rw [show q4 / 100 / 10 = q4 / 1000 by omega]
      refine y_iload hg dX0_judge_77 rfl ?_
      refine y_bipush (v := nI 100) hg dX0_judge_79 rfl ?_
      refine y_idiv hg dX0_judge_81 (by decide) ?_
      refine y_ti (pk_div (by omega) (by omega) (by omega)) ?_
      refine y_bipush (v := nI 10) hg dX0_judge_82 rfl ?_
      refine y_irem hg dX0_judge_84 (by decide) ?_
      refine y_ti (pk_rem (by omega) (by omega) (by omega)) ?_
      refine y_iload hg dX0_judge_85 rfl ?_
      refine y_bipush (v := nI 10) hg dX0_judge_87 rfl ?_
      refine y_idiv hg dX0_judge_89 (by decide) ?_
      refine y_ti (pk_div (by omega) (by omega) (by omega)) ?_
      refine y_bipush (v := nI 10) hg dX0_judge_90 rfl ?_
      refine y_irem hg dX0_judge_92 (by decide) ?_
      refine y_ti (pk_rem (by omega) (by omega) (by omega)) ?_
      refine y_iload hg dX0_judge_93 rfl ?_
      refine y_bipush (v := nI 10) hg dX0_judge_95 rfl ?_
      refine y_irem hg dX0_judge_97 (by decide) ?_
      refine y_ti (pk_rem (by omega) (by omega) (by omega)) ?_
      refine y_cVi hg (cX_doThing hW hT hf (show q4 / 1000 ≤ 9 by omega) (by omega) (by omega) (by omega)) iX0_doThing q822 (hL.x) cf0 rfl rfl (by simp [Value.category]) (Nat.le_refl _) (Nat.le_refl _) (by decide) dX0_judge_98 (fun r σ6 hp => ?_)
      obtain ⟨rfl, hT6⟩ := hp
      refine y_if_ne hg 107 dX0_judge_101 (by decide) (fun hc2 => ?_) (fun hc2 => ?_)
      · have e : (jud A f q4).1 = true := b2T hc2
        rw [if_pos e] at hj
        refine y_iinc hg dX0_judge_107 rfl (inc1 _) (by decide) (lv1 := [(0, _), (1, _), (2, _), (4, _), (5, _)]) rfl ?_
        refine y_goto hg 43 dX0_judge_110 (by decide) ?_
        refine y_sub [0, 1, 2, 3] rfl (ih (σ6, (jud A f q4).2) ⟨hT6, dj_wf hm hf, hj⟩)
      · have e : ¬ (jud A f q4).1 = true := b2F hc2
        rw [if_neg e] at hj
        refine y_iload hg dX0_judge_104 rfl ?_
        refine y_iret hg hr ⟨_, rfl, ?_⟩ dX0_judge_106 (Nat.le_refl _) (Nat.le_refl _)
        exact ⟨hj, hT6.1.fin⟩
    · intro s hI
      obtain ⟨s, f⟩ := s
      obtain ⟨hT, hf, hj⟩ := hI
      rw [Nat.sub_self] at hj
      show YY g 6 s 0 0 43 [(0, .ref (B.1 + 0)), (1, .int (nI n)), (2, .long (lN R)), (4, .int (nI n))] []
      refine y_iload hg dX0_judge_43 rfl ?_
      refine y_iload_n hg dX0_judge_45 rfl ?_
      refine y_icmp_ge hg 113 dX0_judge_46 (by decide) (fun _ => ?_) (fun hF => absurd (le_c (Nat.le_refl _) (by omega)) hF)
      refine y_bipush (v := -9) hg dX0_judge_113 rfl ?_
      refine y_iret hg hr ⟨_, rfl, ?_⟩ dX0_judge_115 (Nat.le_refl _) (Nat.le_refl _)
      exact ⟨hj, hT.1.fin⟩
  · exact BAD (fun z => b2F hc1 z.2)
theorem cM_judge (hW : WFA A) (hR : RMm B A sd σ) (n : Int32) (v : Int64) : MT ll B 24 0 0 yX3_judge cX3_judge 6 (some .int) [.ref (B.1 + 157), .int n, .long v] σ (oM B sd σ (rJudge A n v, A)) := by
  have hM := hR.1
  have hm := hW.nmle
  refine MT.of (by decide) (Nat.le_of_ble_eq_true rfl) (fun g hg hr => ?_)
  have BAD : ¬ (inL n.toInt64 1 4 = true ∧ inL v 0 (tenF n.toNatClampNeg - 1) = true) → YY g 6 σ 0 0 26 [(0, .ref (B.1 + 157)), (1, .int n), (2, .long v)] [] := by
    intro z
    refine y_bipush (v := -2) hg dX3_judge_26 rfl ?_
    refine y_iret hg hr ⟨_, rfl, ?_⟩ dX3_judge_28 (Nat.le_refl _) (Nat.le_refl _)
    have eo : rJudge A n v = -2 := by unfold rJudge; rw [if_neg z]
    exact ⟨eo.symm, hR, FrR.rf⟩
  refine y_iload_n hg dX3_judge_0 rfl ?_
  refine y_i2l hg dX3_judge_1 ?_
  refine y_lconst (v := 1) hg dX3_judge_2 rfl ?_
  refine y_ldc2 hg dX3_judge_3 q1305 ?_
  refine y_cSi hg (cM_in _ _ _) iX3_in q1052 rfl rfl (by simp [Value.category]) (Nat.le_refl _) (Nat.le_refl _) (by decide) dX3_judge_6 (fun r σ1 hp => ?_)
  obtain ⟨rfl, rfl⟩ := hp
  refine y_if_eq hg 26 dX3_judge_9 (by decide) (fun hc => ?_) (fun hc => ?_)
  · exact BAD (fun z => b2F hc z.1)
  have h1 := b2T hc
  obtain ⟨n, hn1, hn4, rfl⟩ := (inL1_iff 4 rfl (by decide)).mp h1
  rw [nI_clamp (by omega)] at BAD
  have hp4 := p4 n (by omega)
  refine y_lload_n hg dX3_judge_12 rfl ?_
  refine y_lconst (v := 0) hg dX3_judge_13 rfl ?_
  refine y_iload_n hg dX3_judge_14 rfl ?_
  refine y_cSl hg (cM_ten n (by omega)) iX3_tenThousands q1306 rfl rfl (by simp [Value.category]) (Nat.le_refl _) (Nat.le_refl _) (by decide) dX3_judge_15 (fun r σ1 hp => ?_)
  obtain ⟨rfl, rfl⟩ := hp
  refine y_lconst (v := 1) hg dX3_judge_18 rfl ?_
  refine y_lsub hg dX3_judge_19 ?_
  refine y_cSi hg (cM_in _ _ _) iX3_in q1052 rfl rfl (by simp [Value.category]) (Nat.le_refl _) (Nat.le_refl _) (by decide) dX3_judge_20 (fun r σ1 hp => ?_)
  obtain ⟨rfl, rfl⟩ := hp
  refine y_if_ne hg 29 dX3_judge_23 (by decide) (fun hc1 => ?_) (fun hc1 => ?_)
  · have h2 := b2T hc1
    rw [ten_N n (by omega)] at h2
    obtain ⟨R, hRl, rfl⟩ := (inLn2 (by omega)).mp h2
    rw [rJudge_k hn1 hn4 hRl] at hr
    refine y_aload_n hg dX3_judge_29 rfl ?_
    refine y_getr (j := 7) hg cf3 (hM.m) (by decide) rfl (hM.r_now) q918 dX3_judge_30 ?_
    refine y_aload_n hg dX3_judge_33 rfl ?_
    refine y_getr (j := 8) hg cf3 (hM.m) (by decide) rfl (hM.r_trial) q919 dX3_judge_34 ?_
    refine y_cSv hg (cM_copy hM.k_trial (by decide) hM.k_now (by decide) (by decide)) iX3_copy q1111 rfl rfl (by simp [Value.category]) (Nat.le_refl _) (Nat.le_refl _) (by decide) dX3_judge_37 (fun σ2 hp => ?_)
    obtain ⟨hf2, hr2⟩ := hp
    refine y_iconst (v := nI 0) hg dX3_judge_40 rfl ?_
    refine y_istore hg dX3_judge_41 (by decide) (lv1 := [(0, _), (1, _), (2, _), (4, _)]) rfl ?_
    have hT0 : TM B A sd σ1 σ2 (A 11) := ⟨(WM.rf hR).go hf2 (fun a j z => by unfold ME; omega), fun j hj => by rw [hr2 j, if_pos hj]; exact hR.now hj⟩
    have LOOP := loop_st (S := Mem × (Nat → Int32)) (G := fun i s => YY g 6 s.1 0 0 43 [(0, .ref (B.1 + 157)), (1, .int (nI n)), (2, .long (lN R)), (4, .int (nI i))] []) (I := fun i s => TM B A sd σ1 s.1 s.2 ∧ WFr (nm A) s.2 ∧ jgF A R n (n - i) i s.2 = jgF A R n n 0 (A 11)) n ?_ ?_ 0 (σ2, A 11) (Nat.zero_le _) ⟨hT0, hW.now, rfl⟩
    · exact LOOP
    · intro i s hi hI ih
      obtain ⟨s, f⟩ := s
      obtain ⟨hT, hf, hj⟩ := hI
      have hM := hT.1.1.1
      have hp := p4 (n - 1 - i) (by omega)
      show YY g 6 s 0 0 43 [(0, .ref (B.1 + 157)), (1, .int (nI n)), (2, .long (lN R)), (4, .int (nI i))] []
      rw [show n - i = (n - (i + 1)) + 1 by omega] at hj
      replace hj : (if (jud A f (R / 10000 ^ (n - 1 - i) % 10000)).1 = true then jgF A R n (n - (i + 1)) (i + 1) (jud A f (R / 10000 ^ (n - 1 - i) % 10000)).2 else nI i) = jgF A R n n 0 (A 11) := hj
      have hq4 : R / 10000 ^ (n - 1 - i) % 10000 < 10000 := Nat.mod_lt _ (by decide)
      have hdl : R / 10000 ^ (n - 1 - i) ≤ R := Nat.div_le_self _ _
      refine y_iload hg dX3_judge_43 rfl ?_
      refine y_iload_n hg dX3_judge_45 rfl ?_
      refine y_icmp_ge hg 110 dX3_judge_46 (by decide) (fun hT => absurd hT (ge_c hi (by omega))) (fun _ => ?_)
      refine y_lload_n hg dX3_judge_49 rfl ?_
      refine y_iload_n hg dX3_judge_50 rfl ?_
      refine y_iconst (v := nI 1) hg dX3_judge_51 rfl ?_
      refine y_isub hg dX3_judge_52 ?_
      refine y_ti (pk_sub hn1) ?_
      refine y_iload hg dX3_judge_53 rfl ?_
      refine y_isub hg dX3_judge_55 ?_
      refine y_ti (pk_sub (by omega)) ?_
      refine y_cSl hg (cM_ten (n - 1 - i) (by omega)) iX3_tenThousands q1306 rfl rfl (by simp [Value.category]) (Nat.le_refl _) (Nat.le_refl _) (by decide) dX3_judge_56 (fun r σ3 hp => ?_)
      obtain ⟨rfl, rfl⟩ := hp
      rw [ten_N (n - 1 - i) (by omega)]
      refine y_ldiv hg dX3_judge_59 (fun z => by have := (pk_lEQ (b := 0) (by omega) (by omega)).mp z; omega) ?_
      refine y_tl (pk_lDiv (by omega) (by omega) (by omega)) ?_
      refine y_ldc2 hg dX3_judge_60 q1309 ?_
      refine y_lrem hg dX3_judge_63 (by decide) ?_
      refine y_tl (pk_lRem (b := 10000) (by omega) (by omega) (by omega)) ?_
      refine y_l2i hg dX3_judge_64 ?_
      refine y_ti (l2i_N _) ?_
      refine y_istore hg dX3_judge_65 (by decide) (lv1 := [(0, _), (1, _), (2, _), (4, _), (5, _)]) rfl ?_
      generalize R / 10000 ^ (n - 1 - i) % 10000 = q4 at *
      refine y_aload_n hg dX3_judge_67 rfl ?_
      refine y_iload hg dX3_judge_68 rfl ?_
      refine y_sipush (v := nI 1000) hg dX3_judge_70 rfl ?_
      refine y_idiv hg dX3_judge_73 (by decide) ?_
      refine y_ti (pk_div (by omega) (by omega) (by omega)) ?_
      refine y_iload hg dX3_judge_74 rfl ?_
      refine y_bipush (v := nI 100) hg dX3_judge_76 rfl ?_
      refine y_idiv hg dX3_judge_78 (by decide) ?_
      refine y_ti (pk_div (by omega) (by omega) (by omega)) ?_
      refine y_bipush (v := nI 10) hg dX3_judge_79 rfl ?_
      refine y_irem hg dX3_judge_81 (by decide) ?_
      refine y_ti (pk_rem (by omega) (by omega) (by omega)) ?_
      refine y_iload hg dX3_judge_82 rfl ?_
      refine y_bipush (v := nI 10) hg dX3_judge_84 rfl ?_
      refine y_idiv hg dX3_judge_86 (by decide) ?_
      refine y_ti (pk_div (by omega) (by omega) (by omega)) ?_
      refine y_bipush (v := nI 10) hg dX3_judge_87 rfl ?_
      refine y_irem hg dX3_judge_89 (by decide) ?_
      refine y_ti (pk_rem (by omega) (by omega) (by omega)) ?_
      refine y_iload hg dX3_judge_90 rfl ?_
      refine y_bipush (v := nI 10) hg dX3_judge_92 rfl ?_
      refine y_irem hg dX3_judge_94 (by decide) ?_
      refine y_ti (pk_rem (by omega) (by omega) (by omega)) ?_
      refine y_cVi hg (cM_judged hW hT hf (show q4 / 1000 ≤ 9 by omega) (by omega) (by omega) (by omega)) iX3_judged q1310 (hM.m) cf3 rfl rfl (by simp [Value.category]) (Nat.le_refl _) (Nat.le_refl _) (by decide) dX3_judge_95 (fun r σ6 hp => ?_)
      obtain ⟨rfl, hT6⟩ := hp
      refine y_if_ne hg 104 dX3_judge_98 (by decide) (fun hc2 => ?_) (fun hc2 => ?_)
      · have e : (jud A f q4).1 = true := b2T hc2
        rw [if_pos e] at hj
        refine y_iinc hg dX3_judge_104 rfl (inc1 _) (by decide) (lv1 := [(0, _), (1, _), (2, _), (4, _), (5, _)]) rfl ?_
        refine y_goto hg 43 dX3_judge_107 (by decide) ?_
        refine y_sub [0, 1, 2, 3] rfl (ih (σ6, (jud A f q4).2) ⟨hT6, dj_wf hm hf, hj⟩)
      · have e : ¬ (jud A f q4).1 = true := b2F hc2
        rw [if_neg e] at hj
        refine y_iload hg dX3_judge_101 rfl ?_
        refine y_iret hg hr ⟨_, rfl, ?_⟩ dX3_judge_103 (Nat.le_refl _) (Nat.le_refl _)
        exact ⟨hj, hT6.1.fin⟩
    · intro s hI
      obtain ⟨s, f⟩ := s
      obtain ⟨hT, hf, hj⟩ := hI
      rw [Nat.sub_self] at hj
      show YY g 6 s 0 0 43 [(0, .ref (B.1 + 157)), (1, .int (nI n)), (2, .long (lN R)), (4, .int (nI n))] []
      refine y_iload hg dX3_judge_43 rfl ?_
      refine y_iload_n hg dX3_judge_45 rfl ?_
      refine y_icmp_ge hg 110 dX3_judge_46 (by decide) (fun _ => ?_) (fun hF => absurd (le_c (Nat.le_refl _) (by omega)) hF)
      refine y_bipush (v := -9) hg dX3_judge_110 rfl ?_
      refine y_iret hg hr ⟨_, rfl, ?_⟩ dX3_judge_112 (Nat.le_refl _) (Nat.le_refl _)
      exact ⟨hj, hT.1.fin⟩
  · exact BAD (fun z => b2F hc1 z.2)
end Judge3

