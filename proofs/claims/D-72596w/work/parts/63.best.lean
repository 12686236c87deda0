section Best
variable {ll : Launch} {B : Bs} {σ : Mem} {A : Ab} {sd : Int64}
/-- the best phrase's and a number's rows -/
def qb (P : Pb) : Wy := (nS P - 1, 4, 0)
def qn (P : Pb) (m : Nat) : Wy := (nS P - 1, 4, m)
def lnB (P : Pb) : Nat := wlen P (cbest P) (qb P)
def lnN (P : Pb) (m : Nat) : Nat := wlen P (cnum P) (qn P m)
theorem best_f {P : Pb} (hP : WFP P) (h12 : sm (bg P.2.2.2.1) 8 ≤ 12) (hb : ¬ bw P = -9) : lnB P ≤ 12 ∧ (∀ i, i < lnB P → wword P (cbest P) (qb P) i < P.1) ∧ bw P = wsum P (cbest P) (qb P) (lnB P) := by
  have hpos := nS_pos P
  have h1 : nS P ≠ 1 := fun e => hb (by rw [bw, if_pos e])
  have hbe : bw P = wor P (nS P - 1) 4 := by rw [bw, if_neg h1]
  have hI : ¬ wor P (qb P).1 (qb P).2.1 = -9 := by rw [hbe] at hb; exact hb
  have hq : (qb P).1 < nS P := by show nS P - 1 < nS P; omega
  obtain ⟨w1, w2, w3⟩ := wlen_ok hP (best_on hP) (I := fun q => ¬ wor P q.1 q.2.1 = -9) hI hq
  refine ⟨Nat.le_trans w1 (Nat.le_trans (sm_mono 8 (fun x _ => dg_le _ _ _)) h12), fun i hi => ?_, hbe.trans (best_worth hP hI hq)⟩
  have hin := wpath_in hP (best_on hP) (I := fun q => ¬ wor P q.1 q.2.1 = -9) hI hq i (fun j hj => w3 j (Nat.lt_trans hj hi))
  exact (best_on hP _ hin.1 (w3 i hi) hin.2.1).1
theorem num_f {P : Pb} {m : Nat} (hP : WFP P) (h12 : sm (bg P.2.2.2.1) 8 ≤ 12) (hm : m < tot P) : lnN P m ≤ 12 ∧ (∀ i, i < lnN P m → wword P (cnum P) (qn P m) i < P.1) := by
  have hpos := nS_pos P
  have h1 : nS P ≠ 1 := fun e => by rw [tot, if_pos e] at hm; omega
  have hI : (qn P m).2.2 < cnt P (qn P m).1 (qn P m).2.1 := by rw [tot, if_neg h1] at hm; exact hm
  have hq : (qn P m).1 < nS P := by show nS P - 1 < nS P; omega
  obtain ⟨w1, w2, w3⟩ := wlen_ok hP (num_on hP) (I := fun q => q.2.2 < cnt P q.1 q.2.1) hI hq
  refine ⟨Nat.le_trans w1 (Nat.le_trans (sm_mono 8 (fun x _ => dg_le _ _ _)) h12), fun i hi => ?_⟩
  have hin := wpath_in hP (num_on hP) (I := fun q => q.2.2 < cnt P q.1 q.2.1) hI hq i (fun j hj => w3 j (Nat.lt_trans hj hi))
  exact (num_on hP _ hin.1 (w3 i hi) hin.2.1).1
theorem MW0.w {P : Pb} (h : MW0 σ P) : MWm σ P := fun r k hr hk => Or.inl (h (5 * r + k) (by omega))
def rBest (A : Ab) (v : Int32) : Int32 := if inL v.toInt64 0 13 = true then if bw (pn A) = -9 then -9 else if v = 0 then bw (pn A) else if v = nI 1 then nI (lnB (pn A)) else if v.toNatClampNeg - 2 < lnB (pn A) then nI (wword (pn A) (cbest (pn A)) (qb (pn A)) (v.toNatClampNeg - 2)) else -9 else -2
theorem rBest_k {n : Nat} (hn : n ≤ 13) : rBest A (nI n) = if bw (pn A) = -9 then -9 else if n = 0 then bw (pn A) else if n = 1 then nI (lnB (pn A)) else if n - 2 < lnB (pn A) then nI (wword (pn A) (cbest (pn A)) (qb (pn A)) (n - 2)) else -9 := by
  unfold rBest
  rw [if_pos ((inL_iff 13 rfl (by decide)).mpr ⟨n, hn, rfl⟩), nI_clamp (by omega)]
  simp only [nI_eq (show n < 2 ^ 31 by omega) (show 1 < 2 ^ 31 by decide), show (nI n = 0) = (n = 0) from propext (nI_eq (show n < 2 ^ 31 by omega) (show 0 < 2 ^ 31 by decide))]
theorem cX_best (hW : WFA A) (hR : RX B A sd σ) (v : Int32) : MT ll B 24 0 0 yX0_best cX0_best 3 (some .int) [.ref (B.1 + 0), .int v] σ (oX B sd σ (rBest A v, A)) := by
  have hL := hR.1
  have hP : WFP (pn A) := pb_wr hW hW.now
  have h12 : sm (bg (pn A).2.2.2.1) 8 ≤ 12 := hW.now.2.1
  refine MT.of (by decide) (Nat.le_of_ble_eq_true rfl) (fun g hg hr => ?_)
  refine y_iload_n hg dX0_best_0 rfl ?_
  refine y_i2l hg dX0_best_1 ?_
  refine y_lconst (v := 0) hg dX0_best_2 rfl ?_
  refine y_ldc2 hg dX0_best_3 q525 ?_
  refine y_cSi hg (cX_isIn _ _ _) iX0_isIn q286 rfl rfl (by simp [Value.category]) (Nat.le_refl _) (Nat.le_refl _) (by decide) dX0_best_6 (fun r σ1 hp => ?_)
  obtain ⟨rfl, rfl⟩ := hp
  refine y_if_ne hg 15 dX0_best_9 (by decide) (fun hc => ?_) (fun hc => ?_)
  · obtain ⟨n, hn, rfl⟩ := (inL_iff 13 rfl (by decide)).mp (b2T hc)
    rw [rBest_k hn] at hr
    refine y_aload_n hg dX0_best_15 rfl ?_
    refine y_cVv hg (cX_look0 hW (WX.rf hR)) iX0_look q368 (hL.x) cf0 rfl rfl (by simp [Value.category]) (Nat.le_refl _) (Nat.le_refl _) (by decide) dX0_best_16 (fun σ2 hp => ?_)
    obtain ⟨hX, hC, hC2, hw⟩ := hp
    have hL := hw.1.1
    refine y_aload_n hg dX0_best_19 rfl ?_
    refine y_cVi hg (cX_layBest hP (pb_r hW hW.now) h12 hX hC2.w) iX0_layBest q526 (hL.x) cf0 rfl rfl (by simp [Value.category]) (Nat.le_refl _) (Nat.le_refl _) (by decide) dX0_best_20 (fun r σ3 hp => ?_)
    obtain ⟨rfl, hf3, hC3, hF⟩ := hp
    refine y_istore_n hg dX0_best_23 (by decide) (lv1 := [(0, _), (1, _), (2, _)]) rfl ?_
    have hw3 := hw.goR hW hf3 (fun a j q => by unfold BP at q; unfold XE; omega)
    have hL := hw3.1.1
    refine y_iload_n hg dX0_best_24 rfl ?_
    refine y_bipush (v := -9) hg dX0_best_25 rfl ?_
    refine y_icmp_eq hg 34 dX0_best_27 (by decide) (fun hc1 => ?_) (fun hc1 => ?_)
    · refine y_iload_n hg dX0_best_34 rfl ?_
      refine y_iret hg hr ⟨_, rfl, ?_⟩ dX0_best_35 (Nat.le_refl _) (Nat.le_refl _)
      refine ⟨?_, hw3.fin⟩
      show bw (pn A) = if bw (pn A) = -9 then -9 else _
      rw [if_pos hc1]; exact hc1
    obtain ⟨f1, f2, f3⟩ := best_f hP h12 hc1
    obtain ⟨g1, g2⟩ := hF hc1
    rw [if_neg hc1] at hr
    refine y_iload_n hg dX0_best_30 rfl ?_
    refine y_if_ne hg 36 dX0_best_31 (by decide) (fun hc2 => ?_) (fun hc2 => ?_)
    · have hn0 : ¬ n = 0 := fun z => hc2 (by rw [z]; rfl)
      rw [if_neg hn0] at hr
      refine y_iload_n hg dX0_best_36 rfl ?_
      refine y_iconst (v := nI 1) hg dX0_best_37 rfl ?_
      refine y_icmp_ne hg 48 dX0_best_38 (by decide) (fun hc3 => ?_) (fun hc3 => ?_)
      · have hn1 : ¬ n = 1 := fun z => hc3 (by rw [z])
        rw [if_neg hn1] at hr
        refine y_iload_n hg dX0_best_48 rfl ?_
        refine y_iconst (v := nI 2) hg dX0_best_49 rfl ?_
        refine y_isub hg dX0_best_50 ?_
        refine y_ti (pk_sub (by omega)) ?_
        refine y_aload_n hg dX0_best_51 rfl ?_
        refine y_geti (j := 13) hg cf0 (hL.x) (by decide) rfl q185 dX0_best_52 ?_
        refine y_ti (g1) ?_
        refine y_icmp_ge hg 69 dX0_best_55 (by decide) (fun hc4 => ?_) (fun hc4 => ?_)
        · refine y_bipush (v := -9) hg dX0_best_69 rfl ?_
          refine y_iret hg hr ⟨_, rfl, ?_⟩ dX0_best_71 (Nat.le_refl _) (Nat.le_refl _)
          refine ⟨?_, hw3.fin⟩
          have f1' : wlen (pn A) (cbest (pn A)) (nS (pn A) - 1, 4, 0) ≤ 12 := f1
          have := (nI_leI (by omega) (by omega)).mp hc4
          exact (if_neg (Nat.not_lt.mpr this)).symm
        · have hlt : n - 2 < lnB (pn A) := Nat.lt_of_not_le (fun z => hc4 (nI_le z (by omega)))
          refine y_aload_n hg dX0_best_58 rfl ?_
          refine y_getr (j := 12) hg cf0 (hL.x) (by decide) rfl (hL.r_found) q184 dX0_best_59 ?_
          refine y_iload_n hg dX0_best_62 rfl ?_
          refine y_iconst (v := nI 2) hg dX0_best_63 rfl ?_
          refine y_isub hg dX0_best_64 ?_
          refine y_ti (pk_sub (by omega)) ?_
          refine y_iald hg _ (hL.k_found) rfl (by omega) dX0_best_65 ?_
          refine y_ti (g2 _ hlt) ?_
          refine y_goto hg 71 dX0_best_66 (by decide) ?_
          refine y_iret hg hr ⟨_, rfl, ?_⟩ dX0_best_71 (Nat.le_refl _) (Nat.le_refl _)
          exact ⟨(if_pos hlt).symm, hw3.fin⟩
      · have hn1 : n = 1 := nI_inj (by omega) (by decide) hc3
        rw [if_pos hn1] at hr
        refine y_aload_n hg dX0_best_41 rfl ?_
        refine y_geti (j := 13) hg cf0 (hL.x) (by decide) rfl q185 dX0_best_42 ?_
        refine y_goto hg 71 dX0_best_45 (by decide) ?_
        refine y_iret hg hr ⟨_, rfl, ?_⟩ dX0_best_71 (Nat.le_refl _) (Nat.le_refl _)
        exact ⟨g1, hw3.fin⟩
    · have hn0 : n = 0 := nI_inj (b := 0) (by omega) (by decide) hc2
      rw [if_pos hn0] at hr
      refine y_iload_n hg dX0_best_34 rfl ?_
      refine y_iret hg hr ⟨_, rfl, ?_⟩ dX0_best_35 (Nat.le_refl _) (Nat.le_refl _)
      exact ⟨rfl, hw3.fin⟩
  · refine y_bipush (v := -2) hg dX0_best_12 rfl ?_
    refine y_iret hg hr ⟨_, rfl, ?_⟩ dX0_best_14 (Nat.le_refl _) (Nat.le_refl _)
    have eo : rBest A v = -2 := by unfold rBest; rw [if_neg (b2F hc)]
    exact ⟨eo.symm, hR, Fr.rf⟩
theorem cM_best (hW : WFA A) (hR : RMm B A sd σ) (v : Int32) : MT ll B 24 0 0 yX3_best cX3_best 3 (some .int) [.ref (B.1 + 157), .int v] σ (oM B sd σ (rBest A v, A)) := by
  have hM := hR.1
  have hP : WFP (pn A) := pb_wr hW hW.now
  have h12 : sm (bg (pn A).2.2.2.1) 8 ≤ 12 := hW.now.2.1
  refine MT.of (by decide) (Nat.le_of_ble_eq_true rfl) (fun g hg hr => ?_)
  refine y_iload_n hg dX3_best_0 rfl ?_
  refine y_i2l hg dX3_best_1 ?_
  refine y_lconst (v := 0) hg dX3_best_2 rfl ?_
  refine y_ldc2 hg dX3_best_3 q1247 ?_
  refine y_cSi hg (cM_in _ _ _) iX3_in q1052 rfl rfl (by simp [Value.category]) (Nat.le_refl _) (Nat.le_refl _) (by decide) dX3_best_6 (fun r σ1 hp => ?_)
  obtain ⟨rfl, rfl⟩ := hp
  refine y_if_ne hg 15 dX3_best_9 (by decide) (fun hc => ?_) (fun hc => ?_)
  · obtain ⟨n, hn, rfl⟩ := (inL_iff 13 rfl (by decide)).mp (b2T hc)
    rw [rBest_k hn] at hr
    refine y_aload_n hg dX3_best_15 rfl ?_
    refine y_aload_n hg dX3_best_16 rfl ?_
    refine y_getr (j := 7) hg cf3 (hM.m) (by decide) rfl (hM.r_now) q918 dX3_best_17 ?_
    refine y_cVv hg (cM_look (P := pn A) hM (Or.inl rfl) hP (hR.wm hW) (fun j hj => hR.now hj) RMm.hu0) iX3_look q1118 (hM.m) cf3 rfl rfl (by simp [Value.category]) (Nat.le_refl _) (Nat.le_refl _) (by decide) dX3_best_20 (fun σ2 hp => ?_)
    obtain ⟨hX, hf2⟩ := hp
    have hw := (WM.rf hR).go hf2 (fun a j q => by unfold MkP at q; unfold ME; omega)
    have hM := hw.1.1
    refine y_aload_n hg dX3_best_23 rfl ?_
    refine y_cVi hg (cM_findBest hP (pb_r hW hW.now) h12 hX) iX3_findBest q1248 (hM.m) cf3 rfl rfl (by simp [Value.category]) (Nat.le_refl _) (Nat.le_refl _) (by decide) dX3_best_24 (fun r σ3 hp => ?_)
    obtain ⟨rfl, hf3, hF⟩ := hp
    refine y_istore_n hg dX3_best_27 (by decide) (lv1 := [(0, _), (1, _), (2, _)]) rfl ?_
    have hw3 := hw.go hf3 (fun a j q => by unfold ME; omega)
    have hX3 := hX.fr hf3 (fun a j q => by unfold EM; omega)
    have hM := hw3.1.1
    by_cases hb : bw (pn A) = -9
    · rw [if_pos hb] at hr ⊢
      refine y_iload_n hg dX3_best_28 rfl ?_
      refine y_bipush (v := -9) hg dX3_best_29 rfl ?_
      refine y_icmp_eq hg 41 dX3_best_31 (by decide) (fun _ => ?_) (fun hF => absurd (rfl) hF)
      refine y_bipush (v := -9) hg dX3_best_41 rfl ?_
      refine y_iret hg hr ⟨_, rfl, ?_⟩ dX3_best_43 (Nat.le_refl _) (Nat.le_refl _)
      exact ⟨rfl, hw3.fin⟩
    · rw [if_neg hb] at hr ⊢
      obtain ⟨f1, f2, f3⟩ := best_f hP h12 hb
      have g2 := hF hb
      replace g2 : FdM σ3 (pn A) (cbest (pn A)) (qb (pn A)) (lnB (pn A)) := g2
      show YY g 3 σ3 0 0 28 [(0, .ref (B.1 + 157)), (1, .int (nI n)), (2, .int (nI (lnB (pn A))))] []
      refine y_iload_n hg dX3_best_28 rfl ?_
      refine y_bipush (v := -9) hg dX3_best_29 rfl ?_
      refine y_icmp_eq hg 41 dX3_best_31 (by decide) (fun hT => absurd hT (m9_ne (by omega))) (fun _ => ?_)
      refine y_iload_n hg dX3_best_34 rfl ?_
      refine y_iload_n hg dX3_best_35 rfl ?_
      refine y_iconst (v := nI 2) hg dX3_best_36 rfl ?_
      refine y_iadd hg dX3_best_37 ?_
      refine y_ti (nI_add _ _) ?_
      refine y_icmp_lt hg 44 dX3_best_38 (by decide) (fun hc3 => ?_) (fun hc3 => ?_)
      · have hlt : n < lnB (pn A) + 2 := (nI_ltI (by omega) (by omega)).mp hc3
        refine y_iload_n hg dX3_best_44 rfl ?_
        refine y_if_ne hg 56 dX3_best_45 (by decide) (fun hc2 => ?_) (fun hc2 => ?_)
        · have hn0 : ¬ n = 0 := fun z => hc2 (by rw [z]; rfl)
          rw [if_neg hn0] at hr
          refine y_iload_n hg dX3_best_56 rfl ?_
          refine y_iconst (v := nI 1) hg dX3_best_57 rfl ?_
          refine y_icmp_ne hg 65 dX3_best_58 (by decide) (fun hc4 => ?_) (fun hc4 => ?_)
          · have hn1 : ¬ n = 1 := fun z => hc4 (by rw [z])
            rw [if_neg hn1, if_pos (show n - 2 < lnB (pn A) by omega)] at hr
            refine y_aload_n hg dX3_best_65 rfl ?_
            refine y_getr (j := 39) hg cf3 (hM.m) (by decide) rfl (hM.r_found) q950 dX3_best_66 ?_
            refine y_iload_n hg dX3_best_69 rfl ?_
            refine y_iconst (v := nI 2) hg dX3_best_70 rfl ?_
            refine y_isub hg dX3_best_71 ?_
            refine y_ti (pk_sub (by omega)) ?_
            refine y_iald hg _ (hM.k_found) rfl (by omega) dX3_best_72 ?_
            refine y_ti (g2 _ (by omega)) ?_
            refine y_iret hg hr ⟨_, rfl, ?_⟩ dX3_best_73 (Nat.le_refl _) (Nat.le_refl _)
            exact ⟨rfl, hw3.fin⟩
          · have hn1 : n = 1 := nI_inj (by omega) (by decide) hc4
            rw [if_pos hn1] at hr
            refine y_iload_n hg dX3_best_61 rfl ?_
            refine y_goto hg 73 dX3_best_62 (by decide) ?_
            refine y_iret hg hr ⟨_, rfl, ?_⟩ dX3_best_73 (Nat.le_refl _) (Nat.le_refl _)
            exact ⟨rfl, hw3.fin⟩
        · have hn0 : n = 0 := nI_inj (b := 0) (by omega) (by decide) hc2
          rw [if_pos hn0] at hr
          refine y_aload_n hg dX3_best_48 rfl ?_
          refine y_iload_n hg dX3_best_49 rfl ?_
          refine y_cVi hg (cM_worthOf hP hX3 f1 g2 f2) iX3_worthOf q1260 (hM.m) cf3 rfl rfl (by simp [Value.category]) (Nat.le_refl _) (Nat.le_refl _) (by decide) dX3_best_50 (fun r σ4 hp => ?_)
          obtain ⟨rfl, rfl⟩ := hp
          refine y_goto hg 73 dX3_best_53 (by decide) ?_
          refine y_iret hg hr ⟨_, rfl, ?_⟩ dX3_best_73 (Nat.le_refl _) (Nat.le_refl _)
          exact ⟨f3.symm, hw3.fin⟩
      · refine y_bipush (v := -9) hg dX3_best_41 rfl ?_
        refine y_iret hg hr ⟨_, rfl, ?_⟩ dX3_best_43 (Nat.le_refl _) (Nat.le_refl _)
        have hge : ¬ n < lnB (pn A) + 2 := fun z => hc3 (nI_lt z (by omega))
        rw [if_neg (show ¬ n = 0 by omega), if_neg (show ¬ n = 1 by omega), if_neg (show ¬ n - 2 < lnB (pn A) by omega)]
        exact ⟨rfl, hw3.fin⟩
  · refine y_bipush (v := -2) hg dX3_best_12 rfl ?_
    refine y_iret hg hr ⟨_, rfl, ?_⟩ dX3_best_14 (Nat.le_refl _) (Nat.le_refl _)
    have eo : rBest A v = -2 := by unfold rBest; rw [if_neg (b2F hc)]
    exact ⟨eo.symm, hR, FrR.rf⟩
theorem inLn {v : Int64} {t : Nat} (ht : t ≤ 10000000000000) : inL v 0 (lN t - 1) = true ↔ ∃ m, m < t ∧ v = lN m := by
  unfold inL
  rw [Bool.and_eq_true, decide_eq_true_eq, decide_eq_true_eq, Int64.le_iff_toInt_le, Int64.le_iff_toInt_le]
  have e1 : (lN t - 1).toInt = (t : Int) - 1 := by
    rw [show (1 : Int64) = lN 1 from rfl, Int64.toInt_sub, pk_lT (by omega), pk_lT (by omega), Int.bmod_eq_of_le (by omega) (by omega)]
    rfl
  rw [e1]
  show (0 : Int) ≤ v.toInt ∧ v.toInt ≤ _ ↔ _
  constructor
  · intro h
    refine ⟨v.toInt.toNat, by omega, ?_⟩
    apply Int64.toInt_inj.mp
    rw [pk_lT (by omega)]
    omega
  · rintro ⟨m, hm, rfl⟩
    rw [pk_lT (by omega)]
    omega
def rPhr (A : Ab) (v : Int64) (k : Int32) : Int32 := if inL v 0 (lN (tot (pn A)) - 1) = true then if inL k.toInt64 0 13 = true then if k = 0 then nI (lnN (pn A) v.toInt.toNat) else if k = nI 13 then wsum (pn A) (cnum (pn A)) (qn (pn A) v.toInt.toNat) (lnN (pn A) v.toInt.toNat) else if k.toNatClampNeg ≤ lnN (pn A) v.toInt.toNat then nI (wword (pn A) (cnum (pn A)) (qn (pn A) v.toInt.toNat) (k.toNatClampNeg - 1)) else -9 else -2 else -1
theorem rPhr_k {m n : Nat} (hm : m < tot (pn A)) (ht : tot (pn A) ≤ 10000000000000) (hn : n ≤ 13) : rPhr A (lN m) (nI n) = if n = 0 then nI (lnN (pn A) m) else if n = 13 then wsum (pn A) (cnum (pn A)) (qn (pn A) m) (lnN (pn A) m) else if n ≤ lnN (pn A) m then nI (wword (pn A) (cnum (pn A)) (qn (pn A) m) (n - 1)) else -9 := by
  unfold rPhr
  rw [if_pos ((inLn ht).mpr ⟨m, hm, rfl⟩), if_pos ((inL_iff 13 rfl (by decide)).mpr ⟨n, hn, rfl⟩), nI_clamp (by omega), show (lN m).toInt.toNat = m by rw [pk_lT (by omega)]; rfl]
  simp only [nI_eq (show n < 2 ^ 31 by omega) (show 13 < 2 ^ 31 by decide), show (nI n = 0) = (n = 0) from propext (nI_eq (show n < 2 ^ 31 by omega) (show 0 < 2 ^ 31 by decide))]
theorem cX_phrase (hW : WFA A) (hR : RX B A sd σ) (v : Int64) (k : Int32) : MT ll B 24 0 0 yX0_phrase cX0_phrase 5 (some .int) [.ref (B.1 + 0), .long v, .int k] σ (oX B sd σ (rPhr A v k, A)) := by
  have hL := hR.1
  have hP : WFP (pn A) := pb_wr hW hW.now
  have h12 : sm (bg (pn A).2.2.2.1) 8 ≤ 12 := hW.now.2.1
  have ht := tot_b hP
  refine MT.of (by decide) (Nat.le_of_ble_eq_true rfl) (fun g hg hr => ?_)
  refine y_aload_n hg dX0_phrase_0 rfl ?_
  refine y_cVv hg (cX_look0 hW (WX.rf hR)) iX0_look q368 (hL.x) cf0 rfl rfl (by simp [Value.category]) (Nat.le_refl _) (Nat.le_refl _) (by decide) dX0_phrase_1 (fun σ2 hp => ?_)
  obtain ⟨hX, hC, hC2, hw⟩ := hp
  have hL := hw.1.1
  refine y_lload_n hg dX0_phrase_4 rfl ?_
  refine y_lconst (v := 0) hg dX0_phrase_5 rfl ?_
  refine y_aload_n hg dX0_phrase_6 rfl ?_
  refine y_cVl hg (cX_countAll hP hX hC) iX0_countAll q404 (hL.x) cf0 rfl rfl (by simp [Value.category]) (Nat.le_refl _) (Nat.le_refl _) (by decide) dX0_phrase_7 (fun r σ3 hp => ?_)
  obtain ⟨rfl, hf3, hC3⟩ := hp
  refine y_lconst (v := 1) hg dX0_phrase_10 rfl ?_
  refine y_lsub hg dX0_phrase_11 ?_
  have hw3 := hw.goR hW hf3 (fun a j q => by unfold XE; omega)
  have hX3 := hX.fr12 hP hf3 (fun a j q => by unfold EP; omega)
  have hL := hw3.1.1
  refine y_cSi hg (cX_isIn _ _ _) iX0_isIn q286 rfl rfl (by simp [Value.category]) (Nat.le_refl _) (Nat.le_refl _) (by decide) dX0_phrase_12 (fun r σ4 hp => ?_)
  obtain ⟨rfl, rfl⟩ := hp
  refine y_if_ne hg 20 dX0_phrase_15 (by decide) (fun hc => ?_) (fun hc => ?_)
  · have h1 := b2T hc
    refine y_iload_n hg dX0_phrase_20 rfl ?_
    refine y_i2l hg dX0_phrase_21 ?_
    refine y_lconst (v := 0) hg dX0_phrase_22 rfl ?_
    refine y_ldc2 hg dX0_phrase_23 q525 ?_
    refine y_cSi hg (cX_isIn _ _ _) iX0_isIn q286 rfl rfl (by simp [Value.category]) (Nat.le_refl _) (Nat.le_refl _) (by decide) dX0_phrase_26 (fun r σ5 hp => ?_)
    obtain ⟨rfl, rfl⟩ := hp
    refine y_if_ne hg 35 dX0_phrase_29 (by decide) (fun hc2 => ?_) (fun hc2 => ?_)
    · have h2 := b2T hc2
      obtain ⟨m, hm, rfl⟩ := (inLn ht).mp h1
      obtain ⟨n, hn, rfl⟩ := (inL_iff 13 rfl (by decide)).mp h2
      rw [rPhr_k hm ht hn] at hr
      obtain ⟨f1, f2⟩ := num_f hP h12 hm
      refine y_aload_n hg dX0_phrase_35 rfl ?_
      refine y_lload_n hg dX0_phrase_36 rfl ?_
      refine y_cVi hg (cX_layNumber hP h12 hX3 hC3 hm) iX0_layNumber q545 (hL.x) cf0 rfl rfl (by simp [Value.category]) (Nat.le_refl _) (Nat.le_refl _) (by decide) dX0_phrase_37 (fun r σ6 hp => ?_)
      obtain ⟨rfl, hf6, hC6, g1, g2⟩ := hp
      refine y_istore hg dX0_phrase_40 (by decide) (lv1 := [(0, _), (1, _), (3, _), (4, _)]) rfl ?_
      have hw6 := hw3.goR hW hf6 (fun a j q => by unfold NP at q; unfold XE; omega)
      have hL := hw6.1.1
      refine y_iload_n hg dX0_phrase_42 rfl ?_
      refine y_if_ne hg 53 dX0_phrase_43 (by decide) (fun hc3 => ?_) (fun hc3 => ?_)
      · have hn0 : ¬ n = 0 := fun z => hc3 (by rw [z]; rfl)
        rw [if_neg hn0] at hr
        refine y_iload_n hg dX0_phrase_53 rfl ?_
        refine y_bipush (v := nI 12) hg dX0_phrase_54 rfl ?_
        refine y_icmp_le hg 64 dX0_phrase_56 (by decide) (fun hc4 => ?_) (fun hc4 => ?_)
        · have hle := (nI_leI (by omega) (by decide)).mp hc4
          rw [if_neg (show ¬ n = 13 by omega)] at hr
          refine y_iload_n hg dX0_phrase_64 rfl ?_
          refine y_aload_n hg dX0_phrase_65 rfl ?_
          refine y_geti (j := 13) hg cf0 (hL.x) (by decide) rfl q185 dX0_phrase_66 ?_
          refine y_ti (g1) ?_
          refine y_icmp_gt hg 83 dX0_phrase_69 (by decide) (fun hc5 => ?_) (fun hc5 => ?_)
          · have hgt : ¬ n ≤ lnN (pn A) m := Nat.not_le.mpr ((nI_ltI (by omega) (by omega)).mp hc5)
            rw [if_neg hgt] at hr
            refine y_bipush (v := -9) hg dX0_phrase_83 rfl ?_
            refine y_iret hg hr ⟨_, rfl, ?_⟩ dX0_phrase_85 (Nat.le_refl _) (Nat.le_refl _)
            exact ⟨rfl, hw6.fin⟩
          · have hle2 : n ≤ lnN (pn A) m := Nat.le_of_not_lt (fun z => hc5 (nI_lt z (by omega)))
            rw [if_pos hle2] at hr
            refine y_aload_n hg dX0_phrase_72 rfl ?_
            refine y_getr (j := 12) hg cf0 (hL.x) (by decide) rfl (hL.r_found) q184 dX0_phrase_73 ?_
            refine y_iload_n hg dX0_phrase_76 rfl ?_
            refine y_iconst (v := nI 1) hg dX0_phrase_77 rfl ?_
            refine y_isub hg dX0_phrase_78 ?_
            refine y_ti (pk_sub (by omega)) ?_
            refine y_iald hg _ (hL.k_found) rfl (by omega) dX0_phrase_79 ?_
            refine y_ti (g2 _ (show n - 1 < lnN (pn A) m by omega)) ?_
            refine y_goto hg 85 dX0_phrase_80 (by decide) ?_
            refine y_iret hg hr ⟨_, rfl, ?_⟩ dX0_phrase_85 (Nat.le_refl _) (Nat.le_refl _)
            exact ⟨rfl, hw6.fin⟩
        · have h13 : n = 13 := by
            have : ¬ n ≤ 12 := fun z => hc4 (nI_le z (by decide))
            omega
          rw [if_pos h13] at hr
          refine y_iload hg dX0_phrase_59 rfl ?_
          refine y_goto hg 85 dX0_phrase_61 (by decide) ?_
          refine y_iret hg hr ⟨_, rfl, ?_⟩ dX0_phrase_85 (Nat.le_refl _) (Nat.le_refl _)
          exact ⟨rfl, hw6.fin⟩
      · have hn0 : n = 0 := nI_inj (b := 0) (by omega) (by decide) hc3
        rw [if_pos hn0] at hr
        refine y_aload_n hg dX0_phrase_46 rfl ?_
        refine y_geti (j := 13) hg cf0 (hL.x) (by decide) rfl q185 dX0_phrase_47 ?_
        refine y_goto hg 85 dX0_phrase_50 (by decide) ?_
        refine y_iret hg hr ⟨_, rfl, ?_⟩ dX0_phrase_85 (Nat.le_refl _) (Nat.le_refl _)
        exact ⟨g1, hw6.fin⟩
    · refine y_bipush (v := -2) hg dX0_phrase_32 rfl ?_
      refine y_iret hg hr ⟨_, rfl, ?_⟩ dX0_phrase_34 (Nat.le_refl _) (Nat.le_refl _)
      have eo : rPhr A v k = -2 := by unfold rPhr; rw [if_pos h1, if_neg (b2F hc2)]
      exact ⟨eo.symm, hw3.fin⟩
  · refine y_iconst (v := -1) hg dX0_phrase_18 rfl ?_
    refine y_iret hg hr ⟨_, rfl, ?_⟩ dX0_phrase_19 (Nat.le_refl _) (Nat.le_refl _)
    have eo : rPhr A v k = -1 := by unfold rPhr; rw [if_neg (b2F hc)]
    exact ⟨eo.symm, hw3.fin⟩
theorem cM_phrase (hW : WFA A) (hR : RMm B A sd σ) (v : Int64) (k : Int32) : MT ll B 24 0 0 yX3_phrase cX3_phrase 5 (some .int) [.ref (B.1 + 157), .long v, .int k] σ (oM B sd σ (rPhr A v k, A)) := by
  have hM := hR.1
  have hP : WFP (pn A) := pb_wr hW hW.now
  have h12 : sm (bg (pn A).2.2.2.1) 8 ≤ 12 := hW.now.2.1
  have ht := tot_b hP
  refine MT.of (by decide) (Nat.le_of_ble_eq_true rfl) (fun g hg hr => ?_)
  refine y_lload_n hg dX3_phrase_0 rfl ?_
  refine y_lconst (v := 0) hg dX3_phrase_1 rfl ?_
  refine y_aload_n hg dX3_phrase_2 rfl ?_
  refine y_aload_n hg dX3_phrase_3 rfl ?_
  refine y_getr (j := 7) hg cf3 (hM.m) (by decide) rfl (hM.r_now) q918 dX3_phrase_4 ?_
  refine y_cVl hg (cM_manyOf (P := pn A) hM (Or.inl rfl) hP (hR.wm hW) (fun j hj => hR.now hj) RMm.hu0) iX3_manyOf q1142 (hM.m) cf3 rfl rfl (by simp [Value.category]) (Nat.le_refl _) (Nat.le_refl _) (by decide) dX3_phrase_7 (fun r σ3 hp => ?_)
  obtain ⟨rfl, hX, hC, hf2⟩ := hp
  refine y_lconst (v := 1) hg dX3_phrase_10 rfl ?_
  refine y_lsub hg dX3_phrase_11 ?_
  have hw3 := (WM.rf hR).go hf2 (fun a j q => by unfold MyP MkP at q; unfold ME; omega)
  have hM := hw3.1.1
  refine y_cSi hg (cM_in _ _ _) iX3_in q1052 rfl rfl (by simp [Value.category]) (Nat.le_refl _) (Nat.le_refl _) (by decide) dX3_phrase_12 (fun r σ4 hp => ?_)
  obtain ⟨rfl, rfl⟩ := hp
  refine y_if_ne hg 20 dX3_phrase_15 (by decide) (fun hc => ?_) (fun hc => ?_)
  · have h1 := b2T hc
    refine y_iload_n hg dX3_phrase_20 rfl ?_
    refine y_i2l hg dX3_phrase_21 ?_
    refine y_lconst (v := 0) hg dX3_phrase_22 rfl ?_
    refine y_ldc2 hg dX3_phrase_23 q1247 ?_
    refine y_cSi hg (cM_in _ _ _) iX3_in q1052 rfl rfl (by simp [Value.category]) (Nat.le_refl _) (Nat.le_refl _) (by decide) dX3_phrase_26 (fun r σ5 hp => ?_)
    obtain ⟨rfl, rfl⟩ := hp
    refine y_if_ne hg 35 dX3_phrase_29 (by decide) (fun hc2 => ?_) (fun hc2 => ?_)
    · have h2 := b2T hc2
      obtain ⟨m, hm, rfl⟩ := (inLn ht).mp h1
      obtain ⟨n, hn, rfl⟩ := (inL_iff 13 rfl (by decide)).mp h2
      rw [rPhr_k hm ht hn] at hr
      obtain ⟨f1, f2⟩ := num_f hP h12 hm
      refine y_aload_n hg dX3_phrase_35 rfl ?_
      refine y_lload_n hg dX3_phrase_36 rfl ?_
      refine y_cVi hg (cM_find hP h12 hX hC hm) iX3_find q1268 (hM.m) cf3 rfl rfl (by simp [Value.category]) (Nat.le_refl _) (Nat.le_refl _) (by decide) dX3_phrase_37 (fun r σ6 hp => ?_)
      obtain ⟨rfl, hf6, g2⟩ := hp
      refine y_istore hg dX3_phrase_40 (by decide) (lv1 := [(0, _), (1, _), (3, _), (4, _)]) rfl ?_
      have hw6 := hw3.go hf6 (fun a j q => by unfold ME; omega)
      have hX6 := hX.fr hf6 (fun a j q => by unfold EM; omega)
      have hM := hw6.1.1
      replace g2 : FdM σ6 (pn A) (cnum (pn A)) (qn (pn A) m) (lnN (pn A) m) := g2
      show YY g 5 σ6 0 0 42 [(0, .ref (B.1 + 157)), (1, .long (lN m)), (3, .int (nI n)), (4, .int (nI (lnN (pn A) m)))] []
      refine y_iload_n hg dX3_phrase_42 rfl ?_
      refine y_if_ne hg 51 dX3_phrase_43 (by decide) (fun hc3 => ?_) (fun hc3 => ?_)
      · have hn0 : ¬ n = 0 := fun z => hc3 (by rw [z]; rfl)
        rw [if_neg hn0] at hr
        refine y_iload_n hg dX3_phrase_51 rfl ?_
        refine y_bipush (v := nI 13) hg dX3_phrase_52 rfl ?_
        refine y_icmp_ne hg 66 dX3_phrase_54 (by decide) (fun hc4 => ?_) (fun hc4 => ?_)
        · have h13 : ¬ n = 13 := fun z => hc4 (by rw [z])
          rw [if_neg h13] at hr
          refine y_iload_n hg dX3_phrase_66 rfl ?_
          refine y_iload hg dX3_phrase_67 rfl ?_
          refine y_icmp_gt hg 83 dX3_phrase_69 (by decide) (fun hc5 => ?_) (fun hc5 => ?_)
          · have hgt : ¬ n ≤ lnN (pn A) m := Nat.not_le.mpr ((nI_ltI (by omega) (by omega)).mp hc5)
            rw [if_neg hgt] at hr
            refine y_bipush (v := -9) hg dX3_phrase_83 rfl ?_
            refine y_iret hg hr ⟨_, rfl, ?_⟩ dX3_phrase_85 (Nat.le_refl _) (Nat.le_refl _)
            exact ⟨rfl, hw6.fin⟩
          · have hle2 : n ≤ lnN (pn A) m := Nat.le_of_not_lt (fun z => hc5 (nI_lt z (by omega)))
            rw [if_pos hle2] at hr
            refine y_aload_n hg dX3_phrase_72 rfl ?_
            refine y_getr (j := 39) hg cf3 (hM.m) (by decide) rfl (hM.r_found) q950 dX3_phrase_73 ?_
            refine y_iload_n hg dX3_phrase_76 rfl ?_
            refine y_iconst (v := nI 1) hg dX3_phrase_77 rfl ?_
            refine y_isub hg dX3_phrase_78 ?_
            refine y_ti (pk_sub (by omega)) ?_
            refine y_iald hg _ (hM.k_found) rfl (by omega) dX3_phrase_79 ?_
            refine y_ti (g2 _ (show n - 1 < lnN (pn A) m by omega)) ?_
            refine y_goto hg 85 dX3_phrase_80 (by decide) ?_
            refine y_iret hg hr ⟨_, rfl, ?_⟩ dX3_phrase_85 (Nat.le_refl _) (Nat.le_refl _)
            exact ⟨rfl, hw6.fin⟩
        · have h13 : n = 13 := nI_inj (by omega) (by decide) hc4
          rw [if_pos h13] at hr
          refine y_aload_n hg dX3_phrase_57 rfl ?_
          refine y_iload hg dX3_phrase_58 rfl ?_
          refine y_cVi hg (cM_worthOf hP hX6 f1 g2 f2) iX3_worthOf q1260 (hM.m) cf3 rfl rfl (by simp [Value.category]) (Nat.le_refl _) (Nat.le_refl _) (by decide) dX3_phrase_60 (fun r σ7 hp => ?_)
          obtain ⟨rfl, rfl⟩ := hp
          refine y_goto hg 85 dX3_phrase_63 (by decide) ?_
          refine y_iret hg hr ⟨_, rfl, ?_⟩ dX3_phrase_85 (Nat.le_refl _) (Nat.le_refl _)
          exact ⟨rfl, hw6.fin⟩
      · have hn0 : n = 0 := nI_inj (b := 0) (by omega) (by decide) hc3
        rw [if_pos hn0] at hr
        refine y_iload hg dX3_phrase_46 rfl ?_
        refine y_goto hg 85 dX3_phrase_48 (by decide) ?_
        refine y_iret hg hr ⟨_, rfl, ?_⟩ dX3_phrase_85 (Nat.le_refl _) (Nat.le_refl _)
        exact ⟨rfl, hw6.fin⟩
    · refine y_bipush (v := -2) hg dX3_phrase_32 rfl ?_
      refine y_iret hg hr ⟨_, rfl, ?_⟩ dX3_phrase_34 (Nat.le_refl _) (Nat.le_refl _)
      have eo : rPhr A v k = -2 := by unfold rPhr; rw [if_pos h1, if_neg (b2F hc2)]
      exact ⟨eo.symm, hw3.fin⟩
  · refine y_iconst (v := -1) hg dX3_phrase_18 rfl ?_
    refine y_iret hg hr ⟨_, rfl, ?_⟩ dX3_phrase_19 (Nat.le_refl _) (Nat.le_refl _)
    have eo : rPhr A v k = -1 := by unfold rPhr; rw [if_neg (b2F hc)]
    exact ⟨eo.symm, hw3.fin⟩
end Best

