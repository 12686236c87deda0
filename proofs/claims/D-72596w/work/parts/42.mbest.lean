section MBest
variable {ll : Launch} {B : Bs} {σ : Mem}
/-- the worth with a word -/
def bwi (P : Pb) (r w : Nat) : Int32 := if wb P r w = -9 then -9 else wb P r w + rk P w
/-- what M lays -/
def wv (P : Pb) (r k : Nat) : Int32 := fo (wst P r k (wb P r)) (-9) P.1
theorem wv_0 {P : Pb} (hP : WFP P) (k : Nat) : wv P 0 k = -9 := by
  refine fo_inv (I := fun _ x => x = -9) P.1 rfl (fun w b hw hb => ?_)
  have hm : ¬ mayB P w 0 k = true := fun hm => by
    have := stp_le (may_fit hm)
    have := stp_pos hP hw
    omega
  rw [wst_n (by rw [if_neg hm]), hb]
theorem wv_s {P : Pb} (hP : WFP P) {r : Nat} (k : Nat) (hr : 0 < r) : wv P r k = wor P r k := (wor_s hP k hr).symm
theorem up9_lt {x : Int32} {c : Nat} (h : up9 x c) (hc : c < 1000) : x < 0 ↔ x = -9 := by
  rcases h with h | ⟨v, hv, h⟩
  · rw [h]; decide
  · rw [h]
    exact ⟨fun q => absurd q (nI_pos (by omega)), fun q => absurd q (m9_ne (by omega))⟩
theorem wb_up {P : Pb} (hP : WFP P) (hR : WFR P) {r w : Nat} (hw : w < P.1) (hr : r < nS P) : up9 (wb P r w) 117 := by
  have h1 := wor_up hP hR (r - stp P w) (P.2.2.1 w) (by omega)
  have h2 := ds_le hP (r - stp P w)
  rcases h1 with h | ⟨v, hv, h⟩
  · exact Or.inl h
  · exact Or.inr ⟨v, by omega, h⟩
theorem cM_bestWith {P : Pb} {w r : Nat} (hP : WFP P) (hR : WFR P) (hX : PM B σ P) (hw : w < P.1) (hrS : r < nS P) (hfit : fitB P w r = true) (hv : 0 < r - stp P w → σ.2.2.1 182 (5 * (r - stp P w) + P.2.2.1 w) = wor P (r - stp P w) (P.2.2.1 w)) :
    MT ll B 1 0 0 yX3_bestWith cX3_bestWith 4 (some .int) [.ref (B.1 + 157), .int (nI r), .int (nI w)] σ (pI fun v σ' => v = bwi P r w ∧ σ' = σ) := by
  obtain ⟨hM, hW, hop, hbs, hwh, hal, hpr, hft⟩ := hX
  have h10 := hP.1
  have hnS := nS_le hP
  have hkd := (hW.2 w hw).1
  have hkd4 := (hP.2.1 w hw).1
  have hle := stp_le hfit
  have hrk : σ.2.2.1 176 (9 + w) = rk P w := hop (9 + w) (by omega)
  have hup := wb_up hP hR hw hrS
  refine MT.of (by decide) (Nat.le_of_ble_eq_true rfl) (fun g hg hr => ?_)
  refine y_iload_n hg dX3_bestWith_0 rfl ?_
  refine y_aload_n hg dX3_bestWith_1 rfl ?_
  refine y_getr (j := 33) hg cf3 (hM.m) (by decide) rfl (hM.r_price) q944 dX3_bestWith_2 ?_
  refine y_iload_n hg dX3_bestWith_5 rfl ?_
  refine y_iald hg _ (hM.k_price) rfl (by omega) dX3_bestWith_6 ?_
  refine y_ti (hpr w hw) ?_
  refine y_isub hg dX3_bestWith_7 ?_
  refine y_ti (pk_sub hle) ?_
  refine y_istore_n hg dX3_bestWith_8 (by decide) (lv1 := [(0, _), (1, _), (2, _), (3, _)]) rfl ?_
  refine y_iload_n hg dX3_bestWith_9 rfl ?_
  refine y_if_ne hg 47 dX3_bestWith_10 (by decide) (fun hc => ?_) (fun hc => ?_)
  · have h0 : 0 < r - stp P w := by
      rcases Nat.eq_zero_or_pos (r - stp P w) with z | z
      · exact absurd (by rw [z]; rfl) hc
      · exact z
    have hvv : σ.2.2.1 182 (5 * (r - stp P w) + P.2.2.1 w) = wb P r w := hv h0
    refine y_aload_n hg dX3_bestWith_47 rfl ?_
    refine y_getr (j := 37) hg cf3 (hM.m) (by decide) rfl (hM.r_best) q948 dX3_bestWith_48 ?_
    refine y_iconst (v := nI 5) hg dX3_bestWith_51 rfl ?_
    refine y_iload_n hg dX3_bestWith_52 rfl ?_
    refine y_imul hg dX3_bestWith_53 ?_
    refine y_ti (pk_mul _ _) ?_
    refine y_aload_n hg dX3_bestWith_54 rfl ?_
    refine y_getr (j := 5) hg cf3 (hM.m) (by decide) rfl (hM.r_kind) q916 dX3_bestWith_55 ?_
    refine y_iload_n hg dX3_bestWith_58 rfl ?_
    refine y_iald hg _ (hM.k_kind) rfl (by omega) dX3_bestWith_59 ?_
    refine y_ti (hkd) ?_
    refine y_iadd hg dX3_bestWith_60 ?_
    refine y_ti (nI_add _ _) ?_
    refine y_iald hg _ (hM.k_best) rfl (by omega) dX3_bestWith_61 ?_
    refine y_ti (hvv) ?_
    refine y_if_ge hg 70 dX3_bestWith_62 (by decide) (fun hc2 => ?_) (fun hc2 => ?_)
    · refine y_aload_n hg dX3_bestWith_70 rfl ?_
      refine y_getr (j := 37) hg cf3 (hM.m) (by decide) rfl (hM.r_best) q948 dX3_bestWith_71 ?_
      refine y_iconst (v := nI 5) hg dX3_bestWith_74 rfl ?_
      refine y_iload_n hg dX3_bestWith_75 rfl ?_
      refine y_imul hg dX3_bestWith_76 ?_
      refine y_ti (pk_mul _ _) ?_
      refine y_aload_n hg dX3_bestWith_77 rfl ?_
      refine y_getr (j := 5) hg cf3 (hM.m) (by decide) rfl (hM.r_kind) q916 dX3_bestWith_78 ?_
      refine y_iload_n hg dX3_bestWith_81 rfl ?_
      refine y_iald hg _ (hM.k_kind) rfl (by omega) dX3_bestWith_82 ?_
      refine y_ti (hkd) ?_
      refine y_iadd hg dX3_bestWith_83 ?_
      refine y_ti (nI_add _ _) ?_
      refine y_iald hg _ (hM.k_best) rfl (by omega) dX3_bestWith_84 ?_
      refine y_ti (hvv) ?_
      refine y_aload_n hg dX3_bestWith_85 rfl ?_
      refine y_getr (j := 29) hg cf3 (hM.m) (by decide) rfl (hM.r_open) q940 dX3_bestWith_86 ?_
      refine y_bipush (v := nI 9) hg dX3_bestWith_89 rfl ?_
      refine y_iload_n hg dX3_bestWith_91 rfl ?_
      refine y_iadd hg dX3_bestWith_92 ?_
      refine y_ti (nI_add _ _) ?_
      refine y_iald hg _ (hM.k_open) rfl (by omega) dX3_bestWith_93 ?_
      refine y_ti (hrk) ?_
      refine y_iadd hg dX3_bestWith_94 ?_
      refine y_iret hg hr ⟨_, rfl, ?_⟩ dX3_bestWith_95 (Nat.le_refl _) (Nat.le_refl _)
      refine ⟨?_, rfl⟩
      rw [bwi, if_neg (fun e => by rw [e] at hc2; exact absurd hc2 (by decide))]
    · refine y_bipush (v := -9) hg dX3_bestWith_65 rfl ?_
      refine y_goto hg 95 dX3_bestWith_67 (by decide) ?_
      refine y_iret hg hr ⟨_, rfl, ?_⟩ dX3_bestWith_95 (Nat.le_refl _) (Nat.le_refl _)
      refine ⟨?_, rfl⟩
      rw [bwi, if_pos ((up9_lt hup (by omega)).mp (Int32.not_le.mp hc2))]
  · have h0 : r - stp P w = 0 := by
      rcases Nat.eq_zero_or_pos (r - stp P w) with z | z
      · exact z
      · exact absurd hc (nI_ne0 z (by omega))
    have e0 : wb P r w = if endB P (P.2.2.1 w) = true then 0 else -9 := by rw [wb, h0, wor_0]
    refine y_aload_n hg dX3_bestWith_13 rfl ?_
    refine y_getr (j := 29) hg cf3 (hM.m) (by decide) rfl (hM.r_open) q940 dX3_bestWith_14 ?_
    refine y_bipush (v := nI 20) hg dX3_bestWith_17 rfl ?_
    refine y_iald hg _ (hM.k_open) rfl (by omega) dX3_bestWith_19 ?_
    refine y_ti (hop 20 (by omega)) ?_
    refine y_aload_n hg dX3_bestWith_20 rfl ?_
    refine y_getr (j := 5) hg cf3 (hM.m) (by decide) rfl (hM.r_kind) q916 dX3_bestWith_21 ?_
    refine y_iload_n hg dX3_bestWith_24 rfl ?_
    refine y_iald hg _ (hM.k_kind) rfl (by omega) dX3_bestWith_25 ?_
    refine y_ti (hkd) ?_
    refine y_cSi hg (cM_has _ _) iX3_has q1100 rfl rfl (by simp [Value.category]) (Nat.le_refl _) (Nat.le_refl _) (by decide) dX3_bestWith_26 (fun r σ1 hp => ?_)
    obtain ⟨rfl, rfl⟩ := hp
    refine y_if_eq hg 44 dX3_bestWith_29 (by decide) (fun hc2 => ?_) (fun hc2 => ?_)
    · refine y_bipush (v := -9) hg dX3_bestWith_44 rfl ?_
      refine y_iret hg hr ⟨_, rfl, ?_⟩ dX3_bestWith_46 (Nat.le_refl _) (Nat.le_refl _)
      refine ⟨?_, rfl⟩
      have he : ¬ endB P (P.2.2.1 w) = true := by rw [endB, (b2_eq _).mp hc2, Bool.and_false]; decide
      rw [bwi, e0, if_neg he, if_pos rfl]
    · refine y_aload_n hg dX3_bestWith_32 rfl ?_
      refine y_getr (j := 29) hg cf3 (hM.m) (by decide) rfl (hM.r_open) q940 dX3_bestWith_33 ?_
      refine y_bipush (v := nI 9) hg dX3_bestWith_36 rfl ?_
      refine y_iload_n hg dX3_bestWith_38 rfl ?_
      refine y_iadd hg dX3_bestWith_39 ?_
      refine y_ti (nI_add _ _) ?_
      refine y_iald hg _ (hM.k_open) rfl (by omega) dX3_bestWith_40 ?_
      refine y_ti (hrk) ?_
      refine y_goto hg 46 dX3_bestWith_41 (by decide) ?_
      refine y_iret hg hr ⟨_, rfl, ?_⟩ dX3_bestWith_46 (Nat.le_refl _) (Nat.le_refl _)
      refine ⟨?_, rfl⟩
      have he : endB P (P.2.2.1 w) = true := by rw [endB, (b2_ne _).mp hc2, decide_eq_true hkd4]; rfl
      rw [bwi, e0, if_pos he, if_neg (by decide), Int32.zero_add]
def WbM (σ : Mem) (P : Pb) : Prop := ∀ q, q < 5 * nS P → σ.2.2.1 182 q = wv P (q / 5) (q % 5)
theorem WbM.at {σ : Mem} {P : Pb} (h : WbM σ P) {r k : Nat} (hr : r < nS P) (hk : k < 5) : σ.2.2.1 182 (5 * r + k) = wv P r k := by
  have := h (5 * r + k) (by omega)
  rw [show (5 * r + k) / 5 = r by omega, show (5 * r + k) % 5 = k by omega] at this
  exact this
/-- M's step is X's -/
theorem mst_eq {P : Pb} {r k w c : Nat} {b : Int32} (hb : up9 b c) (hc : c < 1000) : (if (if mayB P w r k = true then bwi P r w else -9) ≤ b then b else (if mayB P w r k = true then bwi P r w else -9)) = wst P r k (wb P r) w b := by
  have h9 : (-9 : Int32) ≤ b := by
    rcases hb with h | ⟨v, hv, h⟩
    · rw [h]; decide
    · rw [h]; exact Int32.le_of_lt (m9_lt (by omega))
  unfold wst bwi
  by_cases hm : mayB P w r k = true
  · simp only [hm, if_true]
    by_cases h : wb P r w = -9
    · rw [if_pos h, if_pos h, if_pos h9]
    · rw [if_neg h, if_neg h]
      by_cases hl : b < wb P r w + rk P w
      · rw [if_pos hl, if_neg (Int32.not_le.mpr hl)]
      · rw [if_neg hl, if_pos (Int32.not_lt.mp hl)]
  · simp only [hm]
    simp [h9]
theorem fo_up {P : Pb} (hP : WFP P) (hR : WFR P) {r k : Nat} (hr : r < nS P) : ∀ n, n ≤ P.1 → up9 (fo (wst P r k (wb P r)) (-9) n) 126 := by
  intro n hn
  refine fo_inv (I := fun _ x => up9 x 126) n (Or.inl rfl) (fun w b hw hb => ?_)
  unfold wst
  by_cases hm : mayB P w r k = true
  · simp only [hm, if_true]
    by_cases h9 : wb P r w = -9
    · rw [if_pos h9]; exact hb
    · rw [if_neg h9]
      rcases wb_up hP hR (show w < P.1 by omega) hr with h | ⟨v, hv, he⟩
      · exact absurd h h9
      · obtain ⟨u, hu, hu2⟩ := hR w (by omega)
        rw [show wb P r w + rk P w = nI (v + u) by rw [he, hu2, nI_add]]
        by_cases hlt : b < nI (v + u)
        · rw [if_pos hlt]; exact Or.inr ⟨v + u, by omega, rfl⟩
        · rw [if_neg hlt]; exact hb
  · simp only [hm]
    simpa using hb
theorem cM_layBest {P : Pb} (hP : WFP P) (hR : WFR P) (hX : PM B σ P) :
    MT ll B 2 0 0 yX3_layBest cX3_layBest 4 none [.ref (B.1 + 157)] σ (pV fun σ' => FrR (fun a _ => a = 182) σ σ' ∧ WbM σ' P) := by
  have h10 := hP.1
  have hnS := nS_le hP
  have hpos := nS_pos P
  have hn := hX.1.n
  refine MT.of (by decide) (Nat.le_of_ble_eq_true rfl) (fun g hg hr => ?_)
  refine y_iconst (v := nI 0) hg dX3_layBest_0 rfl ?_
  refine y_istore_n hg dX3_layBest_1 (by decide) (lv1 := [(0, _), (1, _)]) rfl ?_
  refine (loop_st (S := Mem) (G := fun q s => YY g 4 s 0 0 2 [(0, .ref (B.1 + 157)), (1, .int (nI q))] []) (I := fun q s => FrR (fun a _ => a = 182) σ s ∧ ∀ p, p < q → s.2.2.1 182 p = wv P (p / 5) (p % 5)) (5 * nS P) (fun q s hq hI ih => ?_) (fun s hI => ?_) 0 _ (Nat.zero_le _) ⟨FrR.rf, fun p hp => absurd hp (by omega)⟩)
  · obtain ⟨hf, h1⟩ := hI
    have hXs := hX.fr hf (fun a j h => by unfold EM; omega)
    have hM := hXs.1
    have hwh := hXs.2.2.2.2.1
    have hrS : q / 5 < nS P := by omega
    have hk : q % 5 < 5 := Nat.mod_lt _ (by omega)
    have hdv : nI q / nI 5 = nI (q / 5) := pk_div (by omega) (by omega) (by omega)
    have hrm : nI q - nI q / nI 5 * nI 5 = nI (q % 5) := pk_rem (by omega) (by omega) (by omega)
    refine y_iload_n hg dX3_layBest_2 rfl ?_
    refine y_iconst (v := nI 5) hg dX3_layBest_3 rfl ?_
    refine y_aload_n hg dX3_layBest_4 rfl ?_
    refine y_geti (j := 31) hg cf3 (hM.m) (by decide) rfl q942 dX3_layBest_5 ?_
    refine y_ti (hwh) ?_
    refine y_imul hg dX3_layBest_8 ?_
    refine y_ti (pk_mul _ _) ?_
    refine y_iconst (v := nI 4) hg dX3_layBest_9 rfl ?_
    refine y_iadd hg dX3_layBest_10 ?_
    refine y_ti (nI_add _ _) ?_
    refine y_icmp_gt hg 98 dX3_layBest_11 (by decide) (fun hT => absurd hT (nI_nlt (by omega) (by omega))) (fun _ => ?_)
    refine y_aload_n hg dX3_layBest_14 rfl ?_
    refine y_getr (j := 37) hg cf3 (hM.m) (by decide) rfl (hM.r_best) q948 dX3_layBest_15 ?_
    refine y_iload_n hg dX3_layBest_18 rfl ?_
    refine y_bipush (v := -9) hg dX3_layBest_19 rfl ?_
    refine y_iast hg _ (hM.k_best) rfl (by omega) dX3_layBest_21 ?_
    refine y_iconst (v := nI 0) hg dX3_layBest_22 rfl ?_
    refine y_istore_n hg dX3_layBest_23 (by decide) (lv1 := [(0, _), (1, _), (2, _)]) rfl ?_
    refine (loop_st (S := Mem) (G := fun w s => YY g 4 s 0 0 24 [(0, .ref (B.1 + 157)), (1, .int (nI q)), (2, .int (nI w))] []) (I := fun w s => FrR (fun a _ => a = 182) σ s ∧ (∀ p, p < q → s.2.2.1 182 p = wv P (p / 5) (p % 5)) ∧ s.2.2.1 182 q = fo (wst P (q / 5) (q % 5) (wb P (q / 5))) (-9) w) P.1 (fun w s hw hI ih2 => ?_) (fun s hI => ?_) 0 _ (Nat.zero_le _) ⟨hf.stI rfl, fun p hp => (gI_n (by omega)).trans (h1 p hp), gI_s⟩)
    · obtain ⟨hf, h1, h2⟩ := hI
      have hXs := hX.fr hf (fun a j h => by unfold EM; omega)
      have hM := hXs.1
      have hW := hXs.2.1
      have J : ∀ t : Int32, t = (if mayB P w (q / 5) (q % 5) = true then bwi P (q / 5) w else -9) → YY g 4 s 0 0 59 [(0, .ref (B.1 + 157)), (1, .int (nI q)), (2, .int (nI w))] [.int t] := by
        intro t ht
        have J2 : ∀ v : Int32, v = fo (wst P (q / 5) (q % 5) (wb P (q / 5))) (-9) (w + 1) → YY g 4 s 0 0 85 [(0, .ref (B.1 + 157)), (1, .int (nI q)), (2, .int (nI w)), (3, .int t)] [.int v, .int (nI q), .ref (B.1 + 182)] := by
          intro v hv
          refine y_iast hg _ (hM.k_best) rfl (by omega) dX3_layBest_85 ?_
          refine y_iinc hg dX3_layBest_86 rfl (inc1 _) (by decide) (lv1 := [(0, _), (1, _), (2, _), (3, _)]) rfl ?_
          refine y_goto hg 24 dX3_layBest_89 (by decide) ?_
          refine y_sub [0, 1, 2] rfl (ih2 _ ⟨hf.stI rfl, fun p hp => (gI_n (by omega)).trans (h1 p hp), gI_s.trans hv⟩)
        have hst := mst_eq (P := P) (r := q / 5) (k := q % 5) (w := w) (fo_up (k := q % 5) hP hR hrS w (by omega)) (by omega)
        rw [← ht] at hst
        refine y_istore_n hg dX3_layBest_59 (by decide) (lv1 := [(0, _), (1, _), (2, _), (3, _)]) rfl ?_
        refine y_aload_n hg dX3_layBest_60 rfl ?_
        refine y_getr (j := 37) hg cf3 (hM.m) (by decide) rfl (hM.r_best) q948 dX3_layBest_61 ?_
        refine y_iload_n hg dX3_layBest_64 rfl ?_
        refine y_iload_n hg dX3_layBest_65 rfl ?_
        refine y_aload_n hg dX3_layBest_66 rfl ?_
        refine y_getr (j := 37) hg cf3 (hM.m) (by decide) rfl (hM.r_best) q948 dX3_layBest_67 ?_
        refine y_iload_n hg dX3_layBest_70 rfl ?_
        refine y_iald hg _ (hM.k_best) rfl (by omega) dX3_layBest_71 ?_
        refine y_ti (h2) ?_
        refine y_icmp_le hg 79 dX3_layBest_72 (by decide) (fun hc => ?_) (fun hc => ?_)
        · refine y_aload_n hg dX3_layBest_79 rfl ?_
          refine y_getr (j := 37) hg cf3 (hM.m) (by decide) rfl (hM.r_best) q948 dX3_layBest_80 ?_
          refine y_iload_n hg dX3_layBest_83 rfl ?_
          refine y_iald hg _ (hM.k_best) rfl (by omega) dX3_layBest_84 ?_
          refine y_ti (h2) ?_
          refine J2 _ ?_
          rw [if_pos hc] at hst
          exact hst
        · refine y_iload_n hg dX3_layBest_75 rfl ?_
          refine y_goto hg 85 dX3_layBest_76 (by decide) ?_
          refine J2 _ ?_
          rw [if_neg hc] at hst
          exact hst
      refine y_iload_n hg dX3_layBest_24 rfl ?_
      refine y_aload_n hg dX3_layBest_25 rfl ?_
      refine y_geti (j := 2) hg cf3 (hM.m) (by decide) rfl q913 dX3_layBest_26 ?_
      refine y_ti (hW.1) ?_
      refine y_icmp_ge hg 92 dX3_layBest_29 (by decide) (fun hT => absurd hT (ge_c hw (by omega))) (fun _ => ?_)
      refine y_aload_n hg dX3_layBest_32 rfl ?_
      refine y_iload_n hg dX3_layBest_33 rfl ?_
      refine y_iconst (v := nI 5) hg dX3_layBest_34 rfl ?_
      refine y_idiv hg dX3_layBest_35 (by decide) ?_
      refine y_ti (hdv) ?_
      refine y_iload_n hg dX3_layBest_36 rfl ?_
      refine y_iconst (v := nI 5) hg dX3_layBest_37 rfl ?_
      refine y_irem hg dX3_layBest_38 (by decide) ?_
      refine y_ti (hrm) ?_
      refine y_iload_n hg dX3_layBest_39 rfl ?_
      refine y_cVi hg (cM_mayCome hP hXs hw hrS hk) iX3_mayCome q1150 (hM.m) cf3 rfl rfl (by simp [Value.category]) (Nat.le_refl _) (Nat.le_refl _) (by decide) dX3_layBest_40 (fun r σ1 hp => ?_)
      obtain ⟨rfl, rfl⟩ := hp
      refine y_if_eq hg 57 dX3_layBest_43 (by decide) (fun hc => ?_) (fun hc => ?_)
      · refine y_bipush (v := -9) hg dX3_layBest_57 rfl ?_
        exact J _ (by rw [if_neg (by rw [(b2_eq _).mp hc]; decide)])
      · have hmay := (b2_ne _).mp hc
        have hfit := may_fit hmay
        have hle := stp_le hfit
        have hpos := stp_pos hP hw
        have hkd4 := (hP.2.1 w hw).1
        refine y_aload_n hg dX3_layBest_46 rfl ?_
        refine y_iload_n hg dX3_layBest_47 rfl ?_
        refine y_iconst (v := nI 5) hg dX3_layBest_48 rfl ?_
        refine y_idiv hg dX3_layBest_49 (by decide) ?_
        refine y_ti (hdv) ?_
        refine y_iload_n hg dX3_layBest_50 rfl ?_
        refine y_cVi hg (cM_bestWith hP hR hXs hw hrS hfit (fun h => by rw [h1 _ (by omega), show (5 * (q / 5 - stp P w) + P.2.2.1 w) / 5 = q / 5 - stp P w by omega, show (5 * (q / 5 - stp P w) + P.2.2.1 w) % 5 = P.2.2.1 w by omega, wv_s hP _ h])) iX3_bestWith q1256 (hM.m) cf3 rfl rfl (by simp [Value.category]) (Nat.le_refl _) (Nat.le_refl _) (by decide) dX3_layBest_51 (fun r σ1 hp => ?_)
        obtain ⟨rfl, rfl⟩ := hp
        refine y_goto hg 59 dX3_layBest_54 (by decide) ?_
        exact J _ (by rw [if_pos hmay])
    · obtain ⟨hf, h1, h2⟩ := hI
      have hXs := hX.fr hf (fun a j h => by unfold EM; omega)
      have hM := hXs.1
      have hW := hXs.2.1
      refine y_iload_n hg dX3_layBest_24 rfl ?_
      refine y_aload_n hg dX3_layBest_25 rfl ?_
      refine y_geti (j := 2) hg cf3 (hM.m) (by decide) rfl q913 dX3_layBest_26 ?_
      refine y_ti (hW.1) ?_
      refine y_icmp_ge hg 92 dX3_layBest_29 (by decide) (fun _ => ?_) (fun hF => absurd (le_c (Nat.le_refl _) (by omega)) hF)
      refine y_iinc hg dX3_layBest_92 rfl (inc1 _) (by decide) (lv1 := [(0, _), (1, _), (2, _)]) rfl ?_
      refine y_goto hg 2 dX3_layBest_95 (by decide) ?_
      refine y_sub [0, 1] rfl (ih _ ⟨hf, fun p hp => ?_⟩)
      by_cases e : p = q
      · subst e; exact h2
      · exact h1 p (by omega)
  · obtain ⟨hf, h1⟩ := hI
    have hXs := hX.fr hf (fun a j h => by unfold EM; omega)
    have hM := hXs.1
    have hwh := hXs.2.2.2.2.1
    refine y_iload_n hg dX3_layBest_2 rfl ?_
    refine y_iconst (v := nI 5) hg dX3_layBest_3 rfl ?_
    refine y_aload_n hg dX3_layBest_4 rfl ?_
    refine y_geti (j := 31) hg cf3 (hM.m) (by decide) rfl q942 dX3_layBest_5 ?_
    refine y_ti (hwh) ?_
    refine y_imul hg dX3_layBest_8 ?_
    refine y_ti (pk_mul _ _) ?_
    refine y_iconst (v := nI 4) hg dX3_layBest_9 rfl ?_
    refine y_iadd hg dX3_layBest_10 ?_
    refine y_ti (nI_add _ _) ?_
    refine y_icmp_gt hg 98 dX3_layBest_11 (by decide) (fun _ => ?_) (fun hF => absurd (nI_lt (by omega) (by omega)) hF)
    refine y_vret hg hr ⟨rfl, ?_⟩ dX3_layBest_98 (Nat.le_refl _) (Nat.le_refl _)
    exact ⟨hf, h1⟩
/-- what is found is a way's row -/
def FdM (σ : Mem) (P : Pb) (c : Wy → Nat × Nat) (q : Wy) (n : Nat) : Prop := ∀ i, i < n → σ.2.2.1 184 i = nI (wword P c q i)
theorem cM_worthOf {P : Pb} {c : Wy → Nat × Nat} {q : Wy} {n : Nat} (hP : WFP P) (hX : PM B σ P) (hn : n ≤ 12) (hF : FdM σ P c q n) (hw : ∀ i, i < n → wword P c q i < P.1) :
    MT ll B 0 0 0 yX3_worthOf cX3_worthOf 4 (some .int) [.ref (B.1 + 157), .int (nI n)] σ (pI fun v σ' => v = wsum P c q n ∧ σ' = σ) := by
  obtain ⟨hM, hW, hop, hbs, hwh, hal, hpr, hft⟩ := hX
  have h10 := hP.1
  refine MT.of (by decide) (Nat.le_of_ble_eq_true rfl) (fun g hg hr => ?_)
  refine y_iconst (v := nI 0) hg dX3_worthOf_0 rfl ?_
  refine y_istore_n hg dX3_worthOf_1 (by decide) (lv1 := [(0, _), (1, _), (2, _)]) rfl ?_
  refine y_iconst (v := nI 0) hg dX3_worthOf_2 rfl ?_
  refine y_istore_n hg dX3_worthOf_3 (by decide) (lv1 := [(0, _), (1, _), (2, _), (3, _)]) rfl ?_
  refine (loop_up (G := fun i => YY g 4 σ 0 0 4 [(0, .ref (B.1 + 157)), (1, .int (nI n)), (2, .int (wsum P c q i)), (3, .int (nI i))] []) n (fun i hi ih => ?_) ?_ 0 (Nat.zero_le _))
  · have hwi := hw i hi
    refine y_iload_n hg dX3_worthOf_4 rfl ?_
    refine y_iload_n hg dX3_worthOf_5 rfl ?_
    refine y_icmp_ge hg 32 dX3_worthOf_6 (by decide) (fun hT => absurd hT (ge_c hi (by omega))) (fun _ => ?_)
    refine y_iload_n hg dX3_worthOf_9 rfl ?_
    refine y_aload_n hg dX3_worthOf_10 rfl ?_
    refine y_getr (j := 29) hg cf3 (hM.m) (by decide) rfl (hM.r_open) q940 dX3_worthOf_11 ?_
    refine y_bipush (v := nI 9) hg dX3_worthOf_14 rfl ?_
    refine y_aload_n hg dX3_worthOf_16 rfl ?_
    refine y_getr (j := 39) hg cf3 (hM.m) (by decide) rfl (hM.r_found) q950 dX3_worthOf_17 ?_
    refine y_iload_n hg dX3_worthOf_20 rfl ?_
    refine y_iald hg _ (hM.k_found) rfl (by omega) dX3_worthOf_21 ?_
    refine y_ti (hF i hi) ?_
    refine y_iadd hg dX3_worthOf_22 ?_
    refine y_ti (nI_add _ _) ?_
    refine y_iald hg _ (hM.k_open) rfl (by omega) dX3_worthOf_23 ?_
    refine y_ti (show _ = rk P (wword P c q i) from hop _ (by omega)) ?_
    refine y_iadd hg dX3_worthOf_24 ?_
    refine y_istore_n hg dX3_worthOf_25 (by decide) (lv1 := [(0, _), (1, _), (2, _), (3, _)]) rfl ?_
    refine y_iinc hg dX3_worthOf_26 rfl (inc1 _) (by decide) (lv1 := [(0, _), (1, _), (2, _), (3, _)]) rfl ?_
    refine y_goto hg 4 dX3_worthOf_29 (by decide) ?_
    exact ih
  · refine y_iload_n hg dX3_worthOf_4 rfl ?_
    refine y_iload_n hg dX3_worthOf_5 rfl ?_
    refine y_icmp_ge hg 32 dX3_worthOf_6 (by decide) (fun _ => ?_) (fun hF => absurd (le_c (Nat.le_refl _) (by omega)) hF)
    refine y_iload_n hg dX3_worthOf_32 rfl ?_
    refine y_iret hg hr ⟨_, rfl, ?_⟩ dX3_worthOf_33 (Nat.le_refl _) (Nat.le_refl _)
    exact ⟨rfl, rfl⟩
end MBest

