section HouseW
variable {ll : Launch} {B : Bs} {σ : Mem} {A : Ab} {sd : Int64}
theorem WcX.fr {σ' : Mem} {w : Nat} {S : Ab} {Q : Nat → Nat → Prop} (h : WcX σ w S) (hw : w < 10) (hn : 156 < σ.2.1) (hf : FrR Q σ σ') (hQ : ∀ a j, Q a j → a < 97 + 6 * w ∨ 97 + 6 * w + 2 < a) : WcX σ' w S := by
  obtain ⟨a, b, c, d⟩ := h
  exact ⟨(hf.i (by omega) (fun z => by have := hQ _ _ z; omega)).trans a, (hf.i (by omega) (fun z => by have := hQ _ _ z; omega)).trans b, fun k hk => (hf.i (by omega) (fun z => by have := hQ _ _ z; omega)).trans (c k hk), fun x hx => (hf.i (by omega) (fun z => by have := hQ _ _ z; omega)).trans (d x hx)⟩
theorem cX_house (hW : WFA A) (hR : RX B A sd σ) : MT ll B 24 4 28 yX0_house cX0_house 2 (some .int) [.ref (B.1 + 0)] σ (oX B sd σ (oHouse A)) := by
  have hL := hR.1
  refine MT.of (by decide) (Nat.le_of_ble_eq_true rfl) (fun g hg hr => ?_)
  refine y_aload_n hg dX0_house_0 rfl ?_
  refine y_callV (As := []) (rest := []) hg (cX_readHouse hW hR) iX0_readHouse q297 hL.x cf0 rfl rfl (by decide) (by decide) (by decide) (by decide) dX0_house_1 (fun v σ1 h => ?_)
  obtain ⟨r, rfl, h1, h2, h3⟩ := h
  subst h1
  unfold oX oHouse at hr
  have hL := h2.1.1
  have hn := hL.n
  by_cases e : (mR0 A).1 = -9
  · rw [if_pos e] at hr
    obtain ⟨q, hd, hS⟩ := h3 e
    generalize (mR0 A).2.1 = n at hd hS hr
    generalize (mR0 A).2.2 = S at hd hS hr
    have hn10 := hS.1
    refine y_bipush (v := -9) hg dX0_house_4 rfl ?_
    refine y_icmp_eq hg 12 dX0_house_6 (by decide) (fun _ => ?_) (fun hF => absurd (e) hF)
    refine y_aload_n hg dX0_house_12 rfl ?_
    refine y_aload_n hg dX0_house_13 rfl ?_
    refine y_geti (j := 19) hg cf0 (hL.x) (by decide) rfl q191 dX0_house_14 ?_
    refine y_ti (hd.2.1) ?_
    refine y_puti (j := 1) hg cf0 (hL.x) (by decide) rfl rfl q173 dX0_house_17 ?_
    have hf1 : FrR HX σ1 (setI σ1 0 1 (nI n)) := (FrR.rf).stI (by unfold HX; omega)
    refine y_iconst (v := nI 0) hg dX0_house_20 rfl ?_
    refine y_istore_n hg dX0_house_21 (by decide) (lv1 := [(0, _), (1, _)]) rfl ?_
    refine (loop_st (S := Mem) (G := fun i s => YY g 2 s 4 28 22 [(0, .ref (B.1 + 0)), (1, .int (nI i))] []) (I := fun i s => FrR HX σ1 s ∧ s.2.2.1 0 1 = nI n ∧ ∀ w, w < i → WcX s w S) n (fun i s hi hI ih => ?_) (fun s hI => ?_) 0 _ (by omega) ⟨hf1, gI_s, fun w hw => by omega⟩)
    · obtain ⟨hf, hm, hw⟩ := hI
      have hL := hL.fr hf.1
      have hns := hL.n
      refine y_iload_n hg dX0_house_22 rfl ?_
      refine y_aload_n hg dX0_house_23 rfl ?_
      refine y_geti (j := 1) hg cf0 (hL.x) (by decide) rfl q173 dX0_house_24 ?_
      refine y_ti (hm) ?_
      refine y_icmp_ge hg 51 dX0_house_27 (by decide) (fun hT => absurd hT (nI_ge hi (by omega))) (fun _ => ?_)
      refine y_aload_n hg dX0_house_30 rfl ?_
      refine y_getr (j := 0) hg cf0 (hL.x) (by decide) rfl (hL.r_words) q172 dX0_house_31 ?_
      refine y_iload_n hg dX0_house_34 rfl ?_
      refine y_aald3 hg _ (hL.k_words) rfl (by omega) (hL.e_words (by omega)) dX0_house_35 ?_
      refine y_aload_n hg dX0_house_36 rfl ?_
      refine y_getr (j := 20) hg cf0 (hL.x) (by decide) rfl (hL.r_readWords) q192 dX0_house_37 ?_
      refine y_iload_n hg dX0_house_40 rfl ?_
      refine y_aald3 hg _ (hL.k_readWords) rfl (by omega) (hL.e_readWords (by omega)) dX0_house_41 ?_
      refine y_cVv hg (cX_wcopy (hL.w_words (show i < 10 by omega)) (hL.w_readWords (show i < 10 by omega)) (by omega)) iX2_copy q359 ((hL.w_words (by omega)).o) cf2 rfl rfl (by simp [Value.category]) (Nat.le_refl _) (Nat.le_refl _) (by decide) dX0_house_42 (fun s1 hp => ?_)
      obtain ⟨hf2, c1, c2, c3, c4⟩ := hp
      refine y_iinc hg dX0_house_45 rfl (inc1 _) (by decide) (lv1 := [(0, _), (1, _)]) rfl ?_
      refine y_goto hg 22 dX0_house_48 (by decide) ?_
      have hx := hd.2.2.2 i hi
      have hsz : sz S i ≤ 6 := (hS.2.2 i hi).1.2.2
      have hrd : ∀ a j, 100 + 6 * i ≤ a → a ≤ 102 + 6 * i → s.2.2.1 a j = σ1.2.2.1 a j := fun a j h1 h2 => hf.i (by omega) (by unfold HX; omega)
      refine ih _ ⟨hf.tr (hf2.mono (fun a j z => by unfold WP at z; unfold HX; omega)), (hf2.i (by omega) (fun z => by unfold WP at z; omega)).trans hm, fun w hw2 => ?_⟩
      by_cases ew : w = i
      · subst ew
        exact ⟨c1.trans ((hrd _ _ (by omega) (by omega)).trans hx.1), c2.trans ((hrd _ _ (by omega) (by omega)).trans hx.2.1), fun k hk => (c3 k (by omega)).trans ((hrd _ _ (by omega) (by omega)).trans (hx.2.2.1 k hk)), fun x hx8 => (c4 x hx8).trans ((hrd _ _ (by omega) (by omega)).trans (hx.2.2.2 x hx8))⟩
      · exact (hw w (by omega)).fr (by omega) hns hf2 (fun a j z => by unfold WP at z; omega)
    · obtain ⟨hf, hm, hw⟩ := hI
      have hL := hL.fr hf.1
      have hns := hL.n
      refine y_iload_n hg dX0_house_22 rfl ?_
      refine y_aload_n hg dX0_house_23 rfl ?_
      refine y_geti (j := 1) hg cf0 (hL.x) (by decide) rfl q173 dX0_house_24 ?_
      refine y_ti (hm) ?_
      refine y_icmp_ge hg 51 dX0_house_27 (by decide) (fun _ => ?_) (fun hF => absurd (nI_le (Nat.le_refl _) (by omega)) hF)
      refine y_aload_n hg dX0_house_51 rfl ?_
      refine y_getr (j := 2) hg cf0 (hL.x) (by decide) rfl (hL.r_now) q174 dX0_house_52 ?_
      refine y_aload_n hg dX0_house_55 rfl ?_
      refine y_getr (j := 21) hg cf0 (hL.x) (by decide) rfl (hL.r_read) q193 dX0_house_56 ?_
      refine y_cVv hg (cX_scopy hL.s_now hL.s_read (by omega)) iX1_copy q301 (hL.s_now.o) cf1 rfl rfl (by simp [Value.category]) (Nat.le_refl _) (Nat.le_refl _) (by decide) dX0_house_59 (fun s1 hp => ?_)
      obtain ⟨hf2, hr2⟩ := hp
      have hf3 : FrR HX σ1 s1 := hf.tr (hf2.mono (fun a j z => by unfold SP at z; unfold HX; omega))
      have hm3 : s1.2.2.1 0 1 = nI n := (hf2.i (by omega) (fun z => by unfold SP at z; omega)).trans hm
      have hw3 : ∀ w, w < n → WcX s1 w S := fun w hw2 => (hw w hw2).fr (by omega) hns hf2 (fun a j z => by unfold SP at z; omega)
      have h11 : ∀ j, j < 25 → rowOf s1 2 j = S 11 j := fun j hj => by
        rw [hr2 j, if_pos hj, ← hd.2.2.1 j hj, ro_at, ro_at]
        have hr := rA_in 20 j
        exact hf.i (by omega) (by unfold HX; omega)
      have hL := hL.fr hf2.1
      have hn3 := hL.n
      clear hf hm hw hf2 hr2 hf1
      refine y_aload_n hg dX0_house_62 rfl ?_
      refine y_iconst (v := nI 0) hg dX0_house_63 rfl ?_
      refine y_puti (j := 22) hg cf0 (hL.x) (by decide) rfl rfl q194 dX0_house_64 ?_
      refine y_aload_n hg dX0_house_67 rfl ?_
      refine y_iconst (v := nI 0) hg dX0_house_68 rfl ?_
      refine y_puti (j := 26) hg cf0 (hL.x) (by decide) rfl rfl q198 dX0_house_69 ?_
      refine y_aload_n hg dX0_house_72 rfl ?_
      refine y_getr (j := 34) hg cf0 (hL.x) (by decide) rfl (hL.r_isKept) q206 dX0_house_73 ?_
      refine y_iconst (v := nI 0) hg dX0_house_76 rfl ?_
      refine y_iconst (v := nI 0) hg dX0_house_77 rfl ?_
      refine y_zast hg _ (hL.k_isKept) rfl (by omega) rfl dX0_house_78 ?_
      refine y_aload_n hg dX0_house_79 rfl ?_
      refine y_getr (j := 34) hg cf0 (hL.x) (by decide) rfl (hL.r_isKept) q206 dX0_house_80 ?_
      refine y_iconst (v := nI 1) hg dX0_house_83 rfl ?_
      refine y_iconst (v := nI 0) hg dX0_house_84 rfl ?_
      refine y_zast hg _ (hL.k_isKept) rfl (by omega) rfl dX0_house_85 ?_
      refine y_aload_n hg dX0_house_86 rfl ?_
      refine y_geti (j := 1) hg cf0 (hL.x) (by decide) rfl q173 dX0_house_87 ?_
      refine y_ti ((gI_n (by omega)).trans ((gI_n (by omega)).trans ((gI_n (by omega)).trans ((gI_n (by omega)).trans hm3)))) ?_
      refine y_iret hg hr ⟨_, rfl, ?_⟩ dX0_house_90 (Nat.le_refl _) (Nat.le_refl _)
      have hfF : FrR HX s1 (setI (setI (setI (setI s1 0 22 (nI 0)) 0 26 (nI 0)) 87 0 (nI 0)) 87 1 (nI 0)) := ((((FrR.rf).stI (by unfold HX; omega)).stI (by unfold HX; omega)).stI (by unfold HX; omega)).stI (by unfold HX; omega)
      have hfQ : FrR (fun a _ => a = 0 ∨ a = 87) s1 (setI (setI (setI (setI s1 0 22 (nI 0)) 0 26 (nI 0)) 87 0 (nI 0)) 87 1 (nI 0)) := ((((FrR.rf).stI (by omega)).stI (by omega)).stI (by omega)).stI (by omega)
      refine ⟨rfl, h2.1.house hS (hf3.tr hfF) ((gI_n (by omega)).trans ((gI_n (by omega)).trans ((gI_n (by omega)).trans ((gI_n (by omega)).trans hm3)))) ((gI_n (by omega)).trans ((gI_n (by omega)).trans ((gI_n (by omega)).trans gI_s))) ((gI_n (by omega)).trans ((gI_n (by omega)).trans gI_s)) (fun i hi => ?_) (fun j hj => ?_) (fun w hw2 => (hw3 w hw2).fr (by omega) hn3 hfQ (fun a j z => by omega)), (h2.2.mono (fun a j z => by unfold XR at z; omega)).tr ((hf3.tr hfF).1.mono (fun a j z => by unfold HX at z; omega))⟩
      · by_cases ei : i = 1
        · subst ei; exact gI_s
        · have : i = 0 := by omega
          subst this; exact (gI_n (by omega)).trans gI_s
      · rw [← h11 j hj, ro_at, ro_at]
        have hr := rA_in 2 j
        exact hfQ.i (by omega) (by omega)
  · rw [if_neg e] at hr
    refine y_bipush (v := -9) hg dX0_house_4 rfl ?_
    refine y_icmp_eq hg 12 dX0_house_6 (by decide) (fun hT => absurd hT (e)) (fun _ => ?_)
    refine y_bipush (v := -3) hg dX0_house_9 rfl ?_
    refine y_iret hg hr ⟨_, rfl, ?_⟩ dX0_house_11 (by decide) (by decide)
    exact ⟨rfl, h2.fin⟩
/-- what M has of the house's words so far: all of those before w, k letters of w -/
def MHs (s : Mem) (S : Ab) (w k : Nat) : Prop := (∀ v, v < w → s.2.2.1 160 v = S 2 v ∧ s.2.2.1 161 v = S 3 v ∧ (∀ k, k < sz S v → s.2.2.1 159 (6 * v + k) = S 5 (6 * v + k)) ∧ ∀ x, x < 8 → s.2.2.1 162 (8 * v + x) = hasF S v x) ∧ (∀ i, i < k → s.2.2.1 159 (6 * w + i) = S 5 (6 * w + i)) ∧ (w < 10 → ∀ x, x < 8 → s.2.2.1 162 (8 * w + x) = nI (hct S w x k)) ∧ ∀ j, 8 * w + 8 ≤ j → j < 80 → s.2.2.1 162 j = nI 0
theorem cM_house (hW : WFA A) (hR : RMm B A sd σ) : MT ll B 24 0 0 yX3_house cX3_house 3 (some .int) [.ref (B.1 + 157)] σ (oM B sd σ (oHouse A)) := by
  have hM := hR.1
  refine MT.of (by decide) (Nat.le_of_ble_eq_true rfl) (fun g hg hr => ?_)
  refine y_aload_n hg dX3_house_0 rfl ?_
  refine y_cVi hg (cM_readText hW hR) iX3_readText q1063 (hM.m) cf3 rfl rfl (by simp [Value.category]) (Nat.le_refl _) (Nat.le_refl _) (by decide) dX3_house_1 (fun r σ1 hp => ?_)
  obtain ⟨rfl, h2, h3⟩ := hp
  unfold oM oHouse at hr
  have hM := h2.1.1
  have hn := hM.n
  by_cases e : (mR0 A).1 = -9
  · rw [if_pos e] at hr
    obtain ⟨p, fi, hd, hS⟩ := h3 e
    generalize (mR0 A).2.1 = n at hd hS hr
    generalize (mR0 A).2.2 = S at hd hS hr
    obtain ⟨hd1, -, -, -, hd5, hd6, hd7⟩ := hd
    have hn10 := hS.1
    refine y_bipush (v := -9) hg dX3_house_4 rfl ?_
    refine y_icmp_eq hg 12 dX3_house_6 (by decide) (fun _ => ?_) (fun hF => absurd (e) hF)
    refine y_aload_n hg dX3_house_12 rfl ?_
    refine y_aload_n hg dX3_house_13 rfl ?_
    refine y_geti (j := 21) hg cf3 (hM.m) (by decide) rfl q932 dX3_house_14 ?_
    refine y_ti (hd1) ?_
    refine y_puti (j := 2) hg cf3 (hM.m) (by decide) rfl rfl q913 dX3_house_17 ?_
    have hf1 : FrR HM σ1 (setI σ1 157 2 (nI n)) := (FrR.rf).stI (by unfold HM; omega)
    refine y_iconst (v := nI 0) hg dX3_house_20 rfl ?_
    refine y_istore_n hg dX3_house_21 (by decide) (lv1 := [(0, _), (1, _)]) rfl ?_
    refine (loop_st (S := Mem) (G := fun i s => YY g 3 s 0 0 22 [(0, .ref (B.1 + 157)), (1, .int (nI i))] []) (I := fun i s => FrR HM σ1 s ∧ s.2.2.1 157 2 = nI n ∧ ∀ j, j < i → s.2.2.1 162 j = nI 0) 80 (fun i s hi hI ih => ?_) (fun s hI => ?_) 0 _ (by omega) ⟨hf1, gI_s, fun w hw => by omega⟩)
    · obtain ⟨hf, hm, hz⟩ := hI
      have hM := hM.fr hf.1
      refine y_iload_n hg dX3_house_22 rfl ?_
      refine y_bipush (v := nI 80) hg dX3_house_23 rfl ?_
      refine y_icmp_ge hg 41 dX3_house_25 (by decide) (fun hT => absurd hT (ge_c hi (by decide))) (fun _ => ?_)
      refine y_aload_n hg dX3_house_28 rfl ?_
      refine y_getr (j := 6) hg cf3 (hM.m) (by decide) rfl (hM.r_need) q917 dX3_house_29 ?_
      refine y_iload_n hg dX3_house_32 rfl ?_
      refine y_iconst (v := nI 0) hg dX3_house_33 rfl ?_
      refine y_iast hg _ (hM.k_need) rfl (by omega) dX3_house_34 ?_
      refine y_iinc hg dX3_house_35 rfl (inc1 _) (by decide) (lv1 := [(0, _), (1, _)]) rfl ?_
      refine y_goto hg 22 dX3_house_38 (by decide) ?_
      refine ih _ ⟨hf.stI (by unfold HM; omega), (gI_n (by omega)).trans hm, fun j hj => ?_⟩
      by_cases ej : j = i
      · subst ej; exact gI_s
      · exact (gI_n (by omega)).trans (hz j (by omega))
    · obtain ⟨hf, hm, hz⟩ := hI
      have hM := hM.fr hf.1
      refine y_iload_n hg dX3_house_22 rfl ?_
      refine y_bipush (v := nI 80) hg dX3_house_23 rfl ?_
      refine y_icmp_ge hg 41 dX3_house_25 (by decide) (fun _ => ?_) (fun hF => absurd (le_c (Nat.le_refl 80) (by decide)) hF)
      refine y_iconst (v := nI 0) hg dX3_house_41 rfl ?_
      refine y_istore_n hg dX3_house_42 (by decide) (lv1 := [(0, _), (1, _)]) rfl ?_
      refine (loop_st (S := Mem) (G := fun i s => YY g 3 s 0 0 43 [(0, .ref (B.1 + 157)), (1, .int (nI i))] []) (I := fun i s => FrR HM σ1 s ∧ s.2.2.1 157 2 = nI n ∧ MHs s S i 0) n (fun w s hi hI ih => ?_) (fun s hI => ?_) 0 _ (by omega) ⟨hf, hm, fun v hv => by omega, fun i hi => by omega, fun _ x hx => hz _ (by omega), fun j hj hj2 => hz j hj2⟩)
      · obtain ⟨hf, hm, hH⟩ := hI
        have hM := (h2.1.1).fr hf.1
        have hns := hM.n
        obtain ⟨⟨w1, w2, w3⟩, w4, w5⟩ := hS.2.2 w hi
        have hr3 : ∀ a j, 172 ≤ a → a ≤ 175 → s.2.2.1 a j = σ1.2.2.1 a j := fun a j h1 h2 => hf.i (by omega) (by unfold HM; omega)
        obtain ⟨d6, d6'⟩ := hd6 w (Or.inl hi)
        refine y_iload_n hg dX3_house_43 rfl ?_
        refine y_aload_n hg dX3_house_44 rfl ?_
        refine y_geti (j := 2) hg cf3 (hM.m) (by decide) rfl q913 dX3_house_45 ?_
        refine y_ti (hm) ?_
        refine y_icmp_ge hg 146 dX3_house_48 (by decide) (fun hT => absurd hT (nI_ge hi (by omega))) (fun _ => ?_)
        refine y_aload_n hg dX3_house_51 rfl ?_
        refine y_getr (j := 4) hg cf3 (hM.m) (by decide) rfl (hM.r_size) q915 dX3_house_52 ?_
        refine y_iload_n hg dX3_house_55 rfl ?_
        refine y_aload_n hg dX3_house_56 rfl ?_
        refine y_getr (j := 23) hg cf3 (hM.m) (by decide) rfl (hM.r_readSize) q934 dX3_house_57 ?_
        refine y_iload_n hg dX3_house_60 rfl ?_
        refine y_iald hg _ (hM.k_readSize) rfl (by omega) dX3_house_61 ?_
        refine y_ti ((hr3 _ _ (by omega) (by omega)).trans (d6.trans w1)) ?_
        refine y_iast hg _ (hM.k_size) rfl (by omega) dX3_house_62 ?_
        refine y_aload_n hg dX3_house_63 rfl ?_
        refine y_getr (j := 5) hg cf3 (hM.m) (by decide) rfl (hM.r_kind) q916 dX3_house_64 ?_
        refine y_iload_n hg dX3_house_67 rfl ?_
        refine y_aload_n hg dX3_house_68 rfl ?_
        refine y_getr (j := 24) hg cf3 (hM.m) (by decide) rfl (hM.r_readKind) q935 dX3_house_69 ?_
        refine y_iload_n hg dX3_house_72 rfl ?_
        refine y_iald hg _ (hM.k_readKind) rfl (by omega) dX3_house_73 ?_
        refine y_ti ((gI_n (by omega)).trans ((hr3 _ _ (by omega) (by omega)).trans (hd7 w (Or.inl hi)))) ?_
        refine y_iast hg _ (hM.k_kind) rfl (by omega) dX3_house_74 ?_
        refine y_iconst (v := nI 0) hg dX3_house_75 rfl ?_
        refine y_istore_n hg dX3_house_76 (by decide) (lv1 := [(0, _), (1, _), (2, _)]) rfl ?_
        have hf2 : FrR HM σ1 (setI (setI s 160 w (nI (sz S w))) 161 w (S 3 w)) := (hf.stI (by unfold HM; omega)).stI (by unfold HM; omega)
        have b1 : (setI (setI s 160 w (nI (sz S w))) 161 w (S 3 w)).2.2.1 160 w = nI (sz S w) := (gI_n (by omega)).trans gI_s
        have b2' : (setI (setI s 160 w (nI (sz S w))) 161 w (S 3 w)).2.2.1 161 w = S 3 w := gI_s
        have hm2 : (setI (setI s 160 w (nI (sz S w))) 161 w (S 3 w)).2.2.1 157 2 = nI n := (gI_n (by omega)).trans ((gI_n (by omega)).trans hm)
        have hH2 : MHs (setI (setI s 160 w (nI (sz S w))) 161 w (S 3 w)) S w 0 := by
          obtain ⟨q1, q2, q3, q4⟩ := hH
          refine ⟨fun v hv => ?_, fun i hi => by omega, fun z x hx => (gI_n (by omega)).trans ((gI_n (by omega)).trans (q3 z x hx)), fun j hj hj2 => (gI_n (by omega)).trans ((gI_n (by omega)).trans (q4 j hj hj2))⟩
          obtain ⟨a, b, c, d⟩ := q1 v hv
          exact ⟨(gI_n (by omega)).trans ((gI_n (by omega)).trans a), (gI_n (by omega)).trans ((gI_n (by omega)).trans b), fun k hk => (gI_n (by omega)).trans ((gI_n (by omega)).trans (c k hk)), fun x hx => (gI_n (by omega)).trans ((gI_n (by omega)).trans (d x hx))⟩
        refine (loop_st (S := Mem) (G := fun k s => YY g 3 s 0 0 77 [(0, .ref (B.1 + 157)), (1, .int (nI w)), (2, .int (nI k))] []) (I := fun k s => FrR HM σ1 s ∧ s.2.2.1 157 2 = nI n ∧ s.2.2.1 160 w = nI (sz S w) ∧ s.2.2.1 161 w = S 3 w ∧ MHs s S w k) (sz S w) (fun k s hk hI ih2 => ?_) (fun s hI => ?_) 0 _ (by omega) ⟨hf2, hm2, b1, b2', hH2⟩)
        · obtain ⟨hf, hm, hs0, hk0, q1, q2, q3, q4⟩ := hI
          have hM := (h2.1.1).fr hf.1
          have hns := hM.n
          obtain ⟨y, hy, ey⟩ := w5 k hk
          have hr3 : ∀ a j, 172 ≤ a → a ≤ 175 → s.2.2.1 a j = σ1.2.2.1 a j := fun a j h1 h2 => hf.i (by omega) (by unfold HM; omega)
          have hsp := (hr3 172 (6 * w + k) (by omega) (by omega)).trans ((d6' k hk).trans ey)
          have hct0 := hct_le (S := S) (w := w) (x := y) k
          refine y_iload_n hg dX3_house_77 rfl ?_
          refine y_aload_n hg dX3_house_78 rfl ?_
          refine y_getr (j := 4) hg cf3 (hM.m) (by decide) rfl (hM.r_size) q915 dX3_house_79 ?_
          refine y_iload_n hg dX3_house_82 rfl ?_
          refine y_iald hg _ (hM.k_size) rfl (by omega) dX3_house_83 ?_
          refine y_ti (hs0) ?_
          refine y_icmp_ge hg 140 dX3_house_84 (by decide) (fun hT => absurd hT (nI_ge hk (by omega))) (fun _ => ?_)
          refine y_aload_n hg dX3_house_87 rfl ?_
          refine y_getr (j := 3) hg cf3 (hM.m) (by decide) rfl (hM.r_spelt) q914 dX3_house_88 ?_
          refine y_bipush (v := nI 6) hg dX3_house_91 rfl ?_
          refine y_iload_n hg dX3_house_93 rfl ?_
          refine y_imul hg dX3_house_94 ?_
          refine y_ti (pk_mul _ _) ?_
          refine y_iload_n hg dX3_house_95 rfl ?_
          refine y_iadd hg dX3_house_96 ?_
          refine y_ti (nI_add _ _) ?_
          refine y_aload_n hg dX3_house_97 rfl ?_
          refine y_getr (j := 22) hg cf3 (hM.m) (by decide) rfl (hM.r_readSpelt) q933 dX3_house_98 ?_
          refine y_bipush (v := nI 6) hg dX3_house_101 rfl ?_
          refine y_iload_n hg dX3_house_103 rfl ?_
          refine y_imul hg dX3_house_104 ?_
          refine y_ti (pk_mul _ _) ?_
          refine y_iload_n hg dX3_house_105 rfl ?_
          refine y_iadd hg dX3_house_106 ?_
          refine y_ti (nI_add _ _) ?_
          refine y_iald hg _ (hM.k_readSpelt) rfl (by omega) dX3_house_107 ?_
          refine y_ti (hsp) ?_
          refine y_iast hg _ (hM.k_spelt) rfl (by omega) dX3_house_108 ?_
          refine y_aload_n hg dX3_house_109 rfl ?_
          refine y_getr (j := 6) hg cf3 (hM.m) (by decide) rfl (hM.r_need) q917 dX3_house_110 ?_
          refine y_bipush (v := nI 8) hg dX3_house_113 rfl ?_
          refine y_iload_n hg dX3_house_115 rfl ?_
          refine y_imul hg dX3_house_116 ?_
          refine y_ti (pk_mul _ _) ?_
          refine y_aload_n hg dX3_house_117 rfl ?_
          refine y_getr (j := 3) hg cf3 (hM.m) (by decide) rfl (hM.r_spelt) q914 dX3_house_118 ?_
          refine y_bipush (v := nI 6) hg dX3_house_121 rfl ?_
          refine y_iload_n hg dX3_house_123 rfl ?_
          refine y_imul hg dX3_house_124 ?_
          refine y_ti (pk_mul _ _) ?_
          refine y_iload_n hg dX3_house_125 rfl ?_
          refine y_iadd hg dX3_house_126 ?_
          refine y_ti (nI_add _ _) ?_
          refine y_iald hg _ (hM.k_spelt) rfl (by omega) dX3_house_127 ?_
          refine y_ti (gI_s) ?_
          refine y_iadd hg dX3_house_128 ?_
          refine y_ti (nI_add _ _) ?_
          refine y_dup2 hg dX3_house_129 rfl rfl ?_
          refine y_iald hg _ (hM.k_need) rfl (by omega) dX3_house_130 ?_
          refine y_ti ((gI_n (by omega)).trans (q3 (by omega) y hy)) ?_
          refine y_iconst (v := nI 1) hg dX3_house_131 rfl ?_
          refine y_iadd hg dX3_house_132 ?_
          refine y_ti (nI_add _ _) ?_
          refine y_iast hg _ (hM.k_need) rfl (by omega) dX3_house_133 ?_
          refine y_iinc hg dX3_house_134 rfl (inc1 _) (by decide) (lv1 := [(0, _), (1, _), (2, _)]) rfl ?_
          refine y_goto hg 77 dX3_house_137 (by decide) ?_
          refine ih2 _ ⟨(hf.stI (by unfold HM; omega)).stI (by unfold HM; omega), (gI_n (by omega)).trans ((gI_n (by omega)).trans hm), (gI_n (by omega)).trans ((gI_n (by omega)).trans hs0), (gI_n (by omega)).trans ((gI_n (by omega)).trans hk0), fun v hv => ?_, fun i hi2 => ?_, fun _ x hx => ?_, fun j hj hj2 => (gI_n (by omega)).trans ((gI_n (by omega)).trans (q4 j hj hj2))⟩
          · obtain ⟨a, b, c, d⟩ := q1 v hv
            have hv6 := (hS.2.2 v (by omega)).1.2.2
            exact ⟨(gI_n (by omega)).trans ((gI_n (by omega)).trans a), (gI_n (by omega)).trans ((gI_n (by omega)).trans b), fun k hk => (gI_n (by omega)).trans ((gI_n (by omega)).trans (c k hk)), fun x hx => (gI_n (by omega)).trans ((gI_n (by omega)).trans (d x hx))⟩
          · rw [gI_n (by omega)]
            by_cases ei : i = k
            · subst ei; rw [gI_s]; exact ey.symm
            · rw [gI_n (by omega)]; exact q2 i (by omega)
          · show _ = nI (hct S w x k + (if S 5 (6 * w + k) = nI x then 1 else 0))
            by_cases ex : x = y
            · subst ex; rw [gI_s, if_pos ey]
            · rw [gI_n (by omega), gI_n (by omega), if_neg (fun z => ex (nI_inj (by omega) (by omega) (ey.symm.trans z)).symm)]
              exact q3 (by omega) x hx
        · obtain ⟨hf, hm, hs0, hk0, q1, q2, q3, q4⟩ := hI
          have hM := (h2.1.1).fr hf.1
          refine y_iload_n hg dX3_house_77 rfl ?_
          refine y_aload_n hg dX3_house_78 rfl ?_
          refine y_getr (j := 4) hg cf3 (hM.m) (by decide) rfl (hM.r_size) q915 dX3_house_79 ?_
          refine y_iload_n hg dX3_house_82 rfl ?_
          refine y_iald hg _ (hM.k_size) rfl (by omega) dX3_house_83 ?_
          refine y_ti (hs0) ?_
          refine y_icmp_ge hg 140 dX3_house_84 (by decide) (fun _ => ?_) (fun hF => absurd (nI_le (Nat.le_refl _) (by omega)) hF)
          refine y_iinc hg dX3_house_140 rfl (inc1 _) (by decide) (lv1 := [(0, _), (1, _), (2, _)]) rfl ?_
          refine y_goto hg 43 dX3_house_143 (by decide) ?_
          refine y_sub [0, 1] rfl (ih _ ⟨hf, hm, fun v hv => ?_, fun i hi2 => by omega, fun _ x hx => (q4 _ (by omega) (by omega)), fun j hj hj2 => q4 j (by omega) hj2⟩)
          by_cases ev : v = w
          · subst ev
            exact ⟨hs0.trans w1.symm, hk0, q2, q3 (by omega)⟩
          · exact q1 v (by omega)
      · obtain ⟨hf, hm, hH⟩ := hI
        have hM := (h2.1.1).fr hf.1
        have hns := hM.n
        refine y_iload_n hg dX3_house_43 rfl ?_
        refine y_aload_n hg dX3_house_44 rfl ?_
        refine y_geti (j := 2) hg cf3 (hM.m) (by decide) rfl q913 dX3_house_45 ?_
        refine y_ti (hm) ?_
        refine y_icmp_ge hg 146 dX3_house_48 (by decide) (fun _ => ?_) (fun hF => absurd (nI_le (Nat.le_refl _) (by omega)) hF)
        refine y_aload_n hg dX3_house_146 rfl ?_
        refine y_getr (j := 25) hg cf3 (hM.m) (by decide) rfl (hM.r_readRow) q936 dX3_house_147 ?_
        refine y_aload_n hg dX3_house_150 rfl ?_
        refine y_getr (j := 7) hg cf3 (hM.m) (by decide) rfl (hM.r_now) q918 dX3_house_151 ?_
        refine y_cSv hg (cM_copy hM.k_now (by decide) hM.k_readRow (by decide) (by decide)) iX3_copy q1111 rfl rfl (by simp [Value.category]) (Nat.le_refl _) (Nat.le_refl _) (by decide) dX3_house_154 (fun s1 hp => ?_)
        obtain ⟨hf2, hr2⟩ := hp
        have hf3 : FrR HM σ1 s1 := hf.tr (hf2.mono (fun a j z => by unfold HM; omega))
        have hm3 : s1.2.2.1 157 2 = nI n := (hf2.i (by omega) (by omega)).trans hm
        have h11 : ∀ j, j < 25 → s1.2.2.1 163 j = S 11 j := fun j hj => by
          rw [hr2 j, if_pos hj, ← hd5 j hj]
          exact hf.i (by omega) (by unfold HM; omega)
        have hw3 : ∀ w, w < n → s1.2.2.1 160 w = S 2 w ∧ s1.2.2.1 161 w = S 3 w ∧ (∀ k, k < sz S w → s1.2.2.1 159 (6 * w + k) = S 5 (6 * w + k)) ∧ ∀ x, x < 8 → s1.2.2.1 162 (8 * w + x) = hasF S w x := fun w hw => by
          obtain ⟨a, b, c, d⟩ := hH.1 w hw
          exact ⟨(hf2.i (by omega) (by omega)).trans a, (hf2.i (by omega) (by omega)).trans b, fun k hk => (hf2.i (by omega) (by omega)).trans (c k hk), fun x hx => (hf2.i (by omega) (by omega)).trans (d x hx)⟩
        have hM := hM.fr hf2.1
        have hn3 := hM.n
        refine y_aload_n hg dX3_house_157 rfl ?_
        refine y_iconst (v := nI 0) hg dX3_house_158 rfl ?_
        refine y_puti (j := 10) hg cf3 (hM.m) (by decide) rfl rfl q921 dX3_house_159 ?_
        refine y_aload_n hg dX3_house_162 rfl ?_
        refine y_iconst (v := nI 0) hg dX3_house_163 rfl ?_
        refine y_puti (j := 15) hg cf3 (hM.m) (by decide) rfl rfl q926 dX3_house_164 ?_
        refine y_aload_n hg dX3_house_167 rfl ?_
        refine y_getr (j := 13) hg cf3 (hM.m) (by decide) rfl (hM.r_isKept) q924 dX3_house_168 ?_
        refine y_iconst (v := nI 0) hg dX3_house_171 rfl ?_
        refine y_iconst (v := nI 0) hg dX3_house_172 rfl ?_
        refine y_zast hg _ (hM.k_isKept) rfl (by omega) rfl dX3_house_173 ?_
        refine y_aload_n hg dX3_house_174 rfl ?_
        refine y_getr (j := 13) hg cf3 (hM.m) (by decide) rfl (hM.r_isKept) q924 dX3_house_175 ?_
        refine y_iconst (v := nI 1) hg dX3_house_178 rfl ?_
        refine y_iconst (v := nI 0) hg dX3_house_179 rfl ?_
        refine y_zast hg _ (hM.k_isKept) rfl (by omega) rfl dX3_house_180 ?_
        refine y_aload_n hg dX3_house_181 rfl ?_
        refine y_geti (j := 2) hg cf3 (hM.m) (by decide) rfl q913 dX3_house_182 ?_
        refine y_ti ((gI_n (by omega)).trans ((gI_n (by omega)).trans ((gI_n (by omega)).trans ((gI_n (by omega)).trans hm3)))) ?_
        refine y_iret hg hr ⟨_, rfl, ?_⟩ dX3_house_185 (Nat.le_refl _) (Nat.le_refl _)
        have hfF : FrR HM s1 (setI (setI (setI (setI s1 157 10 (nI 0)) 157 15 (nI 0)) 167 0 (nI 0)) 167 1 (nI 0)) := ((((FrR.rf).stI (by unfold HM; omega)).stI (by unfold HM; omega)).stI (by unfold HM; omega)).stI (by unfold HM; omega)
        have hfQ : FrR (fun a _ => a = 157 ∨ a = 167) s1 (setI (setI (setI (setI s1 157 10 (nI 0)) 157 15 (nI 0)) 167 0 (nI 0)) 167 1 (nI 0)) := ((((FrR.rf).stI (by omega)).stI (by omega)).stI (by omega)).stI (by omega)
        refine ⟨rfl, h2.1.house hS (hf3.tr hfF) ((gI_n (by omega)).trans ((gI_n (by omega)).trans ((gI_n (by omega)).trans ((gI_n (by omega)).trans hm3)))) ((gI_n (by omega)).trans ((gI_n (by omega)).trans ((gI_n (by omega)).trans gI_s))) ((gI_n (by omega)).trans ((gI_n (by omega)).trans gI_s)) (fun i hi => ?_) (fun j hj => (hfQ.i (by omega) (by omega)).trans (h11 j hj)) (fun w hw2 => ?_), (h2.2.mono (fun a j z => by unfold MS at z; omega)).tr ((hf3.tr hfF).mono (fun a j z => by unfold HM at z; omega))⟩
        · by_cases ei : i = 1
          · subst ei; exact gI_s
          · have : i = 0 := by omega
            subst this; exact (gI_n (by omega)).trans gI_s
        · obtain ⟨a, b, c, d⟩ := hw3 w hw2
          exact ⟨(hfQ.i (by omega) (by omega)).trans a, (hfQ.i (by omega) (by omega)).trans b, fun k hk => (hfQ.i (by omega) (by omega)).trans (c k hk), fun x hx => (hfQ.i (by omega) (by omega)).trans (d x hx)⟩
  · rw [if_neg e] at hr
    refine y_bipush (v := -9) hg dX3_house_4 rfl ?_
    refine y_icmp_eq hg 12 dX3_house_6 (by decide) (fun hT => absurd hT (e)) (fun _ => ?_)
    refine y_bipush (v := -3) hg dX3_house_9 rfl ?_
    refine y_iret hg hr ⟨_, rfl, ?_⟩ dX3_house_11 (Nat.le_refl _) (Nat.le_refl _)
    exact ⟨rfl, h2.fin⟩
end HouseW

