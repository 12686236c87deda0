section XCount
variable {ll : Launch} {B : Bs} {σ : Mem}
theorem fit_step (P : Pb) (w r x : Nat) : fo (fun x b => b && decide (P.2.1 w x ≤ dg P.2.2.2.1 r x)) true (x + 1) = (fo (fun x b => b && decide (P.2.1 w x ≤ dg P.2.2.2.1 r x)) true x && decide (P.2.1 w x ≤ dg P.2.2.2.1 r x)) := rfl
/-- once it does not fit it does not fit -/
theorem fit_no {P : Pb} {w r x : Nat} (hx : x ≤ 8) (h : fo (fun x b => b && decide (P.2.1 w x ≤ dg P.2.2.2.1 r x)) true x = false) : fitB P w r = false := by
  cases e : fitB P w r with
  | false => rfl
  | true =>
    have h1 : fo (fun x b => b && decide (P.2.1 w x ≤ dg P.2.2.2.1 r x)) true x = true := (fo_and x).mpr (fun y hy => decide_eq_true ((fit_iff P w r).mp e y (by omega)))
    rw [h] at h1
    cases h1
theorem bs_lt {P : Pb} (hP : WFP P) {x : Nat} (hx : x ≤ 8) : bs P.2.2.2.1 x ≤ 1944 := by
  by_cases e : x = 8
  · subst e; exact nS_le hP
  · obtain ⟨c, hc⟩ := bs_dvd P.2.2.2.1 (x := x) (m := 8) (by omega)
    have h1 := nS_le hP
    have h2 := bs_pos P.2.2.2.1 8
    have h3 : nS P = bs P.2.2.2.1 x * ((bg P.2.2.2.1 x + 1) * c) := by rw [← Nat.mul_assoc]; exact hc
    have h4 : 0 < (bg P.2.2.2.1 x + 1) * c := by
      rcases Nat.eq_zero_or_pos ((bg P.2.2.2.1 x + 1) * c) with z | z
      · rw [z, Nat.mul_zero] at h3; have := nS_pos P; omega
      · exact z
    have h5 : bs P.2.2.2.1 x * 1 ≤ nS P := by rw [h3]; exact Nat.mul_le_mul_left _ h4
    omega
theorem bg_le {P : Pb} (hP : WFP P) {x : Nat} (hx : x < 8) : bg P.2.2.2.1 x ≤ 13 := Nat.le_trans (sm_ge 8 hx) hP.2.2.2
theorem cX_mayCome {P : Pb} {ko w r k : Nat} (hP : WFP P) (hX : PX B σ P ko) (hw : w < P.1) (hr : r < nS P) (hk : k < 5) :
    MT ll B 1 0 0 yX0_mayCome cX0_mayCome 7 (some .boolean) [.ref (B.1 + 0), .int (nI w), .int (nI r), .int (nI k)] σ (pI fun v σ' => v = b2 (mayB P w r k) ∧ σ' = σ) := by
  obtain ⟨hL, hOS, hOp, hW, hrow, hu, hb, hs, hst, hko⟩ := hX
  have h10 := hP.1
  have hnS := nS_le hP
  have hWw := hL.w_words (i := w) (by omega)
  have hkd := (hW.2 w hw).1
  have hkd4 := (hP.2.1 w hw).1
  refine MT.of (by decide) (Nat.le_of_ble_eq_true rfl) (fun g hg hr => ?_)
  have J : ∀ v : Int32, v = b2 (P.2.2.2.2 w && hasB (if k = 4 then P.2.2.2.1 19 else P.2.2.2.1 (21 + k)) (nI (P.2.2.1 w))) → YY g 7 σ 0 0 59 [(0, .ref (B.1 + 0)), (1, .int (nI w)), (2, .int (nI r)), (3, .int (nI k)), (4, .ref (B.1 + (97 + 6 * w)))] [.int v] := by
    intro v hv
    subst hv
    refine y_istore hg dX0_mayCome_59 (by decide) (lv1 := [(0, _), (1, _), (2, _), (3, _), (4, _), (5, _)]) rfl ?_
    refine y_iconst (v := nI 0) hg dX0_mayCome_61 rfl ?_
    refine y_istore hg dX0_mayCome_62 (by decide) (lv1 := [(0, _), (1, _), (2, _), (3, _), (4, _), (5, _), (6, _)]) rfl ?_
    generalize hA : (P.2.2.2.2 w && hasB (if k = 4 then P.2.2.2.1 19 else P.2.2.2.1 (21 + k)) (nI (P.2.2.1 w))) = A
    have hm : mayB P w r k = (A && fitB P w r) := by rw [← hA]; rfl
    refine (loop_up (G := fun x => YY g 7 σ 0 0 64 [(0, .ref (B.1 + 0)), (1, .int (nI w)), (2, .int (nI r)), (3, .int (nI k)), (4, .ref (B.1 + (97 + 6 * w))), (5, .int (b2 (A && fo (fun x b => b && decide (P.2.1 w x ≤ dg P.2.2.2.1 r x)) true x))), (6, .int (nI x))] []) 8 (fun x hx ih => ?_) ?_ 0 (by decide)) |> (fun h => by rw [show fo (fun x b => b && decide (P.2.1 w x ≤ dg P.2.2.2.1 r x)) true 0 = true from rfl, Bool.and_true] at h; exact h)
    · have hbx := hb x hx
      have hbag : σ.2.2.1 (ko + 1) x = nI (bg P.2.2.2.1 x) := by rw [← ro_bag hx, hrow x (by omega), ← hP.2.2.1 x hx]
      have hhas := (hW.2 w hw).2 x hx
      have hb0 := bs_pos P.2.2.2.1 x
      have hb1 := bs_lt hP (Nat.le_of_lt hx)
      have hg1 := bg_le hP hx
      have hnd := (hP.2.1 w hw).2.1 x hx
      have hdl := dg_le P.2.2.2.1 r x
      refine y_iload hg dX0_mayCome_64 rfl ?_
      refine y_bipush (v := nI 8) hg dX0_mayCome_66 rfl ?_
      refine y_icmp_ge hg 122 dX0_mayCome_68 (by decide) (fun hT => absurd hT (ge_c hx (by decide))) (fun _ => ?_)
      refine y_iload hg dX0_mayCome_71 rfl ?_
      refine y_if_eq hg 122 dX0_mayCome_73 (by decide) (fun hc => ?_) (fun hc => ?_)
      · refine y_iload hg dX0_mayCome_122 rfl ?_
        refine y_zret hg hr (nz_b2 _) ⟨_, rfl, ?_⟩ dX0_mayCome_124 (Nat.le_refl _) (Nat.le_refl _)
        refine ⟨?_, rfl⟩
        rw [hm]
        have h0 := (b2_eq _).mp hc
        cases hAA : A with
        | false => rfl
        | true =>
          rw [hAA, Bool.true_and] at h0
          rw [h0, fit_no (by omega) h0]
      · have J2 : ∀ v : Int32, v = b2 (A && fo (fun x b => b && decide (P.2.1 w x ≤ dg P.2.2.2.1 r x)) true (x + 1)) → YY g 7 σ 0 0 114 [(0, .ref (B.1 + 0)), (1, .int (nI w)), (2, .int (nI r)), (3, .int (nI k)), (4, .ref (B.1 + (97 + 6 * w))), (5, .int (b2 (A && fo (fun x b => b && decide (P.2.1 w x ≤ dg P.2.2.2.1 r x)) true x))), (6, .int (nI x))] [.int v] := by
          intro v hv
          subst hv
          refine y_istore hg dX0_mayCome_114 (by decide) (lv1 := [(0, _), (1, _), (2, _), (3, _), (4, _), (5, _), (6, _)]) rfl ?_
          refine y_iinc hg dX0_mayCome_116 rfl (inc1 _) (by decide) (lv1 := [(0, _), (1, _), (2, _), (3, _), (4, _), (5, _), (6, _)]) rfl ?_
          refine y_goto hg 64 dX0_mayCome_119 (by decide) ?_
          exact ih
        have hcur := (b2_ne _).mp hc
        have hd : nI r / nI (bs P.2.2.2.1 x) = nI (r / bs P.2.2.2.1 x) := pk_div (by omega) hb0 (by omega)
        have hle : r / bs P.2.2.2.1 x ≤ r := Nat.div_le_self _ _
        refine y_iload_n hg dX0_mayCome_76 rfl ?_
        refine y_aload_n hg dX0_mayCome_77 rfl ?_
        refine y_getr (j := 6) hg cf0 (hL.x) (by decide) rfl (hL.r_base) q178 dX0_mayCome_78 ?_
        refine y_iload hg dX0_mayCome_81 rfl ?_
        refine y_iald hg _ (hL.k_base) rfl (by omega) dX0_mayCome_83 ?_
        refine y_ti (hbx) ?_
        refine y_idiv hg dX0_mayCome_84 (nI_ne0 hb0 (by omega)) ?_
        refine y_ti (hd) ?_
        refine y_aload_n hg dX0_mayCome_85 rfl ?_
        refine y_getr (j := 4) hg cf0 (hL.x) (by decide) rfl (hOp) q176 dX0_mayCome_86 ?_
        refine y_getrN (j := 0) hg cf1 (hOS.o) (by decide) rfl (hOS.r_bag) nf0 dX0_mayCome_89 ?_
        refine y_iload hg dX0_mayCome_92 rfl ?_
        refine y_iald hg _ (hOS.k_bag) rfl (by omega) dX0_mayCome_94 ?_
        refine y_ti (hbag) ?_
        refine y_iconst (v := nI 1) hg dX0_mayCome_95 rfl ?_
        refine y_iadd hg dX0_mayCome_96 ?_
        refine y_ti (nI_add _ _) ?_
        refine y_irem hg dX0_mayCome_97 (nI_ne0 (by omega) (by omega)) ?_
        refine y_ti (pk_rem (by omega) (by omega) (by omega)) ?_
        refine y_aload hg dX0_mayCome_98 rfl ?_
        refine y_getrN (j := 3) hg cf2 (hWw.o) (by decide) rfl (hWw.r_has) nf9 dX0_mayCome_100 ?_
        refine y_iload hg dX0_mayCome_103 rfl ?_
        refine y_iald hg _ (hWw.k_has) rfl (by omega) dX0_mayCome_105 ?_
        refine y_ti (hhas) ?_
        refine y_icmp_lt hg 113 dX0_mayCome_106 (by decide) (fun hc2 => ?_) (fun hc2 => ?_)
        · refine y_iconst (v := nI 0) hg dX0_mayCome_113 rfl ?_
          refine J2 _ ?_
          have hlt : dg P.2.2.2.1 r x < P.2.1 w x := (nI_ltI (by show dg P.2.2.2.1 r x < _; omega) (by omega)).mp hc2
          rw [fit_step, decide_eq_false (by omega), Bool.and_false, Bool.and_false]
          rfl
        · refine y_iconst (v := nI 1) hg dX0_mayCome_109 rfl ?_
          refine y_goto hg 114 dX0_mayCome_110 (by decide) ?_
          refine J2 _ ?_
          have hge : ¬ dg P.2.2.2.1 r x < P.2.1 w x := fun h => hc2 ((nI_ltI (by show dg P.2.2.2.1 r x < _; omega) (by omega)).mpr h)
          rw [fit_step, decide_eq_true (by omega), Bool.and_true, hcur]
          rfl
    · refine y_iload hg dX0_mayCome_64 rfl ?_
      refine y_bipush (v := nI 8) hg dX0_mayCome_66 rfl ?_
      refine y_icmp_ge hg 122 dX0_mayCome_68 (by decide) (fun _ => ?_) (fun hF => absurd (le_c (Nat.le_refl 8) (by decide)) hF)
      refine y_iload hg dX0_mayCome_122 rfl ?_
      refine y_zret hg hr (nz_b2 _) ⟨_, rfl, ?_⟩ dX0_mayCome_124 (Nat.le_refl _) (Nat.le_refl _)
      exact ⟨by rw [hm]; rfl, rfl⟩
  have hbeg : σ.2.2.1 ko 3 = P.2.2.2.1 19 := by rw [← ro_begins]; exact hrow 19 (by omega)
  have hfol : k < 4 → σ.2.2.1 (ko + 3) k = P.2.2.2.1 (21 + k) := fun h => by rw [← ro_follows]; exact hrow (21 + k) (by omega)
  have K : ∀ v : Int32, v = (if k = 4 then P.2.2.2.1 19 else P.2.2.2.1 (21 + k)) → P.2.2.2.2 w = true → YY g 7 σ 0 0 43 [(0, .ref (B.1 + 0)), (1, .int (nI w)), (2, .int (nI r)), (3, .int (nI k)), (4, .ref (B.1 + (97 + 6 * w)))] [.int v] := by
    intro v hv hu1
    subst hv
    refine y_aload hg dX0_mayCome_43 rfl ?_
    refine y_getiN (j := 2) hg cf2 (hWw.o) (by decide) rfl nf8 dX0_mayCome_45 ?_
    refine y_ti hkd ?_
    refine y_cSi hg (cX_has _ _) iX0_has q344 rfl rfl (by simp [Value.category]) (Nat.le_refl _) (Nat.le_refl _) (by decide) dX0_mayCome_48 (fun r σ1 hp => ?_)
    obtain ⟨rfl, rfl⟩ := hp
    refine y_if_eq hg 58 dX0_mayCome_51 (by decide) (fun hc3 => ?_) (fun hc3 => ?_)
    · refine y_iconst (v := nI 0) hg dX0_mayCome_58 rfl ?_
      exact J _ (by rw [(b2_eq _).mp hc3, Bool.and_false]; rfl)
    · refine y_iconst (v := nI 1) hg dX0_mayCome_54 rfl ?_
      refine y_goto hg 59 dX0_mayCome_55 (by decide) ?_
      exact J _ (by rw [(b2_ne _).mp hc3, hu1]; rfl)
  refine y_aload_n hg dX0_mayCome_0 rfl ?_
  refine y_getr (j := 0) hg cf0 (hL.x) (by decide) rfl (hL.r_words) q172 dX0_mayCome_1 ?_
  refine y_iload_n hg dX0_mayCome_4 rfl ?_
  refine y_aald3 hg _ (hL.k_words) rfl (by omega) (hL.e_words (i := w) (by omega)) dX0_mayCome_5 ?_
  refine y_astore hg dX0_mayCome_6 (by decide) (lv1 := [(0, _), (1, _), (2, _), (3, _), (4, _)]) rfl ?_
  refine y_aload_n hg dX0_mayCome_8 rfl ?_
  refine y_geti (j := 5) hg cf0 (hL.x) (by decide) rfl q177 dX0_mayCome_9 ?_
  refine y_iload_n hg dX0_mayCome_12 rfl ?_
  refine y_cSi hg (cX_has _ _) iX0_has q344 rfl rfl (by simp [Value.category]) (Nat.le_refl _) (Nat.le_refl _) (by decide) dX0_mayCome_13 (fun r σ1 hp => ?_)
  obtain ⟨rfl, rfl⟩ := hp
  refine y_if_eq hg 58 dX0_mayCome_16 (by decide) (fun hc => ?_) (fun hc => ?_)
  · refine y_iconst (v := nI 0) hg dX0_mayCome_58 rfl ?_
    refine J _ ?_
    rw [← hu w hw, (b2_eq _).mp hc]; rfl
  · have hu1 : P.2.2.2.2 w = true := by rw [← hu w hw]; exact (b2_ne _).mp hc
    refine y_iload_n hg dX0_mayCome_19 rfl ?_
    refine y_iconst (v := nI 4) hg dX0_mayCome_20 rfl ?_
    refine y_icmp_ne hg 34 dX0_mayCome_21 (by decide) (fun hc2 => ?_) (fun hc2 => ?_)
    · have hk4 : k < 4 := by
        rcases Nat.lt_or_ge k 4 with h | h
        · exact h
        · exact absurd (show nI k = nI 4 by rw [show k = 4 by omega]) hc2
      refine y_aload_n hg dX0_mayCome_34 rfl ?_
      refine y_getr (j := 4) hg cf0 (hL.x) (by decide) rfl (hOp) q176 dX0_mayCome_35 ?_
      refine y_getrN (j := 5) hg cf1 (hOS.o) (by decide) rfl (hOS.r_follows) nf5 dX0_mayCome_38 ?_
      refine y_iload_n hg dX0_mayCome_41 rfl ?_
      refine y_iald hg _ (hOS.k_follows) rfl (by omega) dX0_mayCome_42 ?_
      refine K _ ?_ hu1
      rw [if_neg (by omega)]; exact hfol hk4
    · have hk4 : k = 4 := nI_inj (by omega) (by decide) hc2
      refine y_aload_n hg dX0_mayCome_24 rfl ?_
      refine y_getr (j := 4) hg cf0 (hL.x) (by decide) rfl (hOp) q176 dX0_mayCome_25 ?_
      refine y_getiN (j := 3) hg cf1 (hOS.o) (by decide) rfl nf3 dX0_mayCome_28 ?_
      refine y_goto hg 43 dX0_mayCome_31 (by decide) ?_
      refine K _ ?_ hu1
      rw [if_pos hk4]; exact hbeg
theorem cX_mayEnd {P : Pb} {ko r k : Nat} (hP : WFP P) (hX : PX B σ P ko) (hr : r < nS P) (hk : k < 5) :
    MT ll B 1 0 0 yX0_mayEnd cX0_mayEnd 3 (some .boolean) [.ref (B.1 + 0), .int (nI r), .int (nI k)] σ (pI fun v σ' => v = b2 (decide (r = 0) && endB P k) ∧ σ' = σ) := by
  obtain ⟨hL, hOS, hOp, hW, hrow, hu, hb, hs, hst, hko⟩ := hX
  have hnS := nS_le hP
  have hend : σ.2.2.1 ko 4 = P.2.2.2.1 20 := by rw [← ro_ends]; exact hrow 20 (by omega)
  refine MT.of (by decide) (Nat.le_of_ble_eq_true rfl) (fun g hg hr => ?_)
  refine y_iload_n hg dX0_mayEnd_0 rfl ?_
  refine y_if_ne hg 27 dX0_mayEnd_1 (by decide) (fun hc => ?_) (fun hc => ?_)
  · refine y_iconst (v := nI 0) hg dX0_mayEnd_27 rfl ?_
    refine y_zret hg hr rfl ⟨_, rfl, ?_⟩ dX0_mayEnd_28 (Nat.le_refl _) (Nat.le_refl _)
    have h0 : r ≠ 0 := fun e => hc (by rw [e]; rfl)
    exact ⟨by rw [decide_eq_false h0]; rfl, rfl⟩
  · have h0 : r = 0 := by
      rcases Nat.eq_zero_or_pos r with z | z
      · exact z
      · exact absurd hc (nI_ne0 z (by omega))
    refine y_iload_n hg dX0_mayEnd_4 rfl ?_
    refine y_iconst (v := nI 4) hg dX0_mayEnd_5 rfl ?_
    refine y_icmp_ge hg 27 dX0_mayEnd_6 (by decide) (fun hc2 => ?_) (fun hc2 => ?_)
    · refine y_iconst (v := nI 0) hg dX0_mayEnd_27 rfl ?_
      refine y_zret hg hr rfl ⟨_, rfl, ?_⟩ dX0_mayEnd_28 (Nat.le_refl _) (Nat.le_refl _)
      have h4 : ¬ k < 4 := fun h => nI_ge h (by decide) hc2
      exact ⟨by rw [endB, decide_eq_false h4, Bool.false_and, Bool.and_false]; rfl, rfl⟩
    · have h4 : k < 4 := by
        rcases Nat.lt_or_ge k 4 with h | h
        · exact h
        · exact absurd (nI_le h (by omega)) hc2
      refine y_aload_n hg dX0_mayEnd_9 rfl ?_
      refine y_getr (j := 4) hg cf0 (hL.x) (by decide) rfl (hOp) q176 dX0_mayEnd_10 ?_
      refine y_getiN (j := 4) hg cf1 (hOS.o) (by decide) rfl nf4 dX0_mayEnd_13 ?_
      refine y_ti hend ?_
      refine y_iload_n hg dX0_mayEnd_16 rfl ?_
      refine y_cSi hg (cX_has _ _) iX0_has q344 rfl rfl (by simp [Value.category]) (Nat.le_refl _) (Nat.le_refl _) (by decide) dX0_mayEnd_17 (fun r σ1 hp => ?_)
      obtain ⟨rfl, rfl⟩ := hp
      refine y_if_eq hg 27 dX0_mayEnd_20 (by decide) (fun hc3 => ?_) (fun hc3 => ?_)
      · refine y_iconst (v := nI 0) hg dX0_mayEnd_27 rfl ?_
        refine y_zret hg hr rfl ⟨_, rfl, ?_⟩ dX0_mayEnd_28 (Nat.le_refl _) (Nat.le_refl _)
        exact ⟨by rw [endB, (b2_eq _).mp hc3, Bool.and_false, Bool.and_false]; rfl, rfl⟩
      · refine y_iconst (v := nI 1) hg dX0_mayEnd_23 rfl ?_
        refine y_goto hg 28 dX0_mayEnd_24 (by decide) ?_
        refine y_zret hg hr rfl ⟨_, rfl, ?_⟩ dX0_mayEnd_28 (Nat.le_refl _) (Nat.le_refl _)
        exact ⟨by rw [endB, (b2_ne _).mp hc3, decide_eq_true h4, decide_eq_true h0]; rfl, rfl⟩
end XCount

