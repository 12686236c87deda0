section ReasonM2
variable {ll : Launch} {B : Bs} {σ : Mem} {A : Ab} {sd : Int64}
abbrev RsM (σ' : Mem) (r : Rs) : Prop := σ'.2.2.1 157 41 = r.2.1 ∧ σ'.2.2.1 157 42 = r.2.2.1 ∧ σ'.2.2.1 157 43 = r.2.2.2
theorem WM.set {σ' : Mem} {k j : Nat} {v : Int32} (h : WM B A sd σ σ') (hq : ME k j) : WM B A sd σ (setI σ' k j v) := h.go (Q := ME) ((FrR.rf).stI hq) (fun a j q => q)
set_option maxHeartbeats 1000000 in
theorem cM_reason (hW : WFA A) (hR : RMm B A sd σ) : MT ll B 3 0 0 yX3_reason cX3_reason 5 (some .int) [.ref (B.1 + 157)] σ (pI fun r σ' => r = (rs A).1 ∧ RsM σ' (rs A) ∧ WM B A sd σ σ') := by
  have hm := hW.nmle
  obtain ⟨htl, ht12⟩ := hW.toldN
  have hM := hR.1
  refine MT.of (by decide) (Nat.le_of_ble_eq_true rfl) (fun g hg hr => ?_)
  refine y_aload_n hg dX3_reason_0 rfl ?_
  refine y_bipush (v := -9) hg dX3_reason_1 rfl ?_
  refine y_puti (j := 42) hg cf3 (hM.m) (by decide) rfl rfl q953 dX3_reason_3 ?_
  refine y_aload_n hg dX3_reason_6 rfl ?_
  refine y_iconst (v := nI 0) hg dX3_reason_7 rfl ?_
  refine y_puti (j := 43) hg cf3 (hM.m) (by decide) rfl rfl q954 dX3_reason_8 ?_
  have hw1 : WM B A sd σ (setI (setI σ 157 42 (-9)) 157 43 (nI 0)) := ((WM.rf hR).set (by unfold ME; omega)).set (by unfold ME; omega)
  have e42 : (setI (setI σ 157 42 (-9)) 157 43 (nI 0)).2.2.1 157 42 = -9 := by rw [gI_n (by omega), gI_s]
  have e43 : (setI (setI σ 157 42 (-9)) 157 43 (nI 0)).2.2.1 157 43 = nI 0 := gI_s
  have hM := hw1.1.1
  generalize setI (setI σ 157 42 (-9)) 157 43 (nI 0) = σ1 at *
  refine y_iconst (v := nI 0) hg dX3_reason_11 rfl ?_
  refine y_istore_n hg dX3_reason_12 (by decide) (lv1 := [(0, _), (1, _)]) rfl ?_
  have LOOP := loop_st (S := Mem) (G := fun i s => YY g 5 s 0 0 13 [(0, .ref (B.1 + 157)), (1, .int (nI i))] []) (I := fun i s => WM B A sd σ s ∧ (∀ x, x < i → s.2.2.1 185 x = A 11 x) ∧ s.2.2.1 157 42 = -9 ∧ s.2.2.1 157 43 = nI 0) 8 ?_ ?_ 0 σ1 (Nat.zero_le _) ⟨hw1, fun x hx => by omega, e42, e43⟩
  · exact LOOP
  · intro i s hi hI ih
    obtain ⟨hws, hv, h42, h43⟩ := hI
    have hM := hws.1.1
    have hn := hM.n
    refine y_iload_n hg dX3_reason_13 rfl ?_
    refine y_bipush (v := nI 8) hg dX3_reason_14 rfl ?_
    refine y_icmp_ge hg 37 dX3_reason_16 (by decide) (fun hT => absurd hT (ge_c hi (by omega))) (fun _ => ?_)
    refine y_aload_n hg dX3_reason_19 rfl ?_
    refine y_getr (j := 40) hg cf3 (hM.m) (by decide) rfl (hM.r_left) q951 dX3_reason_20 ?_
    refine y_iload_n hg dX3_reason_23 rfl ?_
    refine y_aload_n hg dX3_reason_24 rfl ?_
    refine y_getr (j := 7) hg cf3 (hM.m) (by decide) rfl (hM.r_now) q918 dX3_reason_25 ?_
    refine y_iload_n hg dX3_reason_28 rfl ?_
    refine y_iald hg _ (hM.k_now) rfl (by omega) dX3_reason_29 ?_
    refine y_ti (hws.1.now (by omega)) ?_
    refine y_iast hg _ (hM.k_left) rfl (by omega) dX3_reason_30 ?_
    refine y_iinc hg dX3_reason_31 rfl (inc1 _) (by decide) (lv1 := [(0, _), (1, _)]) rfl ?_
    refine y_goto hg 13 dX3_reason_34 (by decide) ?_
    refine ih _ ⟨hws.set (by unfold ME; omega), fun x hx => ?_, (gI_n (by omega)).trans h42, (gI_n (by omega)).trans h43⟩
    by_cases e : x = i
    · subst e; exact gI_s
    · rw [gI_n (by omega)]; exact hv x (by omega)
  · intro s hI
    obtain ⟨hws, hv, h42, h43⟩ := hI
    have hM := hws.1.1
    refine y_iload_n hg dX3_reason_13 rfl ?_
    refine y_bipush (v := nI 8) hg dX3_reason_14 rfl ?_
    refine y_icmp_ge hg 37 dX3_reason_16 (by decide) (fun _ => ?_) (fun hF => absurd (le_c (Nat.le_refl _) (by omega)) hF)
    refine y_iconst (v := nI 0) hg dX3_reason_37 rfl ?_
    refine y_istore_n hg dX3_reason_38 (by decide) (lv1 := [(0, _), (1, _)]) rfl ?_
    have LOOP2 := loop_st (S := Mem) (G := fun i s => YY g 5 s 0 0 39 [(0, .ref (B.1 + 157)), (1, .int (nI i))] []) (I := fun i s => WM B A sd σ s ∧ (∀ x, x < 8 → s.2.2.1 185 x = lfk A i x) ∧ s.2.2.1 157 42 = -9 ∧ s.2.2.1 157 43 = nI 0 ∧ rsL A (tol A - i) i = rs A) (tol A) ?_ ?_ 0 s (Nat.zero_le _) ⟨hws, hv, h42, h43, rfl⟩
    · exact LOOP2
    · intro i s hi hI ih
      obtain ⟨hws, hlf, h42, h43, hrs⟩ := hI
      rw [rsL_s hi] at hrs
      have hM := hws.1.1
      have hn := hM.n
      obtain ⟨hrow, hwn⟩ := hW.rowW hi
      refine y_iload_n hg dX3_reason_39 rfl ?_
      refine y_aload_n hg dX3_reason_40 rfl ?_
      refine y_geti (j := 15) hg cf3 (hM.m) (by decide) rfl q926 dX3_reason_41 ?_
      refine y_ti (hws.1.told.trans htl) ?_
      refine y_icmp_ge hg 209 dX3_reason_44 (by decide) (fun hT => absurd hT (ge_c hi (by omega))) (fun _ => ?_)
      refine y_aload_n hg dX3_reason_47 rfl ?_
      refine y_getr (j := 14) hg cf3 (hM.m) (by decide) rfl (hM.r_told) q925 dX3_reason_48 ?_
      refine y_iload_n hg dX3_reason_51 rfl ?_
      refine y_iald hg _ (hM.k_told) rfl (by omega) dX3_reason_52 ?_
      refine y_ti ((hws.1.row6 (by omega)).trans hrow) ?_
      refine y_istore_n hg dX3_reason_53 (by decide) (lv1 := [(0, _), (1, _), (2, _)]) rfl ?_
      refine y_aload_n hg dX3_reason_54 rfl ?_
      refine y_iload_n hg dX3_reason_55 rfl ?_
      refine y_puti (j := 41) hg cf3 (hM.m) (by decide) rfl rfl q952 dX3_reason_56 ?_
      have hw2 : WM B A sd σ (setI s 157 41 (nI i)) := hws.set (by unfold ME; omega)
      have g41 : (setI s 157 41 (nI i)).2.2.1 157 41 = nI i := gI_s
      have g42 : (setI s 157 41 (nI i)).2.2.1 157 42 = -9 := (gI_n (by omega)).trans h42
      have g43 : (setI s 157 41 (nI i)).2.2.1 157 43 = nI 0 := (gI_n (by omega)).trans h43
      have glf : ∀ x, x < 8 → (setI s 157 41 (nI i)).2.2.1 185 x = lfk A i x := fun x hx => (gI_n (by omega)).trans (hlf x hx)
      have hM := hw2.1.1
      generalize setI s 157 41 (nI i) = t at hw2 g41 g42 g43 glf hM ⊢
      refine y_aload_n hg dX3_reason_59 rfl ?_
      refine y_getr (j := 7) hg cf3 (hM.m) (by decide) rfl (hM.r_now) q918 dX3_reason_60 ?_
      refine y_bipush (v := nI 8) hg dX3_reason_63 rfl ?_
      refine y_iald hg _ (hM.k_now) rfl (by omega) dX3_reason_65 ?_
      refine y_ti (hw2.1.barred) ?_
      refine y_iload_n hg dX3_reason_66 rfl ?_
      refine y_cSi hg (cM_has _ _) iX3_has q1100 rfl rfl (by simp [Value.category]) (Nat.le_refl _) (Nat.le_refl _) (by decide) dX3_reason_67 (fun r t1 hp => ?_)
      obtain ⟨rfl, rfl⟩ := hp
      refine y_ti (show b2 (hasB (A 11 8) (nI (wtn A i))) = b2 (hasB (A 11 8) (A 6 i)) by rw [hrow]) ?_
      refine y_if_eq hg 75 dX3_reason_70 (by decide) (fun hc => ?_) (fun hc => ?_)
      · have hb1 : ¬ hasB (A 11 8) (A 6 i) = true := b2F hc
        have J : ∀ v, v = alw A i → YY g 5 t1 0 0 110 [(0, .ref (B.1 + 157)), (1, .int (nI i)), (2, .int (nI (wtn A i)))] [.int v] := by
          intro v hv
          subst hv
          refine y_aload_n hg dX3_reason_110 rfl ?_
          refine y_getr (j := 5) hg cf3 (hM.m) (by decide) rfl (hM.r_kind) q916 dX3_reason_111 ?_
          refine y_iload_n hg dX3_reason_114 rfl ?_
          refine y_iald hg _ (hM.k_kind) rfl (by omega) dX3_reason_115 ?_
          refine y_ti (hw2.1.kind hwn) ?_
          refine y_cSi hg (cM_has _ _) iX3_has q1100 rfl rfl (by simp [Value.category]) (Nat.le_refl _) (Nat.le_refl _) (by decide) dX3_reason_116 (fun r t2 hp => ?_)
          obtain ⟨rfl, rfl⟩ := hp
          refine y_if_ne hg 124 dX3_reason_119 (by decide) (fun hc2 => ?_) (fun hc2 => ?_)
          · have hb2 := b2T hc2
            refine y_aload_n hg dX3_reason_124 rfl ?_
            refine y_iload_n hg dX3_reason_125 rfl ?_
            refine y_cVi hg (cM_wantedBy hW hw2.1 glf hwn) iX3_wantedBy q1288 (hM.m) cf3 rfl rfl (by simp [Value.category]) (Nat.le_refl _) (Nat.le_refl _) (by decide) dX3_reason_126 (fun r t3 hp => ?_)
            obtain ⟨rfl, rfl⟩ := hp
            have hst : stW A (lfk A i) i = match wtF A (lfk A i) (wtn A i) (sz A (wtn A i)) 0 with
                | some x => some (nI 3, nI i, nI x, A 4 (8 * wtn A i + x) - lfk A i x)
                | none => none := by unfold stW; rw [if_neg hb1, if_pos hb2]; rfl
            cases hwt : wtF A (lfk A i) (wtn A i) (sz A (wtn A i)) 0 with
            | none =>
              rw [hwt] at hst
              rw [hst] at hrs
              refine y_ti (x' := -9) rfl ?_
              refine y_istore_n hg dX3_reason_129 (by decide) (lv1 := [(0, _), (1, _), (2, _), (3, _)]) rfl ?_
              refine y_iload_n hg dX3_reason_130 rfl ?_
              refine y_bipush (v := -9) hg dX3_reason_131 rfl ?_
              refine y_icmp_eq hg 165 dX3_reason_133 (by decide) (fun _ => ?_) (fun hF => absurd (rfl) hF)
              refine y_iconst (v := nI 0) hg dX3_reason_165 rfl ?_
              refine y_istore hg dX3_reason_166 (by decide) (lv1 := [(0, _), (1, _), (2, _), (3, _), (4, _)]) rfl ?_
              have LOOP3 := loop_st (S := Mem) (G := fun e s => YY g 5 s 0 0 168 [(0, .ref (B.1 + 157)), (1, .int (nI i)), (2, .int (nI (wtn A i))), (3, .int (-9)), (4, .int (nI e))] []) (I := fun e s => WM B A sd σ s ∧ (∀ x, x < 8 → s.2.2.1 185 x = if x < e then lfk A (i + 1) x else lfk A i x) ∧ s.2.2.1 157 42 = -9 ∧ s.2.2.1 157 43 = nI 0) 8 ?_ ?_ 0 t3 (Nat.zero_le _) ⟨hw2, fun x hx => by rw [if_neg (by omega)]; exact glf x hx, g42, g43⟩
              · exact LOOP3
              · intro e s he hI ih3
                obtain ⟨hw3, hl3, k42, k43⟩ := hI
                have hM := hw3.1.1
                have hn := hM.n
                refine y_iload hg dX3_reason_168 rfl ?_
                refine y_bipush (v := nI 8) hg dX3_reason_170 rfl ?_
                refine y_icmp_ge hg 203 dX3_reason_172 (by decide) (fun hT => absurd hT (ge_c he (by omega))) (fun _ => ?_)
                refine y_aload_n hg dX3_reason_175 rfl ?_
                refine y_getr (j := 40) hg cf3 (hM.m) (by decide) rfl (hM.r_left) q951 dX3_reason_176 ?_
                refine y_iload hg dX3_reason_179 rfl ?_
                refine y_dup2 hg dX3_reason_181 rfl rfl ?_
                refine y_iald hg _ (hM.k_left) rfl (by omega) dX3_reason_182 ?_
                refine y_ti ((hl3 _ he).trans (if_neg (Nat.lt_irrefl _))) ?_
                refine y_aload_n hg dX3_reason_183 rfl ?_
                refine y_getr (j := 6) hg cf3 (hM.m) (by decide) rfl (hM.r_need) q917 dX3_reason_184 ?_
                refine y_bipush (v := nI 8) hg dX3_reason_187 rfl ?_
                refine y_iload_n hg dX3_reason_189 rfl ?_
                refine y_imul hg dX3_reason_190 ?_
                refine y_ti (pk_mul _ _) ?_
                refine y_iload hg dX3_reason_191 rfl ?_
                refine y_iadd hg dX3_reason_193 ?_
                refine y_ti (nI_add _ _) ?_
                refine y_iald hg _ (hM.k_need) rfl (by omega) dX3_reason_194 ?_
                refine y_ti (hw3.1.need hwn he) ?_
                refine y_isub hg dX3_reason_195 ?_
                refine y_iast hg _ (hM.k_left) rfl (by omega) dX3_reason_196 ?_
                refine y_iinc hg dX3_reason_197 rfl (inc1 _) (by decide) (lv1 := [(0, _), (1, _), (2, _), (3, _), (4, _)]) rfl ?_
                refine y_goto hg 168 dX3_reason_200 (by decide) ?_
                refine ih3 _ ⟨hw3.set (by unfold ME; omega), fun x hx => ?_, (gI_n (by omega)).trans k42, (gI_n (by omega)).trans k43⟩
                by_cases e1 : x = e
                · subst e1
                  rw [gI_s, if_pos (by omega)]
                  rfl
                · rw [gI_n (by omega), hl3 x hx]
                  by_cases e2 : x < e
                  · rw [if_pos e2, if_pos (by omega)]
                  · rw [if_neg e2, if_neg (by omega)]
              · intro s hI
                obtain ⟨hw3, hl3, k42, k43⟩ := hI
                refine y_iload hg dX3_reason_168 rfl ?_
                refine y_bipush (v := nI 8) hg dX3_reason_170 rfl ?_
                refine y_icmp_ge hg 203 dX3_reason_172 (by decide) (fun _ => ?_) (fun hF => absurd (le_c (Nat.le_refl _) (by omega)) hF)
                refine y_iinc hg dX3_reason_203 rfl (inc1 _) (by decide) (lv1 := [(0, _), (1, _), (2, _), (3, _), (4, _)]) rfl ?_
                refine y_goto hg 39 dX3_reason_206 (by decide) ?_
                refine y_sub [0, 1] rfl (ih _ ⟨hw3, fun x hx => ?_, k42, k43, hrs⟩)
                rw [hl3 x hx, if_pos hx]
            | some x =>
              rw [hwt] at hst
              rw [hst] at hrs
              have hx := wtF_lt hW hwn _ _ (Nat.add_zero _) hwt
              refine y_ti (x' := nI x) rfl ?_
              refine y_istore_n hg dX3_reason_129 (by decide) (lv1 := [(0, _), (1, _), (2, _), (3, _)]) rfl ?_
              refine y_iload_n hg dX3_reason_130 rfl ?_
              refine y_bipush (v := -9) hg dX3_reason_131 rfl ?_
              refine y_icmp_eq hg 165 dX3_reason_133 (by decide) (fun hT => absurd hT (m9_nx x hx)) (fun _ => ?_)
              refine y_aload_n hg dX3_reason_136 rfl ?_
              refine y_iload_n hg dX3_reason_137 rfl ?_
              refine y_puti (j := 42) hg cf3 (hM.m) (by decide) rfl rfl q953 dX3_reason_138 ?_
              have hw3 : WM B A sd σ (setI t3 157 42 (nI x)) := hw2.set (by unfold ME; omega)
              have k41 : (setI t3 157 42 (nI x)).2.2.1 157 41 = nI i := (gI_n (by omega)).trans g41
              have k42 : (setI t3 157 42 (nI x)).2.2.1 157 42 = nI x := gI_s
              have klf : ∀ x_1, x_1 < 8 → (setI t3 157 42 (nI x)).2.2.1 185 x_1 = lfk A i x_1 := fun y hy => (gI_n (by omega)).trans (glf y hy)
              have hM := hw3.1.1
              generalize setI t3 157 42 (nI x) = t4 at hw3 k41 k42 klf hM ⊢
              refine y_aload_n hg dX3_reason_141 rfl ?_
              refine y_aload_n hg dX3_reason_142 rfl ?_
              refine y_getr (j := 6) hg cf3 (hM.m) (by decide) rfl (hM.r_need) q917 dX3_reason_143 ?_
              refine y_bipush (v := nI 8) hg dX3_reason_146 rfl ?_
              refine y_iload_n hg dX3_reason_148 rfl ?_
              refine y_imul hg dX3_reason_149 ?_
              refine y_ti (pk_mul _ _) ?_
              refine y_iload_n hg dX3_reason_150 rfl ?_
              refine y_iadd hg dX3_reason_151 ?_
              refine y_ti (nI_add _ _) ?_
              refine y_iald hg _ (hM.k_need) rfl (by omega) dX3_reason_152 ?_
              refine y_ti (hw3.1.need hwn hx) ?_
              refine y_aload_n hg dX3_reason_153 rfl ?_
              refine y_getr (j := 40) hg cf3 (hM.m) (by decide) rfl (hM.r_left) q951 dX3_reason_154 ?_
              refine y_iload_n hg dX3_reason_157 rfl ?_
              refine y_iald hg _ (hM.k_left) rfl (by omega) dX3_reason_158 ?_
              refine y_ti (klf _ hx) ?_
              refine y_isub hg dX3_reason_159 ?_
              refine y_puti (j := 43) hg cf3 (hM.m) (by decide) rfl rfl q954 dX3_reason_160 ?_
              refine y_iconst (v := nI 3) hg dX3_reason_163 rfl ?_
              refine y_iret hg hr ⟨_, rfl, ?_⟩ dX3_reason_164 (Nat.le_refl _) (Nat.le_refl _)
              rw [← hrs]
              exact ⟨rfl, ⟨(gI_n (by omega)).trans k41, (gI_n (by omega)).trans k42, gI_s⟩, hw3.set (by unfold ME; omega)⟩
          · have hst : stW A (lfk A i) i = some (nI 2, nI i, -9, nI 0) := by unfold stW; rw [if_neg hb1, if_neg (b2F hc2)]
            rw [hst] at hrs
            refine y_iconst (v := nI 2) hg dX3_reason_122 rfl ?_
            refine y_iret hg hr ⟨_, rfl, ?_⟩ dX3_reason_123 (Nat.le_refl _) (Nat.le_refl _)
            rw [← hrs]
            exact ⟨rfl, ⟨g41, g42, g43⟩, hw2⟩
        refine y_iload_n hg dX3_reason_75 rfl ?_
        refine y_if_ne hg 89 dX3_reason_76 (by decide) (fun hc3 => ?_) (fun hc3 => ?_)
        · have hi0 : i ≠ 0 := fun z => hc3 (by rw [z]; rfl)
          obtain ⟨hrow1, hwn1⟩ := hW.rowW (show i - 1 < tol A by omega)
          obtain ⟨hkd, hkd4⟩ := hW.kd_e hwn1
          refine y_aload_n hg dX3_reason_89 rfl ?_
          refine y_getr (j := 7) hg cf3 (hM.m) (by decide) rfl (hM.r_now) q918 dX3_reason_90 ?_
          refine y_bipush (v := nI 21) hg dX3_reason_93 rfl ?_
          refine y_aload_n hg dX3_reason_95 rfl ?_
          refine y_getr (j := 5) hg cf3 (hM.m) (by decide) rfl (hM.r_kind) q916 dX3_reason_96 ?_
          refine y_aload_n hg dX3_reason_99 rfl ?_
          refine y_getr (j := 14) hg cf3 (hM.m) (by decide) rfl (hM.r_told) q925 dX3_reason_100 ?_
          refine y_iload_n hg dX3_reason_103 rfl ?_
          refine y_iconst (v := nI 1) hg dX3_reason_104 rfl ?_
          refine y_isub hg dX3_reason_105 ?_
          refine y_ti (pk_sub (by omega)) ?_
          refine y_iald hg _ (hM.k_told) rfl (by omega) dX3_reason_106 ?_
          refine y_ti ((hw2.1.row6 (by omega)).trans hrow1) ?_
          refine y_iald hg _ (hM.k_kind) rfl (by omega) dX3_reason_107 ?_
          refine y_ti ((hw2.1.kind hwn1).trans hkd) ?_
          refine y_iadd hg dX3_reason_108 ?_
          refine y_ti (nI_add _ _) ?_
          refine y_iald hg _ (hM.k_now) rfl (by omega) dX3_reason_109 ?_
          refine y_ti (hw2.1.now (by omega)) ?_
          exact J _ (by unfold alw; rw [if_neg hi0])
        · have hi0 : i = 0 := nI_inj (by omega) (by omega) hc3
          refine y_aload_n hg dX3_reason_79 rfl ?_
          refine y_getr (j := 7) hg cf3 (hM.m) (by decide) rfl (hM.r_now) q918 dX3_reason_80 ?_
          refine y_bipush (v := nI 19) hg dX3_reason_83 rfl ?_
          refine y_iald hg _ (hM.k_now) rfl (by omega) dX3_reason_85 ?_
          refine y_ti (hw2.1.now (by omega)) ?_
          refine y_goto hg 110 dX3_reason_86 (by decide) ?_
          exact J _ (by unfold alw; rw [if_pos hi0])
      · have hst : stW A (lfk A i) i = some (nI 1, nI i, -9, nI 0) := by unfold stW; rw [if_pos (b2T hc)]
        rw [hst] at hrs
        refine y_iconst (v := nI 1) hg dX3_reason_73 rfl ?_
        refine y_iret hg hr ⟨_, rfl, ?_⟩ dX3_reason_74 (Nat.le_refl _) (Nat.le_refl _)
        rw [← hrs]
        exact ⟨rfl, ⟨g41, g42, g43⟩, hw2⟩
    · intro s hI
      obtain ⟨hws, hlf, h42, h43, hrs⟩ := hI
      rw [Nat.sub_self] at hrs
      have hrs : rsE A (tol A) = rs A := hrs
      have hM := hws.1.1
      have hn := hM.n
      refine y_iload_n hg dX3_reason_39 rfl ?_
      refine y_aload_n hg dX3_reason_40 rfl ?_
      refine y_geti (j := 15) hg cf3 (hM.m) (by decide) rfl q926 dX3_reason_41 ?_
      refine y_ti (hws.1.told.trans htl) ?_
      refine y_icmp_ge hg 209 dX3_reason_44 (by decide) (fun _ => ?_) (fun hF => absurd (le_c (Nat.le_refl _) (by omega)) hF)
      refine y_aload_n hg dX3_reason_209 rfl ?_
      refine y_aload_n hg dX3_reason_210 rfl ?_
      refine y_geti (j := 15) hg cf3 (hM.m) (by decide) rfl q926 dX3_reason_211 ?_
      refine y_ti (hws.1.told.trans htl) ?_
      refine y_puti (j := 41) hg cf3 (hM.m) (by decide) rfl rfl q952 dX3_reason_214 ?_
      have hw2 : WM B A sd σ (setI s 157 41 (nI (tol A))) := hws.set (by unfold ME; omega)
      have g41 : (setI s 157 41 (nI (tol A))).2.2.1 157 41 = nI (tol A) := gI_s
      have g42 : (setI s 157 41 (nI (tol A))).2.2.1 157 42 = -9 := (gI_n (by omega)).trans h42
      have g43 : (setI s 157 41 (nI (tol A))).2.2.1 157 43 = nI 0 := (gI_n (by omega)).trans h43
      have glf : ∀ x, x < 8 → (setI s 157 41 (nI (tol A))).2.2.1 185 x = lfk A (tol A) x := fun x hx => (gI_n (by omega)).trans (hlf x hx)
      have hM := hw2.1.1
      generalize setI s 157 41 (nI (tol A)) = t at hw2 g41 g42 g43 glf hM ⊢
      refine y_aload_n hg dX3_reason_217 rfl ?_
      refine y_geti (j := 15) hg cf3 (hM.m) (by decide) rfl q926 dX3_reason_218 ?_
      refine y_ti (hw2.1.told.trans htl) ?_
      refine y_if_ne hg 227 dX3_reason_221 (by decide) (fun hc => ?_) (fun hc => ?_)
      · have h0 : tol A ≠ 0 := fun z => hc (by rw [z]; rfl)
        have hrs2 : (match lvF (lfk A (tol A)) 8 0 with
            | some x => ((nI 4, nI (tol A), nI x, lfk A (tol A) x) : Rs)
            | none => if hasB (A 11 20) (A 3 (wtn A (tol A - 1))) = true then (nI 0, -9, -9, nI 0) else (nI 5, nI (tol A), -9, nI 0)) = rs A := by
          rw [← hrs]; unfold rsE; rw [if_neg h0]; rfl
        refine y_iconst (v := nI 0) hg dX3_reason_227 rfl ?_
        refine y_istore_n hg dX3_reason_228 (by decide) (lv1 := [(0, _), (1, _)]) rfl ?_
        refine (loop_up (G := fun x => lvF (lfk A (tol A)) (8 - x) x = lvF (lfk A (tol A)) 8 0 → YY g 5 t 0 0 229 [(0, .ref (B.1 + 157)), (1, .int (nI x))] []) 8 (fun x hx ih => ?_) ?_ 0 (Nat.zero_le _)) rfl
        · intro hl
          rw [lvF_s hx] at hl
          refine y_iload_n hg dX3_reason_229 rfl ?_
          refine y_bipush (v := nI 8) hg dX3_reason_230 rfl ?_
          refine y_icmp_ge hg 267 dX3_reason_232 (by decide) (fun hT => absurd hT (ge_c hx (by omega))) (fun _ => ?_)
          refine y_aload_n hg dX3_reason_235 rfl ?_
          refine y_getr (j := 40) hg cf3 (hM.m) (by decide) rfl (hM.r_left) q951 dX3_reason_236 ?_
          refine y_iload_n hg dX3_reason_239 rfl ?_
          refine y_iald hg _ (hM.k_left) rfl (by omega) dX3_reason_240 ?_
          refine y_ti (glf _ hx) ?_
          refine y_if_le hg 261 dX3_reason_241 (by decide) (fun hc4 => ?_) (fun hc4 => ?_)
          · rw [if_neg (Int32.not_lt.mpr hc4)] at hl
            refine y_iinc hg dX3_reason_261 rfl (inc1 _) (by decide) (lv1 := [(0, _), (1, _)]) rfl ?_
            refine y_goto hg 229 dX3_reason_264 (by decide) ?_
            exact ih hl
          · rw [if_pos (Int32.not_le.mp hc4)] at hl
            rw [← hl] at hrs2
            refine y_aload_n hg dX3_reason_244 rfl ?_
            refine y_iload_n hg dX3_reason_245 rfl ?_
            refine y_puti (j := 42) hg cf3 (hM.m) (by decide) rfl rfl q953 dX3_reason_246 ?_
            have hw3 : WM B A sd σ (setI t 157 42 (nI x)) := hw2.set (by unfold ME; omega)
            have k41 : (setI t 157 42 (nI x)).2.2.1 157 41 = nI (tol A) := (gI_n (by omega)).trans g41
            have k42 : (setI t 157 42 (nI x)).2.2.1 157 42 = nI x := gI_s
            have klf : (setI t 157 42 (nI x)).2.2.1 185 x = lfk A (tol A) x := (gI_n (by omega)).trans (glf x hx)
            have hM := hw3.1.1
            generalize setI t 157 42 (nI x) = t4 at hw3 k41 k42 klf hM ⊢
            refine y_aload_n hg dX3_reason_249 rfl ?_
            refine y_aload_n hg dX3_reason_250 rfl ?_
            refine y_getr (j := 40) hg cf3 (hM.m) (by decide) rfl (hM.r_left) q951 dX3_reason_251 ?_
            refine y_iload_n hg dX3_reason_254 rfl ?_
            refine y_iald hg _ (hM.k_left) rfl (by omega) dX3_reason_255 ?_
            refine y_ti (klf) ?_
            refine y_puti (j := 43) hg cf3 (hM.m) (by decide) rfl rfl q954 dX3_reason_256 ?_
            refine y_iconst (v := nI 4) hg dX3_reason_259 rfl ?_
            refine y_iret hg hr ⟨_, rfl, ?_⟩ dX3_reason_260 (Nat.le_refl _) (Nat.le_refl _)
            rw [← hrs2]
            exact ⟨rfl, ⟨(gI_n (by omega)).trans k41, (gI_n (by omega)).trans k42, gI_s⟩, hw3.set (by unfold ME; omega)⟩
        · intro hl
          have hl : none = lvF (lfk A (tol A)) 8 0 := hl
          rw [← hl] at hrs2
          obtain ⟨hrow1, hwn1⟩ := hW.rowW (show tol A - 1 < tol A by omega)
          refine y_iload_n hg dX3_reason_229 rfl ?_
          refine y_bipush (v := nI 8) hg dX3_reason_230 rfl ?_
          refine y_icmp_ge hg 267 dX3_reason_232 (by decide) (fun _ => ?_) (fun hF => absurd (le_c (Nat.le_refl _) (by omega)) hF)
          refine y_aload_n hg dX3_reason_267 rfl ?_
          refine y_getr (j := 7) hg cf3 (hM.m) (by decide) rfl (hM.r_now) q918 dX3_reason_268 ?_
          refine y_bipush (v := nI 20) hg dX3_reason_271 rfl ?_
          refine y_iald hg _ (hM.k_now) rfl (by omega) dX3_reason_273 ?_
          refine y_ti (hw2.1.now (by omega)) ?_
          refine y_aload_n hg dX3_reason_274 rfl ?_
          refine y_getr (j := 5) hg cf3 (hM.m) (by decide) rfl (hM.r_kind) q916 dX3_reason_275 ?_
          refine y_aload_n hg dX3_reason_278 rfl ?_
          refine y_getr (j := 14) hg cf3 (hM.m) (by decide) rfl (hM.r_told) q925 dX3_reason_279 ?_
          refine y_aload_n hg dX3_reason_282 rfl ?_
          refine y_geti (j := 15) hg cf3 (hM.m) (by decide) rfl q926 dX3_reason_283 ?_
          refine y_ti (hw2.1.told.trans htl) ?_
          refine y_iconst (v := nI 1) hg dX3_reason_286 rfl ?_
          refine y_isub hg dX3_reason_287 ?_
          refine y_ti (pk_sub (by omega)) ?_
          refine y_iald hg _ (hM.k_told) rfl (by omega) dX3_reason_288 ?_
          refine y_ti ((hw2.1.row6 (by omega)).trans hrow1) ?_
          refine y_iald hg _ (hM.k_kind) rfl (by omega) dX3_reason_289 ?_
          refine y_ti (hw2.1.kind hwn1) ?_
          refine y_cSi hg (cM_has _ _) iX3_has q1100 rfl rfl (by simp [Value.category]) (Nat.le_refl _) (Nat.le_refl _) (by decide) dX3_reason_290 (fun r t1 hp => ?_)
          obtain ⟨rfl, rfl⟩ := hp
          refine y_if_ne hg 298 dX3_reason_293 (by decide) (fun hc5 => ?_) (fun hc5 => ?_)
          · have hrs3 : ((nI 0, -9, -9, nI 0) : Rs) = rs A := by rw [← hrs2]; exact (if_pos (b2T hc5)).symm
            refine y_aload_n hg dX3_reason_298 rfl ?_
            refine y_bipush (v := -9) hg dX3_reason_299 rfl ?_
            refine y_puti (j := 41) hg cf3 (hM.m) (by decide) rfl rfl q952 dX3_reason_301 ?_
            refine y_iconst (v := nI 0) hg dX3_reason_304 rfl ?_
            refine y_iret hg hr ⟨_, rfl, ?_⟩ dX3_reason_305 (Nat.le_refl _) (Nat.le_refl _)
            rw [← hrs3]
            exact ⟨rfl, ⟨gI_s, (gI_n (by omega)).trans g42, (gI_n (by omega)).trans g43⟩, hw2.set (by unfold ME; omega)⟩
          · have hrs3 : ((nI 5, nI (tol A), -9, nI 0) : Rs) = rs A := by rw [← hrs2]; exact (if_neg (b2F hc5)).symm
            refine y_iconst (v := nI 5) hg dX3_reason_296 rfl ?_
            refine y_iret hg hr ⟨_, rfl, ?_⟩ dX3_reason_297 (Nat.le_refl _) (Nat.le_refl _)
            rw [← hrs3]
            exact ⟨rfl, ⟨g41, g42, g43⟩, hw2⟩
      · have h0 : tol A = 0 := nI_inj (by omega) (by omega) hc
        have hrs2 : ((nI 6, nI 0, -9, nI 0) : Rs) = rs A := by rw [← hrs]; unfold rsE; rw [if_pos h0]
        rw [h0] at g41
        refine y_bipush (v := nI 6) hg dX3_reason_224 rfl ?_
        refine y_iret hg hr ⟨_, rfl, ?_⟩ dX3_reason_226 (Nat.le_refl _) (Nat.le_refl _)
        rw [← hrs2]
        exact ⟨rfl, ⟨g41, g42, g43⟩, hw2⟩
def whV (r : Rs) (v : Nat) : Int32 := if v = 0 then r.1 else if v = 1 then r.2.1 else if v = 2 then r.2.2.1 else r.2.2.2
def rWhy (A : Ab) (v : Int32) : Int32 := if inL v.toInt64 0 3 = true then whV (rs A) v.toNatClampNeg else -2
theorem cM_why (hW : WFA A) (hR : RMm B A sd σ) (v : Int32) : MT ll B 24 0 0 yX3_why cX3_why 3 (some .int) [.ref (B.1 + 157), .int v] σ (oM B sd σ (rWhy A v, A)) := by
  have hM := hR.1
  refine MT.of (by decide) (Nat.le_of_ble_eq_true rfl) (fun g hg hr => ?_)
  refine y_iload_n hg dX3_why_0 rfl ?_
  refine y_i2l hg dX3_why_1 ?_
  refine y_lconst (v := 0) hg dX3_why_2 rfl ?_
  refine y_ldc2 hg dX3_why_3 q1099 ?_
  refine y_cSi hg (cM_in _ _ _) iX3_in q1052 rfl rfl (by simp [Value.category]) (Nat.le_refl _) (Nat.le_refl _) (by decide) dX3_why_6 (fun r σ1 hp => ?_)
  obtain ⟨rfl, rfl⟩ := hp
  refine y_if_ne hg 15 dX3_why_9 (by decide) (fun hc => ?_) (fun hc => ?_)
  · have h1 := b2T hc
    obtain ⟨n, hn, rfl⟩ := (inL_iff 3 rfl (by decide)).mp h1
    have eo : rWhy A (nI n) = whV (rs A) n := by unfold rWhy; rw [if_pos h1, nI_clamp (by omega)]
    rw [eo] at hr
    refine y_aload_n hg dX3_why_15 rfl ?_
    refine y_cVi hg (cM_reason hW hR) iX3_reason q1284 (hM.m) cf3 rfl rfl (by simp [Value.category]) (Nat.le_refl _) (Nat.le_refl _) (by decide) dX3_why_16 (fun r σ2 hp => ?_)
    obtain ⟨rfl, ⟨r1, r2, r3⟩, hw2⟩ := hp
    refine y_istore_n hg dX3_why_19 (by decide) (lv1 := [(0, _), (1, _), (2, _)]) rfl ?_
    have hM := hw2.1.1
    have h4 : n = 0 ∨ n = 1 ∨ n = 2 ∨ n = 3 := by omega
    rcases h4 with rfl | rfl | rfl | rfl
    · refine y_iload_n hg dX3_why_20 rfl ?_
      refine y_if_ne hg 28 dX3_why_21 (by decide) (fun hT => absurd hT (by decide)) (fun _ => ?_)
      refine y_iload_n hg dX3_why_24 rfl ?_
      refine y_goto hg 56 dX3_why_25 (by decide) ?_
      refine y_iret hg hr ⟨_, rfl, ?_⟩ dX3_why_56 (Nat.le_refl _) (Nat.le_refl _)
      exact ⟨rfl, hw2.fin⟩
    · refine y_iload_n hg dX3_why_20 rfl ?_
      refine y_if_ne hg 28 dX3_why_21 (by decide) (fun _ => ?_) (fun hF => absurd hF (by decide))
      refine y_iload_n hg dX3_why_28 rfl ?_
      refine y_iconst (v := nI 1) hg dX3_why_29 rfl ?_
      refine y_icmp_ne hg 40 dX3_why_30 (by decide) (fun hT => absurd hT (by decide)) (fun _ => ?_)
      refine y_aload_n hg dX3_why_33 rfl ?_
      refine y_geti (j := 41) hg cf3 (hM.m) (by decide) rfl q952 dX3_why_34 ?_
      refine y_goto hg 56 dX3_why_37 (by decide) ?_
      refine y_iret hg hr ⟨_, rfl, ?_⟩ dX3_why_56 (Nat.le_refl _) (Nat.le_refl _)
      exact ⟨r1, hw2.fin⟩
    · refine y_iload_n hg dX3_why_20 rfl ?_
      refine y_if_ne hg 28 dX3_why_21 (by decide) (fun _ => ?_) (fun hF => absurd hF (by decide))
      refine y_iload_n hg dX3_why_28 rfl ?_
      refine y_iconst (v := nI 1) hg dX3_why_29 rfl ?_
      refine y_icmp_ne hg 40 dX3_why_30 (by decide) (fun _ => ?_) (fun hF => absurd hF (by decide))
      refine y_iload_n hg dX3_why_40 rfl ?_
      refine y_iconst (v := nI 2) hg dX3_why_41 rfl ?_
      refine y_icmp_ne hg 52 dX3_why_42 (by decide) (fun hT => absurd hT (by decide)) (fun _ => ?_)
      refine y_aload_n hg dX3_why_45 rfl ?_
      refine y_geti (j := 42) hg cf3 (hM.m) (by decide) rfl q953 dX3_why_46 ?_
      refine y_goto hg 56 dX3_why_49 (by decide) ?_
      refine y_iret hg hr ⟨_, rfl, ?_⟩ dX3_why_56 (Nat.le_refl _) (Nat.le_refl _)
      exact ⟨r2, hw2.fin⟩
    · refine y_iload_n hg dX3_why_20 rfl ?_
      refine y_if_ne hg 28 dX3_why_21 (by decide) (fun _ => ?_) (fun hF => absurd hF (by decide))
      refine y_iload_n hg dX3_why_28 rfl ?_
      refine y_iconst (v := nI 1) hg dX3_why_29 rfl ?_
      refine y_icmp_ne hg 40 dX3_why_30 (by decide) (fun _ => ?_) (fun hF => absurd hF (by decide))
      refine y_iload_n hg dX3_why_40 rfl ?_
      refine y_iconst (v := nI 2) hg dX3_why_41 rfl ?_
      refine y_icmp_ne hg 52 dX3_why_42 (by decide) (fun _ => ?_) (fun hF => absurd hF (by decide))
      refine y_aload_n hg dX3_why_52 rfl ?_
      refine y_geti (j := 43) hg cf3 (hM.m) (by decide) rfl q954 dX3_why_53 ?_
      refine y_iret hg hr ⟨_, rfl, ?_⟩ dX3_why_56 (Nat.le_refl _) (Nat.le_refl _)
      exact ⟨r3, hw2.fin⟩
  · refine y_bipush (v := -2) hg dX3_why_12 rfl ?_
    refine y_iret hg hr ⟨_, rfl, ?_⟩ dX3_why_14 (Nat.le_refl _) (Nat.le_refl _)
    have eo : rWhy A v = -2 := by unfold rWhy; rw [if_neg (b2F hc)]
    exact ⟨eo.symm, hR, FrR.rf⟩
end ReasonM2

