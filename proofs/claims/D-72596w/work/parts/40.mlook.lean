section MLook
variable {ll : Launch} {B : Bs} {σ : Mem}
theorem LM.frR {P : Nat → Nat → Prop} {B : Bs} {σ σ' : Mem} (h : LM B σ) (hf : FrR P σ σ') : LM B σ' := h.fr hf.1
/-- the words as M has them -/
def WMm (σ : Mem) (P : Pb) : Prop := σ.2.2.1 157 2 = nI P.1 ∧ ∀ w, w < P.1 → σ.2.2.1 161 w = nI (P.2.2.1 w) ∧ ∀ x, x < 8 → σ.2.2.1 162 (8 * w + x) = nI (P.2.1 w x)
theorem WMm.fr {Q : Nat → Nat → Prop} {B : Bs} {σ σ' : Mem} {P : Pb} (hW : WMm σ P) (hM : LM B σ) (hf : Fr Q σ σ') (hq : ¬ Q 157 2 ∧ (∀ j, ¬ Q 161 j) ∧ ∀ j, ¬ Q 162 j) : WMm σ' P := by
  have hn := hM.n
  refine ⟨(hf.i (by omega) hq.1).trans hW.1, fun w hw => ⟨(hf.i (by omega) (hq.2.1 _)).trans (hW.2 w hw).1, fun x hx => (hf.i (by omega) (hq.2.2 _)).trans ((hW.2 w hw).2 x hx)⟩⟩
/-- M has looked at a problem -/
def PM (B : Bs) (σ : Mem) (P : Pb) : Prop := LM B σ ∧ WMm σ P ∧ (∀ j, j < 25 → σ.2.2.1 176 j = P.2.2.2.1 j) ∧ (∀ x, x < 9 → σ.2.2.1 177 x = nI (bs P.2.2.2.1 x)) ∧ σ.2.2.1 157 31 = nI (nS P - 1) ∧ (∀ w, w < P.1 → hasB (σ.2.2.1 157 32) (nI w) = P.2.2.2.2 w) ∧ (∀ w, w < P.1 → σ.2.2.1 178 w = nI (stp P w)) ∧ (∀ r w, r < nS P → w < P.1 → σ.2.2.1 183 (10 * r + w) = b2 (fitB P w r))
/-- what M's engine may write without harm to what was looked at -/
def EM : Nat → Nat → Prop := fun a j => a = 179 ∨ a = 180 ∨ a = 181 ∨ a = 182 ∨ a = 184 ∨ a = 185 ∨ a = 186 ∨ (a = 157 ∧ (j = 41 ∨ j = 42 ∨ j = 43))
theorem PM.fr {B : Bs} {σ σ' : Mem} {P : Pb} {Q : Nat → Nat → Prop} (h : PM B σ P) (hf : FrR Q σ σ') (hq : ∀ a j, Q a j → EM a j) : PM B σ' P := by
  obtain ⟨hM, hW, h1, h2, h3, h4, h5, h6⟩ := h
  have hn := hM.n
  have hf := hf.mono hq
  have e : ∀ a j, a < 187 → ¬ EM a j → σ'.2.2.1 a j = σ.2.2.1 a j := fun a j h1 h2 => hf.i (by omega) h2
  refine ⟨hM.frR hf, hW.fr hM hf.1 ⟨by unfold EM; omega, fun j => by unfold EM; omega, fun j => by unfold EM; omega⟩, fun j hj => (e _ _ (by omega) (by unfold EM; omega)).trans (h1 j hj), fun x hx => (e _ _ (by omega) (by unfold EM; omega)).trans (h2 x hx), (e _ _ (by omega) (by unfold EM; omega)).trans h3, fun w hw => ?_, fun w hw => (e _ _ (by omega) (by unfold EM; omega)).trans (h5 w hw), fun r w hr hw => (e _ _ (by omega) (by unfold EM; omega)).trans (h6 r w hr hw)⟩
  rw [e 157 32 (by omega) (by unfold EM; omega)]
  exact h4 w hw
/-- the places of look -/
def MkP : Nat → Nat → Prop := fun a j => (a = 157 ∧ (j = 31 ∨ j = 32)) ∨ a = 176 ∨ a = 177 ∨ a = 178 ∨ a = 183
theorem cM_look {kr : Nat} {P : Pb} (hM0 : LM B σ) (hkr : kr = 163 ∨ kr = 164) (hP : WFP P) (hW0 : WMm σ P) (hr0 : ∀ j, j < 25 → σ.2.2.1 kr j = P.2.2.2.1 j) (hu0 : ∀ w, w < P.1 → (!hasB (P.2.2.2.1 8) (nI w)) = P.2.2.2.2 w) :
    MT ll B 1 0 0 yX3_look cX3_look 6 none [.ref (B.1 + 157), .ref (B.1 + kr)] σ (pV fun σ' => PM B σ' P ∧ FrR MkP σ σ') := by
  have hn0 := hM0.n
  have hM := hM0
  have h10 := hP.1
  have hb8 := nS_le hP
  have hpos := nS_pos P
  have hA0 : KA σ kr 0 25 := by rcases hkr with e | e <;> subst e <;> first | exact hM0.k_now | exact hM0.k_trial
  have hA := hA0
  have hbg : ∀ x, x < 8 → σ.2.2.1 kr x = nI (bg P.2.2.2.1 x) := fun x hx => by rw [hr0 x (by omega), ← hP.2.2.1 x hx]
  refine MT.of (by decide) (Nat.le_of_ble_eq_true rfl) (fun g hg hr => ?_)
  refine y_aload_n hg dX3_look_0 rfl ?_
  refine y_aload_n hg dX3_look_1 rfl ?_
  refine y_getr (j := 29) hg cf3 (hM.m) (by decide) rfl (hM.r_open) q940 dX3_look_2 ?_
  refine y_cSv hg (cM_copy (k := 176) (o := kr) hM.k_open (by decide) hA (by decide) (by omega)) iX3_copy q1111 rfl rfl (by simp [Value.category]) (Nat.le_refl _) (Nat.le_refl _) (by decide) dX3_look_5 (fun σ1 hcp => ?_)
  obtain ⟨hfc, hcp⟩ := hcp
  have hM1 := hM0.frR hfc
  have hn1 := hM1.n
  have hop1 : ∀ j, j < 25 → σ1.2.2.1 176 j = P.2.2.2.1 j := fun j hj => by rw [hcp j, if_pos hj]; exact hr0 j hj
  have hM := hM1
  refine y_aload_n hg dX3_look_8 rfl ?_
  refine y_getr (j := 30) hg cf3 (hM.m) (by decide) rfl (hM.r_base) q941 dX3_look_9 ?_
  refine y_iconst (v := nI 0) hg dX3_look_12 rfl ?_
  refine y_iconst (v := nI 1) hg dX3_look_13 rfl ?_
  refine y_iast hg _ (hM.k_base) rfl (by omega) dX3_look_14 ?_
  refine y_iconst (v := nI 0) hg dX3_look_15 rfl ?_
  refine y_istore_n hg dX3_look_16 (by decide) (lv1 := [(0, _), (1, _), (2, _)]) rfl ?_
  refine (loop_st (S := Mem) (G := fun i s => YY g 6 s 0 0 17 [(0, .ref (B.1 + 157)), (1, .ref (B.1 + kr)), (2, .int (nI i))] []) (I := fun i s => FrR (fun a _ => a = 177) σ1 s ∧ ∀ y, y ≤ i → s.2.2.1 177 y = nI (bs P.2.2.2.1 y)) 8 (fun i s hi hI ih => ?_) (fun s hI => ?_) 0 _ (by decide) ⟨FrR.rf.stI rfl, fun y hy => by rw [show y = 0 by omega]; exact gI_s⟩)
  · obtain ⟨hf, h4⟩ := hI
    have hM := hM1.frR hf
    have hA := (hA0.fr hfc.1).fr hf.1
    have hbb : s.2.2.1 kr i = nI (bg P.2.2.2.1 i) := (hf.i (by omega) (by omega)).trans ((hfc.i (by omega) (by omega)).trans (hbg i hi))
    refine y_iload_n hg dX3_look_17 rfl ?_
    refine y_bipush (v := nI 8) hg dX3_look_18 rfl ?_
    refine y_icmp_ge hg 49 dX3_look_20 (by decide) (fun hT => absurd hT (ge_c hi (by decide))) (fun _ => ?_)
    refine y_aload_n hg dX3_look_23 rfl ?_
    refine y_getr (j := 30) hg cf3 (hM.m) (by decide) rfl (hM.r_base) q941 dX3_look_24 ?_
    refine y_iload_n hg dX3_look_27 rfl ?_
    refine y_iconst (v := nI 1) hg dX3_look_28 rfl ?_
    refine y_iadd hg dX3_look_29 ?_
    refine y_ti (nI_add _ _) ?_
    refine y_aload_n hg dX3_look_30 rfl ?_
    refine y_getr (j := 30) hg cf3 (hM.m) (by decide) rfl (hM.r_base) q941 dX3_look_31 ?_
    refine y_iload_n hg dX3_look_34 rfl ?_
    refine y_iald hg _ (hM.k_base) rfl (by omega) dX3_look_35 ?_
    refine y_ti (h4 i (Nat.le_refl _)) ?_
    refine y_aload_n hg dX3_look_36 rfl ?_
    refine y_iload_n hg dX3_look_37 rfl ?_
    refine y_iald hg _ (hA) rfl (by omega) dX3_look_38 ?_
    refine y_ti (hbb) ?_
    refine y_iconst (v := nI 1) hg dX3_look_39 rfl ?_
    refine y_iadd hg dX3_look_40 ?_
    refine y_ti (nI_add _ _) ?_
    refine y_imul hg dX3_look_41 ?_
    refine y_ti (pk_mul _ _) ?_
    refine y_iast hg _ (hM.k_base) rfl (by omega) dX3_look_42 ?_
    refine y_iinc hg dX3_look_43 rfl (inc1 _) (by decide) (lv1 := [(0, _), (1, _), (2, _)]) rfl ?_
    refine y_goto hg 17 dX3_look_46 (by decide) ?_
    refine ih _ ⟨hf.stI rfl, fun y hy => ?_⟩
    by_cases e : y = i + 1
    · subst e; exact gI_s
    · exact (gI_n (by omega)).trans (h4 y (by omega))
  obtain ⟨hf, h4⟩ := hI
  have hM2 := hM1.frR hf
  have hn2 := hM2.n
  have hM := hM2
  have h48 : s.2.2.1 177 8 = nI (nS P) := h4 8 (Nat.le_refl _)
  refine y_iload_n hg dX3_look_17 rfl ?_
  refine y_bipush (v := nI 8) hg dX3_look_18 rfl ?_
  refine y_icmp_ge hg 49 dX3_look_20 (by decide) (fun _ => ?_) (fun hF => absurd (le_c (Nat.le_refl 8) (by decide)) hF)
  refine y_aload_n hg dX3_look_49 rfl ?_
  refine y_aload_n hg dX3_look_50 rfl ?_
  refine y_getr (j := 30) hg cf3 (hM.m) (by decide) rfl (hM.r_base) q941 dX3_look_51 ?_
  refine y_bipush (v := nI 8) hg dX3_look_54 rfl ?_
  refine y_iald hg _ (hM.k_base) rfl (by omega) dX3_look_56 ?_
  refine y_ti (h48) ?_
  refine y_iconst (v := nI 1) hg dX3_look_57 rfl ?_
  refine y_isub hg dX3_look_58 ?_
  refine y_ti (pk_sub (by omega)) ?_
  refine y_puti (j := 31) hg cf3 (hM.m) (by decide) rfl rfl q942 dX3_look_59 ?_
  refine y_aload_n hg dX3_look_62 rfl ?_
  refine y_iconst (v := nI 0) hg dX3_look_63 rfl ?_
  refine y_puti (j := 32) hg cf3 (hM.m) (by decide) rfl rfl q943 dX3_look_64 ?_
  refine y_iconst (v := nI 0) hg dX3_look_67 rfl ?_
  refine y_istore_n hg dX3_look_68 (by decide) (lv1 := [(0, _), (1, _), (2, _)]) rfl ?_
  -- the state ahead of the words
  obtain ⟨t, ht⟩ : ∃ t : Mem, t = setI (setI s 157 31 (nI (nS P - 1))) 157 32 (nI 0) := ⟨_, rfl⟩
  have hft : FrR MkP σ t := by
    rw [ht]
    exact (((hfc.mono (fun a j h => by unfold MkP; omega)).tr (hf.mono (fun a j h => by unfold MkP; omega))).stI (by unfold MkP; omega)).stI (by unfold MkP; omega)
  have hMt := hM0.frR hft
  have hnt := hMt.n
  have hWt : WMm t P := hW0.fr hM0 hft.1 ⟨by unfold MkP; omega, fun j => by unfold MkP; omega, fun j => by unfold MkP; omega⟩
  have t1 : ∀ j, j < 25 → t.2.2.1 176 j = P.2.2.2.1 j := fun j hj => by rw [ht]; exact (gI_n (by omega)).trans ((gI_n (by omega)).trans ((hf.i (by omega) (by omega)).trans (hop1 j hj)))
  have t2 : ∀ x, x < 9 → t.2.2.1 177 x = nI (bs P.2.2.2.1 x) := fun x hx => by rw [ht]; exact (gI_n (by omega)).trans ((gI_n (by omega)).trans (h4 x (by omega)))
  have t3 : t.2.2.1 157 31 = nI (nS P - 1) := by rw [ht]; exact (gI_n (by omega)).trans gI_s
  have t4 : t.2.2.1 157 32 = 0 := by rw [ht]; exact gI_s
  have t5 : ∀ j, j < 25 → t.2.2.1 kr j = P.2.2.2.1 j := fun j hj => (hft.i (by omega) (by unfold MkP; omega)).trans (hr0 j hj)
  rw [← ht]
  clear ht h4 h48 hop1 hcp
  have hAt : KA t kr 0 25 := hA0.fr hft.1
  refine (loop_st (S := Mem) (G := fun w u => YY g 6 u 0 0 69 [(0, .ref (B.1 + 157)), (1, .ref (B.1 + kr)), (2, .int (nI w))] []) (I := fun w u => FrR (fun a j => (a = 157 ∧ j = 32) ∨ a = 178 ∨ a = 183) t u ∧ (∀ v, v < w → u.2.2.1 178 v = nI (stp P v)) ∧ (∀ v, v < 10 → hasB (u.2.2.1 157 32) (nI v) = (decide (v < w) && !hasB (P.2.2.2.1 8) (nI v))) ∧ (∀ r v, r < nS P → v < w → u.2.2.1 183 (10 * r + v) = b2 (fitB P v r))) P.1 (fun w u hw hI ih => ?_) (fun u hI => ?_) 0 t (Nat.zero_le _) ⟨FrR.rf, fun v hv => absurd hv (by omega), fun v hv => by rw [t4, hb_0 (by omega)]; rfl, fun r v hr hv => absurd hv (by omega)⟩)
  · obtain ⟨hfu, u1, u2, u3⟩ := hI
    -- what is left, one after another
    have SC : ∀ (z : Mem) (x3 : Int32), FrR (fun a j => (a = 157 ∧ j = 32) ∨ a = 178 ∨ a = 183) t z → (∀ v, v < w + 1 → z.2.2.1 178 v = nI (stp P v)) → (∀ v, v < 10 → hasB (z.2.2.1 157 32) (nI v) = (decide (v < w + 1) && !hasB (P.2.2.2.1 8) (nI v))) → (∀ r v, r < nS P → v < w → z.2.2.1 183 (10 * r + v) = b2 (fitB P v r)) → YY g 6 z 0 0 152 [(0, .ref (B.1 + 157)), (1, .ref (B.1 + kr)), (2, .int (nI w)), (3, .int x3)] [] := by
      intro z x3 hz z1 z2 z3
      refine y_iconst (v := nI 0) hg dX3_look_152 rfl ?_
      refine y_istore_n hg dX3_look_153 (by decide) (lv1 := [(0, _), (1, _), (2, _), (3, _)]) rfl ?_
      refine y_sub [0, 1, 2, 3] rfl ?_
      refine (loop_st (S := Mem) (G := fun r y => YY g 6 y 0 0 154 [(0, .ref (B.1 + 157)), (1, .ref (B.1 + kr)), (2, .int (nI w)), (3, .int (nI r))] []) (I := fun r y => FrR (fun a j => (a = 157 ∧ j = 32) ∨ a = 178 ∨ a = 183) t y ∧ (∀ v, v < w + 1 → y.2.2.1 178 v = nI (stp P v)) ∧ (∀ v, v < 10 → hasB (y.2.2.1 157 32) (nI v) = (decide (v < w + 1) && !hasB (P.2.2.2.1 8) (nI v))) ∧ (∀ r v, r < nS P → v < w → y.2.2.1 183 (10 * r + v) = b2 (fitB P v r)) ∧ ∀ q, q < r → y.2.2.1 183 (10 * q + w) = b2 (fitB P w q)) (nS P) (fun r y hr hI ih3 => ?_) (fun y hI => ?_) 0 z (Nat.zero_le _) ⟨hz, z1, z2, z3, fun q hq => absurd hq (by omega)⟩)
      · obtain ⟨hy, y1, y2, y3, y4⟩ := hI
        have hM := hMt.frR hy
        have hA := hAt.fr hy.1
        have yw : y.2.2.1 157 31 = nI (nS P - 1) := (hy.i (by omega) (by omega)).trans t3
        refine y_iload_n hg dX3_look_154 rfl ?_
        refine y_aload_n hg dX3_look_155 rfl ?_
        refine y_geti (j := 31) hg cf3 (hM.m) (by decide) rfl q942 dX3_look_156 ?_
        refine y_ti (yw) ?_
        refine y_icmp_gt hg 243 dX3_look_159 (by decide) (fun hT => absurd hT (nI_nlt (by omega) (by omega))) (fun _ => ?_)
        refine y_iconst (v := nI 1) hg dX3_look_162 rfl ?_
        refine y_istore hg dX3_look_163 (by decide) (lv1 := [(0, _), (1, _), (2, _), (3, _), (4, _)]) rfl ?_
        refine y_iconst (v := nI 0) hg dX3_look_165 rfl ?_
        refine y_istore hg dX3_look_166 (by decide) (lv1 := [(0, _), (1, _), (2, _), (3, _), (4, _), (5, _)]) rfl ?_
        refine (loop_up (G := fun x => YY g 6 y 0 0 168 [(0, .ref (B.1 + 157)), (1, .ref (B.1 + kr)), (2, .int (nI w)), (3, .int (nI r)), (4, .int (b2 (fo (fun x b => b && decide (P.2.1 w x ≤ dg P.2.2.2.1 r x)) true x))), (5, .int (nI x))] []) 8 (fun x hx ih4 => ?_) ?_ 0 (by decide))
        · have J : ∀ v : Int32, v = b2 (fo (fun x b => b && decide (P.2.1 w x ≤ dg P.2.2.2.1 r x)) true (x + 1)) → YY g 6 y 0 0 216 [(0, .ref (B.1 + 157)), (1, .ref (B.1 + kr)), (2, .int (nI w)), (3, .int (nI r)), (4, .int (b2 (fo (fun x b => b && decide (P.2.1 w x ≤ dg P.2.2.2.1 r x)) true x))), (5, .int (nI x))] [.int v] := by
            intro v hv
            subst hv
            refine y_istore hg dX3_look_216 (by decide) (lv1 := [(0, _), (1, _), (2, _), (3, _), (4, _), (5, _)]) rfl ?_
            refine y_iinc hg dX3_look_218 rfl (inc1 _) (by decide) (lv1 := [(0, _), (1, _), (2, _), (3, _), (4, _), (5, _)]) rfl ?_
            refine y_goto hg 168 dX3_look_221 (by decide) ?_
            exact ih4
          have hb0 := bs_pos P.2.2.2.1 x
          have hb1 := bs_lt hP (Nat.le_of_lt hx)
          have hg1 := bg_le hP hx
          have hnd := (hP.2.1 w hw).2.1 x hx
          have hdl := dg_le P.2.2.2.1 r x
          have hle : r / bs P.2.2.2.1 x ≤ r := Nat.div_le_self _ _
          have hd : nI r / nI (bs P.2.2.2.1 x) = nI (r / bs P.2.2.2.1 x) := pk_div (by omega) hb0 (by omega)
          have hbx : y.2.2.1 177 x = nI (bs P.2.2.2.1 x) := (hy.i (by omega) (by omega)).trans (t2 x (by omega))
          have hbag : y.2.2.1 kr x = nI (bg P.2.2.2.1 x) := (hy.i (by omega) (by omega)).trans ((t5 x (by omega)).trans (hP.2.2.1 x hx))
          have hnee : y.2.2.1 162 (8 * w + x) = nI (P.2.1 w x) := (hy.i (by omega) (by omega)).trans ((hWt.2 w hw).2 x hx)
          refine y_iload hg dX3_look_168 rfl ?_
          refine y_bipush (v := nI 8) hg dX3_look_170 rfl ?_
          refine y_icmp_ge hg 224 dX3_look_172 (by decide) (fun hT => absurd hT (ge_c hx (by decide))) (fun _ => ?_)
          refine y_iload hg dX3_look_175 rfl ?_
          refine y_if_eq hg 215 dX3_look_177 (by decide) (fun hc => ?_) (fun hc => ?_)
          · refine y_iconst (v := nI 0) hg dX3_look_215 rfl ?_
            refine J _ ?_
            rw [fit_step, (b2_eq _).mp hc, Bool.false_and]
            rfl
          · refine y_iload_n hg dX3_look_180 rfl ?_
            refine y_aload_n hg dX3_look_181 rfl ?_
            refine y_getr (j := 30) hg cf3 (hM.m) (by decide) rfl (hM.r_base) q941 dX3_look_182 ?_
            refine y_iload hg dX3_look_185 rfl ?_
            refine y_iald hg _ (hM.k_base) rfl (by omega) dX3_look_187 ?_
            refine y_ti (hbx) ?_
            refine y_idiv hg dX3_look_188 (nI_ne0 hb0 (by omega)) ?_
            refine y_ti (hd) ?_
            refine y_aload_n hg dX3_look_189 rfl ?_
            refine y_iload hg dX3_look_190 rfl ?_
            refine y_iald hg _ (hA) rfl (by omega) dX3_look_192 ?_
            refine y_ti (hbag) ?_
            refine y_iconst (v := nI 1) hg dX3_look_193 rfl ?_
            refine y_iadd hg dX3_look_194 ?_
            refine y_ti (nI_add _ _) ?_
            refine y_irem hg dX3_look_195 (nI_ne0 (by omega) (by omega)) ?_
            refine y_ti (pk_rem (by omega) (by omega) (by omega)) ?_
            refine y_aload_n hg dX3_look_196 rfl ?_
            refine y_getr (j := 6) hg cf3 (hM.m) (by decide) rfl (hM.r_need) q917 dX3_look_197 ?_
            refine y_bipush (v := nI 8) hg dX3_look_200 rfl ?_
            refine y_iload_n hg dX3_look_202 rfl ?_
            refine y_imul hg dX3_look_203 ?_
            refine y_ti (pk_mul _ _) ?_
            refine y_iload hg dX3_look_204 rfl ?_
            refine y_iadd hg dX3_look_206 ?_
            refine y_ti (nI_add _ _) ?_
            refine y_iald hg _ (hM.k_need) rfl (by omega) dX3_look_207 ?_
            refine y_ti (hnee) ?_
            refine y_icmp_lt hg 215 dX3_look_208 (by decide) (fun hc2 => ?_) (fun hc2 => ?_)
            · refine y_iconst (v := nI 0) hg dX3_look_215 rfl ?_
              refine J _ ?_
              have hlt : dg P.2.2.2.1 r x < P.2.1 w x := (nI_ltI (by show dg P.2.2.2.1 r x < _; omega) (by omega)).mp hc2
              rw [fit_step, decide_eq_false (by omega), Bool.and_false]
              rfl
            · refine y_iconst (v := nI 1) hg dX3_look_211 rfl ?_
              refine y_goto hg 216 dX3_look_212 (by decide) ?_
              refine J _ ?_
              have hge : ¬ dg P.2.2.2.1 r x < P.2.1 w x := fun h => hc2 ((nI_ltI (by show dg P.2.2.2.1 r x < _; omega) (by omega)).mpr h)
              rw [fit_step, decide_eq_true (by omega), Bool.and_true, (b2_ne _).mp hc]
              rfl
        · refine y_iload hg dX3_look_168 rfl ?_
          refine y_bipush (v := nI 8) hg dX3_look_170 rfl ?_
          refine y_icmp_ge hg 224 dX3_look_172 (by decide) (fun _ => ?_) (fun hF => absurd (le_c (Nat.le_refl 8) (by decide)) hF)
          refine y_aload_n hg dX3_look_224 rfl ?_
          refine y_getr (j := 38) hg cf3 (hM.m) (by decide) rfl (hM.r_fits) q949 dX3_look_225 ?_
          refine y_bipush (v := nI 10) hg dX3_look_228 rfl ?_
          refine y_iload_n hg dX3_look_230 rfl ?_
          refine y_imul hg dX3_look_231 ?_
          refine y_ti (pk_mul _ _) ?_
          refine y_iload_n hg dX3_look_232 rfl ?_
          refine y_iadd hg dX3_look_233 ?_
          refine y_ti (nI_add _ _) ?_
          refine y_iload hg dX3_look_234 rfl ?_
          refine y_zast hg _ (hM.k_fits) rfl (by omega) (nz_b2 _) dX3_look_236 ?_
          refine y_iinc hg dX3_look_237 rfl (inc1 _) (by decide) (lv1 := [(0, _), (1, _), (2, _), (3, _), (4, _), (5, _)]) rfl ?_
          refine y_goto hg 154 dX3_look_240 (by decide) ?_
          refine y_sub [0, 1, 2, 3] rfl (ih3 _ ⟨hy.stI (by omega), fun v hv => (gI_n (by omega)).trans (y1 v hv), fun v hv => by rw [gI_n (by omega)]; exact y2 v hv, fun q v hq hv => (gI_n (by omega)).trans (y3 q v hq hv), fun q hq => ?_⟩)
          by_cases e : q = r
          · subst e; exact gI_s
          · exact (gI_n (by omega)).trans (y4 q (by omega))
      · obtain ⟨hy, y1, y2, y3, y4⟩ := hI
        have hM := hMt.frR hy
        have yw : y.2.2.1 157 31 = nI (nS P - 1) := (hy.i (by omega) (by omega)).trans t3
        refine y_iload_n hg dX3_look_154 rfl ?_
        refine y_aload_n hg dX3_look_155 rfl ?_
        refine y_geti (j := 31) hg cf3 (hM.m) (by decide) rfl q942 dX3_look_156 ?_
        refine y_ti (yw) ?_
        refine y_icmp_gt hg 243 dX3_look_159 (by decide) (fun _ => ?_) (fun hF => absurd (nI_lt (by omega) (by omega)) hF)
        refine y_iinc hg dX3_look_243 rfl (inc1 _) (by decide) (lv1 := [(0, _), (1, _), (2, _), (3, _)]) rfl ?_
        refine y_goto hg 69 dX3_look_246 (by decide) ?_
        refine y_sub [0, 1, 2] rfl (ih _ ⟨hy, y1, y2, fun q v hq hv => ?_⟩)
        by_cases e : v = w
        · subst e; exact y4 q hq
        · exact y3 q v hq (by omega)
    -- the price of the word
    have SB : ∀ (z : Mem), FrR (fun a j => (a = 157 ∧ j = 32) ∨ a = 178 ∨ a = 183) t z → (∀ v, v < w → z.2.2.1 178 v = nI (stp P v)) → (∀ v, v < 10 → hasB (z.2.2.1 157 32) (nI v) = (decide (v < w + 1) && !hasB (P.2.2.2.1 8) (nI v))) → (∀ r v, r < nS P → v < w → z.2.2.1 183 (10 * r + v) = b2 (fitB P v r)) → YY g 6 z 0 0 104 [(0, .ref (B.1 + 157)), (1, .ref (B.1 + kr)), (2, .int (nI w))] [] := by
      intro z hz z1 z2 z3
      have hM := hMt.frR hz
      refine y_aload_n hg dX3_look_104 rfl ?_
      refine y_getr (j := 33) hg cf3 (hM.m) (by decide) rfl (hM.r_price) q944 dX3_look_105 ?_
      refine y_iload_n hg dX3_look_108 rfl ?_
      refine y_iconst (v := nI 0) hg dX3_look_109 rfl ?_
      refine y_iast hg _ (hM.k_price) rfl (by omega) dX3_look_110 ?_
      refine y_iconst (v := nI 0) hg dX3_look_111 rfl ?_
      refine y_istore_n hg dX3_look_112 (by decide) (lv1 := [(0, _), (1, _), (2, _), (3, _)]) rfl ?_
      refine (loop_st (S := Mem) (G := fun x y => YY g 6 y 0 0 113 [(0, .ref (B.1 + 157)), (1, .ref (B.1 + kr)), (2, .int (nI w)), (3, .int (nI x))] []) (I := fun x y => FrR (fun a j => (a = 157 ∧ j = 32) ∨ a = 178 ∨ a = 183) t y ∧ (∀ v, v < w → y.2.2.1 178 v = nI (stp P v)) ∧ (∀ v, v < 10 → hasB (y.2.2.1 157 32) (nI v) = (decide (v < w + 1) && !hasB (P.2.2.2.1 8) (nI v))) ∧ (∀ r v, r < nS P → v < w → y.2.2.1 183 (10 * r + v) = b2 (fitB P v r)) ∧ y.2.2.1 178 w = nI (va P.2.2.2.1 (P.2.1 w) x)) 8 (fun x y hx hI ih3 => ?_) (fun y hI => ?_) 0 _ (Nat.zero_le _) ⟨hz.stI (by omega), fun v hv => (gI_n (by omega)).trans (z1 v hv), fun v hv => by rw [gI_n (by omega)]; exact z2 v hv, fun q v hq hv => (gI_n (by omega)).trans (z3 q v hq hv), gI_s⟩)
      · obtain ⟨hy, y1, y2, y3, y4⟩ := hI
        have hM := hMt.frR hy
        have hbx : y.2.2.1 177 x = nI (bs P.2.2.2.1 x) := (hy.i (by omega) (by omega)).trans (t2 x (by omega))
        have hnee : y.2.2.1 162 (8 * w + x) = nI (P.2.1 w x) := (hy.i (by omega) (by omega)).trans ((hWt.2 w hw).2 x hx)
        refine y_iload_n hg dX3_look_113 rfl ?_
        refine y_bipush (v := nI 8) hg dX3_look_114 rfl ?_
        refine y_icmp_ge hg 152 dX3_look_116 (by decide) (fun hT => absurd hT (ge_c hx (by decide))) (fun _ => ?_)
        refine y_aload_n hg dX3_look_119 rfl ?_
        refine y_getr (j := 33) hg cf3 (hM.m) (by decide) rfl (hM.r_price) q944 dX3_look_120 ?_
        refine y_iload_n hg dX3_look_123 rfl ?_
        refine y_dup2 hg dX3_look_124 rfl rfl ?_
        refine y_iald hg _ (hM.k_price) rfl (by omega) dX3_look_125 ?_
        refine y_ti (y4) ?_
        refine y_aload_n hg dX3_look_126 rfl ?_
        refine y_getr (j := 30) hg cf3 (hM.m) (by decide) rfl (hM.r_base) q941 dX3_look_127 ?_
        refine y_iload_n hg dX3_look_130 rfl ?_
        refine y_iald hg _ (hM.k_base) rfl (by omega) dX3_look_131 ?_
        refine y_ti (hbx) ?_
        refine y_aload_n hg dX3_look_132 rfl ?_
        refine y_getr (j := 6) hg cf3 (hM.m) (by decide) rfl (hM.r_need) q917 dX3_look_133 ?_
        refine y_bipush (v := nI 8) hg dX3_look_136 rfl ?_
        refine y_iload_n hg dX3_look_138 rfl ?_
        refine y_imul hg dX3_look_139 ?_
        refine y_ti (pk_mul _ _) ?_
        refine y_iload_n hg dX3_look_140 rfl ?_
        refine y_iadd hg dX3_look_141 ?_
        refine y_ti (nI_add _ _) ?_
        refine y_iald hg _ (hM.k_need) rfl (by omega) dX3_look_142 ?_
        refine y_ti (hnee) ?_
        refine y_imul hg dX3_look_143 ?_
        refine y_ti (pk_mul _ _) ?_
        refine y_iadd hg dX3_look_144 ?_
        refine y_ti (nI_add _ _) ?_
        refine y_iast hg _ (hM.k_price) rfl (by omega) dX3_look_145 ?_
        refine y_iinc hg dX3_look_146 rfl (inc1 _) (by decide) (lv1 := [(0, _), (1, _), (2, _), (3, _)]) rfl ?_
        refine y_goto hg 113 dX3_look_149 (by decide) ?_
        refine ih3 _ ⟨hy.stI (by omega), fun v hv => (gI_n (by omega)).trans (y1 v hv), fun v hv => by rw [gI_n (by omega)]; exact y2 v hv, fun q v hq hv => (gI_n (by omega)).trans (y3 q v hq hv), gI_s.trans ?_⟩
        show nI (va P.2.2.2.1 (P.2.1 w) x + bs P.2.2.2.1 x * P.2.1 w x) = nI (va P.2.2.2.1 (P.2.1 w) x + P.2.1 w x * bs P.2.2.2.1 x)
        rw [Nat.mul_comm]
      · obtain ⟨hy, y1, y2, y3, y4⟩ := hI
        have hM := hMt.frR hy
        refine y_iload_n hg dX3_look_113 rfl ?_
        refine y_bipush (v := nI 8) hg dX3_look_114 rfl ?_
        refine y_icmp_ge hg 152 dX3_look_116 (by decide) (fun _ => ?_) (fun hF => absurd (le_c (Nat.le_refl 8) (by decide)) hF)
        refine SC y _ hy (fun v hv => ?_) y2 y3
        by_cases e : v = w
        · subst e; exact y4
        · exact y1 v (by omega)
    -- whether it is allowed
    have hM := hMt.frR hfu
    have hA := hAt.fr hfu.1
    have hmany : u.2.2.1 157 2 = nI P.1 := (hfu.i (by omega) (by omega)).trans hWt.1
    have h8 : u.2.2.1 kr 8 = P.2.2.2.1 8 := (hfu.i (by omega) (by omega)).trans (t5 8 (by omega))
    have J : ∀ v : Int32, v = (if hasB (P.2.2.2.1 8) (nI w) = true then 0 else nI 1 <<< (nI w &&& 31)) → YY g 6 u 0 0 100 [(0, .ref (B.1 + 157)), (1, .ref (B.1 + kr)), (2, .int (nI w))] [.int v, .int (u.2.2.1 157 32), .ref (B.1 + 157)] := by
      intro v hv
      refine y_ior hg dX3_look_100 ?_
      refine y_puti (j := 32) hg cf3 (hM.m) (by decide) rfl rfl q943 dX3_look_101 ?_
      refine SB _ (hfu.stI (by omega)) (fun v hv => (gI_n (by omega)).trans (u1 v hv)) (fun x hx => ?_) (fun q v hq hv => (gI_n (by omega)).trans (u3 q v hq hv))
      rw [gI_s, hb_or (by omega), u2 x hx, hv]
      by_cases hh : hasB (P.2.2.2.1 8) (nI w) = true
      · rw [if_pos hh, hb_0 (by omega), Bool.or_false]
        by_cases e : x = w
        · subst e; rw [hh]; simp
        · congr 1
          exact decide_eq_decide.mpr (by omega)
      · rw [if_neg hh, hb_sh (by omega) (by omega)]
        by_cases e : x = w
        · subst e
          have : hasB (P.2.2.2.1 8) (nI x) = false := by cases h9 : hasB (P.2.2.2.1 8) (nI x) <;> simp_all
          rw [this]; simp
        · rw [decide_eq_false e, Bool.or_false]
          congr 1
          exact decide_eq_decide.mpr (by omega)
    refine y_iload_n hg dX3_look_69 rfl ?_
    refine y_aload_n hg dX3_look_70 rfl ?_
    refine y_geti (j := 2) hg cf3 (hM.m) (by decide) rfl q913 dX3_look_71 ?_
    refine y_ti (hmany) ?_
    refine y_icmp_ge hg 249 dX3_look_74 (by decide) (fun hT => absurd hT (ge_c hw (by omega))) (fun _ => ?_)
    refine y_aload_n hg dX3_look_77 rfl ?_
    refine y_dup hg dX3_look_78 rfl ?_
    refine y_geti (j := 32) hg cf3 (hM.m) (by decide) rfl q943 dX3_look_79 ?_
    refine y_aload_n hg dX3_look_82 rfl ?_
    refine y_bipush (v := nI 8) hg dX3_look_83 rfl ?_
    refine y_iald hg _ (hA) rfl (by omega) dX3_look_85 ?_
    refine y_ti (h8) ?_
    refine y_iload_n hg dX3_look_86 rfl ?_
    refine y_cSi hg (cM_has _ _) iX3_has q1100 rfl rfl (by simp [Value.category]) (Nat.le_refl _) (Nat.le_refl _) (by decide) dX3_look_87 (fun r σ1 hp => ?_)
    obtain ⟨rfl, rfl⟩ := hp
    refine y_if_eq hg 97 dX3_look_90 (by decide) (fun hc => ?_) (fun hc => ?_)
    · refine y_iconst (v := nI 1) hg dX3_look_97 rfl ?_
      refine y_iload_n hg dX3_look_98 rfl ?_
      refine y_ishl hg dX3_look_99 ?_
      refine J _ ?_
      rw [if_neg (by rw [(b2_eq _).mp hc]; decide)]
    · refine y_iconst (v := nI 0) hg dX3_look_93 rfl ?_
      refine y_goto hg 100 dX3_look_94 (by decide) ?_
      refine J _ ?_
      rw [if_pos ((b2_ne _).mp hc)]
      rfl
  obtain ⟨hfu, u1, u2, u3⟩ := hI
  have hM := hMt.frR hfu
  have hmany : u.2.2.1 157 2 = nI P.1 := (hfu.i (by omega) (by omega)).trans hWt.1
  refine y_iload_n hg dX3_look_69 rfl ?_
  refine y_aload_n hg dX3_look_70 rfl ?_
  refine y_geti (j := 2) hg cf3 (hM.m) (by decide) rfl q913 dX3_look_71 ?_
  refine y_ti (hmany) ?_
  refine y_icmp_ge hg 249 dX3_look_74 (by decide) (fun _ => ?_) (fun hF => absurd (le_c (Nat.le_refl _) (by omega)) hF)
  refine y_vret hg hr ⟨rfl, ?_⟩ dX3_look_249 (Nat.le_refl _) (Nat.le_refl _)
  refine ⟨⟨hM, hWt.fr hMt hfu.1 ⟨by omega, fun j => by omega, fun j => by omega⟩, fun j hj => (hfu.i (by omega) (by omega)).trans (t1 j hj), fun x hx => (hfu.i (by omega) (by omega)).trans (t2 x hx), (hfu.i (by omega) (by omega)).trans t3, fun w hw => ?_, u1, u3⟩, hft.tr (hfu.mono (fun a j h => by unfold MkP; omega))⟩
  rw [u2 w (by omega), decide_eq_true hw, Bool.true_and]
  exact hu0 w hw
end MLook

