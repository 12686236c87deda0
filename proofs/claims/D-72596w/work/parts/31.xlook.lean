section XLook
variable {ll : Launch} {B : Bs} {σ : Mem}
theorem LX.n {B : Bs} {σ : Mem} (h : LX B σ) : 156 < σ.2.1 := (h.w_readWords (i := 9) (by decide)).k_has.2.1
theorem LM.n {B : Bs} {σ : Mem} (h : LM B σ) : 186 < σ.2.1 := h.k_worth.2.1
theorem LX.frR {P : Nat → Nat → Prop} {B : Bs} {σ σ' : Mem} (h : LX B σ) (hf : FrR P σ σ') : LX B σ' := h.fr hf.1
/-- a setting's row, whose places have not changed -/
theorem ro_fr {P : Nat → Nat → Prop} {σ σ' : Mem} {B : Bs} {k : Nat} (hf : Fr P σ σ') (hT : IsS B σ k) (hn : ∀ a j, k ≤ a → a ≤ k + 3 → ¬ P a j) (j : Nat) : rowOf σ' k j = rowOf σ k j := by
  have h0 := hT.o.2
  have h1 := hT.k_bag.2.1
  have h2 := hT.k_ranks.2.1
  have h3 := hT.k_follows.2.1
  unfold rowOf
  rw [hf.i h1 (hn _ _ (by omega) (by omega)), hf.i h0 (hn _ _ (by omega) (by omega)), hf.i h2 (hn _ _ (by omega) (by omega)), hf.i h0 (hn _ _ (by omega) (by omega)), hf.i h0 (hn _ _ (by omega) (by omega)), hf.i h3 (hn _ _ (by omega) (by omega))]
/-- the words as X has them -/
def WXm (σ : Mem) (P : Pb) : Prop := σ.2.2.1 0 1 = nI P.1 ∧ ∀ w, w < P.1 → σ.2.2.1 (97 + 6 * w) 2 = nI (P.2.2.1 w) ∧ ∀ x, x < 8 → σ.2.2.1 (97 + 6 * w + 2) x = nI (P.2.1 w x)
theorem WXm.fr {Q : Nat → Nat → Prop} {B : Bs} {σ σ' : Mem} {P : Pb} (hW : WXm σ P) (hP : WFP P) (hL : LX B σ) (hf : Fr Q σ σ') (hq : ¬ Q 0 1 ∧ ∀ a j, 97 ≤ a → ¬ Q a j) : WXm σ' P := by
  refine ⟨(hf.i hL.x.2 hq.1).trans hW.1, fun w hw => ?_⟩
  have hw' := hL.w_words (i := w) (by have := hP.1; omega)
  refine ⟨(hf.i hw'.o.2 (hq.2 _ _ (by omega))).trans (hW.2 w hw).1, fun x hx => (hf.i hw'.k_has.2.1 (hq.2 _ _ (by omega))).trans ((hW.2 w hw).2 x hx)⟩
/-- X has looked at a problem, at the setting ko -/
def PX (B : Bs) (σ : Mem) (P : Pb) (ko : Nat) : Prop := LX B σ ∧ IsS B σ ko ∧ σ.2.2.2.2 0 4 = some (B.1 + ko) ∧ WXm σ P ∧ (∀ j, j < 25 → rowOf σ ko j = P.2.2.2.1 j) ∧ (∀ w, w < P.1 → hasB (σ.2.2.1 0 5) (nI w) = P.2.2.2.2 w) ∧ (∀ x, x < 8 → σ.2.2.1 10 x = nI (bs P.2.2.2.1 x)) ∧ σ.2.2.1 0 11 = nI (nS P) ∧ (∀ w, w < P.1 → σ.2.2.1 14 w = nI (stp P w)) ∧ (ko = 2 ∨ ko = 6)
/-- what the engine may write without harm to what was looked at -/
def EP : Nat → Nat → Prop := fun a j => a = 12 ∨ a = 13 ∨ a = 15 ∨ a = 16 ∨ a = 17 ∨ a = 86 ∨ (a = 0 ∧ j = 13)
theorem PX.fr {B : Bs} {σ σ' : Mem} {P : Pb} {ko : Nat} (h : PX B σ P ko) (hP : WFP P) (hf : Fr EP σ σ') (h4 : σ'.2.2.2.2 0 4 = σ.2.2.2.2 0 4) : PX B σ' P ko := by
  obtain ⟨hL, hS, hO, hW, hr, hu, hb, hs, hst, hk⟩ := h
  have hn := hL.n
  have e : ∀ a j, a < 157 → ¬ EP a j → σ'.2.2.1 a j = σ.2.2.1 a j := fun a j h1 h2 => hf.i (by omega) h2
  refine ⟨hL.fr hf, hS.fr hf (by omega), h4.trans hO, hW.fr hP hL hf ⟨by unfold EP; omega, fun a j h => by unfold EP; omega⟩, fun j hj => (ro_fr hf hS (fun a j h1 h2 => by unfold EP; omega) j).trans (hr j hj), fun w hw => ?_, fun x hx => (e _ _ (by omega) (by unfold EP; omega)).trans (hb x hx), (e _ _ (by omega) (by unfold EP; omega)).trans hs, fun w hw => (e _ _ (by omega) (by unfold EP; omega)).trans (hst w hw), hk⟩
  rw [e 0 5 (by omega) (by unfold EP; omega)]
  exact hu w hw
/-- nothing is known yet of any number -/
def MC (σ : Mem) (P : Pb) : Prop := ∀ r k, r < nS P → k < 5 → σ.2.2.2.1 12 (5 * r + k) = -9 ∨ σ.2.2.2.1 12 (5 * r + k) = lN (cnt P r k)
def MW0 (σ : Mem) (P : Pb) : Prop := ∀ q, q < 5 * nS P → σ.2.2.1 13 q = -101
/-- the places of look -/
def LkP : Nat → Nat → Prop := fun a j => (a = 0 ∧ (j = 5 ∨ j = 11)) ∨ a = 10 ∨ a = 12 ∨ a = 13 ∨ a = 14
theorem cX_look {ks : Nat} {P : Pb} {some_ : Int32} (hL0 : LX B σ) (hS0 : IsS B σ ks) (hks : ks = 2 ∨ ks = 6) (hP : WFP P) (hW0 : WXm σ P) (hr0 : ∀ j, j < 25 → rowOf σ ks j = P.2.2.2.1 j) (hu0 : ∀ w, w < P.1 → hasB some_ (nI w) = P.2.2.2.2 w) :
    MT ll B 0 0 0 yX0_look_2 cX0_look_2 5 none [.ref (B.1 + 0), .ref (B.1 + ks), .int some_] σ (pV fun σ' => PX B σ' P ks ∧ MC σ' P ∧ MW0 σ' P ∧ Fr LkP σ σ' ∧ σ'.2.2.2.2 0 14 = σ.2.2.2.2 0 14 ∧ σ'.2.2.2.2 0 15 = σ.2.2.2.2 0 15) := by
  have hn0 := hL0.n
  have hS := hS0
  have hL := hL0
  have h10 := hP.1
  have hb8 := nS_le hP
  have hbg : ∀ x, x < 8 → σ.2.2.1 (ks + 1) x = nI (bg P.2.2.2.1 x) := fun x hx => by rw [← ro_bag hx, hr0 x (by omega), ← hP.2.2.1 x hx]
  refine MT.of (by decide) (Nat.le_of_ble_eq_true rfl) (fun g hg hr => ?_)
  refine y_aload_n hg dX0_look_2_0 rfl ?_
  refine y_aload_n hg dX0_look_2_1 rfl ?_
  refine y_putr (j := 4) hg cf0 (hL.x) (by decide) rfl rfl q176 dX0_look_2_2 ?_
  refine y_aload_n hg dX0_look_2_5 rfl ?_
  refine y_iload_n hg dX0_look_2_6 rfl ?_
  refine y_puti (j := 5) hg cf0 (hL.x) (by decide) rfl rfl q177 dX0_look_2_7 ?_
  refine y_aload_n hg dX0_look_2_10 rfl ?_
  refine y_iconst (v := nI 1) hg dX0_look_2_11 rfl ?_
  refine y_puti (j := 11) hg cf0 (hL.x) (by decide) rfl rfl q183 dX0_look_2_12 ?_
  refine y_iconst (v := nI 0) hg dX0_look_2_15 rfl ?_
  refine y_istore_n hg dX0_look_2_16 (by decide) (lv1 := [(0, _), (1, _), (2, _), (3, _)]) rfl ?_
  -- the bases
  refine (loop_st (S := Mem) (G := fun i s => YY g 5 s 0 0 17 [(0, .ref (B.1 + 0)), (1, .ref (B.1 + ks)), (2, .int some_), (3, .int (nI i))] []) (I := fun i s => Fr LkP σ s ∧ (s.2.2.2.2 0 4 = some (B.1 + ks) ∧ s.2.2.2.2 0 14 = σ.2.2.2.2 0 14 ∧ s.2.2.2.2 0 15 = σ.2.2.2.2 0 15) ∧ s.2.2.1 0 5 = some_ ∧ s.2.2.1 0 11 = nI (bs P.2.2.2.1 i) ∧ ∀ y, y < i → s.2.2.1 10 y = nI (bs P.2.2.2.1 y)) 8 (fun i s hi hI ih => ?_) (fun s hI => ?_) 0 _ (by decide) ⟨Fr.stI (Fr.stI (Fr.stR Fr.rf (Or.inl rfl)) (Or.inl ⟨rfl, Or.inl rfl⟩)) (Or.inl ⟨rfl, Or.inr rfl⟩), ⟨rfl, rfl, rfl⟩, rfl, rfl, fun y hy => absurd hy (by omega)⟩)
  · obtain ⟨hf, h1, h2, h3, h4⟩ := hI
    have hL := hL0.fr hf
    have hS := hS0.fr hf (by omega)
    have hbb : s.2.2.1 (ks + 1) i = nI (bg P.2.2.2.1 i) := (hf.i hS0.k_bag.2.1 (by unfold LkP; omega)).trans (hbg i hi)
    refine y_iload_n hg dX0_look_2_17 rfl ?_
    refine y_bipush (v := nI 8) hg dX0_look_2_18 rfl ?_
    refine y_icmp_ge hg 56 dX0_look_2_20 (by decide) (fun hT => absurd hT (ge_c hi (by decide))) (fun _ => ?_)
    refine y_aload_n hg dX0_look_2_23 rfl ?_
    refine y_getr (j := 6) hg cf0 (hL.x) (by decide) rfl (hL.r_base) q178 dX0_look_2_24 ?_
    refine y_iload_n hg dX0_look_2_27 rfl ?_
    refine y_aload_n hg dX0_look_2_28 rfl ?_
    refine y_geti (j := 11) hg cf0 (hL.x) (by decide) rfl q183 dX0_look_2_29 ?_
    refine y_ti h3 ?_
    refine y_iast hg _ (hL.k_base) rfl (by omega) dX0_look_2_32 ?_
    refine y_aload_n hg dX0_look_2_33 rfl ?_
    refine y_dup hg dX0_look_2_34 rfl ?_
    refine y_geti (j := 11) hg cf0 (hL.x) (by decide) rfl q183 dX0_look_2_35 ?_
    refine y_ti (show _ = nI (bs P.2.2.2.1 i) from (gI_n (by omega)).trans h3) ?_
    refine y_aload_n hg dX0_look_2_38 rfl ?_
    refine y_getrN (j := 0) hg cf1 (hS.o) (by decide) rfl (hS.r_bag) nf0 dX0_look_2_39 ?_
    refine y_iload_n hg dX0_look_2_42 rfl ?_
    refine y_iald hg _ (hS.k_bag) rfl (by omega) dX0_look_2_43 ?_
    refine y_ti ((gI_n (by omega)).trans hbb) ?_
    refine y_iconst (v := nI 1) hg dX0_look_2_44 rfl ?_
    refine y_iadd hg dX0_look_2_45 ?_
    refine y_ti (nI_add _ _) ?_
    refine y_imul hg dX0_look_2_46 ?_
    refine y_ti (pk_mul _ _) ?_
    refine y_puti (j := 11) hg cf0 (hL.x) (by decide) rfl rfl q183 dX0_look_2_47 ?_
    refine y_iinc hg dX0_look_2_50 rfl (inc1 _) (by decide) (lv1 := [(0, _), (1, _), (2, _), (3, _)]) rfl ?_
    refine y_goto hg 17 dX0_look_2_53 (by decide) ?_
    refine ih _ ⟨(hf.stI (by unfold LkP; omega)).stI (by unfold LkP; omega), h1, (gI_n (by omega)).trans ((gI_n (by omega)).trans h2), gI_s, fun y hy => ?_⟩
    refine (gI_n (by omega)).trans ?_
    by_cases e : y = i
    · subst e; exact gI_s
    · exact (gI_n (by omega)).trans (h4 y (by omega))
  obtain ⟨hf, h1, h2, h3, h4⟩ := hI
  have h3 : s.2.2.1 0 11 = nI (nS P) := h3
  have hL1 := hL0.fr hf
  have hL := hL1
  refine y_iload_n hg dX0_look_2_17 rfl ?_
  refine y_bipush (v := nI 8) hg dX0_look_2_18 rfl ?_
  refine y_icmp_ge hg 56 dX0_look_2_20 (by decide) (fun _ => ?_) (fun hF => absurd (le_c (Nat.le_refl 8) (by decide)) hF)
  refine y_iconst (v := nI 0) hg dX0_look_2_56 rfl ?_
  refine y_istore_n hg dX0_look_2_57 (by decide) (lv1 := [(0, _), (1, _), (2, _), (3, _)]) rfl ?_
  -- nothing is known
  refine (loop_st (S := Mem) (G := fun i t => YY g 5 t 0 0 58 [(0, .ref (B.1 + 0)), (1, .ref (B.1 + ks)), (2, .int some_), (3, .int (nI i))] []) (I := fun i t => FrR (fun a _ => a = 12 ∨ a = 13) s t ∧ ∀ q, q < i → t.2.2.2.1 12 q = -9 ∧ t.2.2.1 13 q = -101) (nS P * 5) (fun i t hi hI ih => ?_) (fun t hI => ?_) 0 _ (Nat.zero_le _) ⟨FrR.rf, fun q hq => absurd hq (by omega)⟩)
  · obtain ⟨hf2, h5⟩ := hI
    have hL := hL1.frR hf2
    have h3' : t.2.2.1 0 11 = nI (nS P) := (hf2.i hL1.x.2 (by omega)).trans h3
    refine y_iload_n hg dX0_look_2_58 rfl ?_
    refine y_aload_n hg dX0_look_2_59 rfl ?_
    refine y_geti (j := 11) hg cf0 (hL.x) (by decide) rfl q183 dX0_look_2_60 ?_
    refine y_ti h3' ?_
    refine y_iconst (v := nI 5) hg dX0_look_2_63 rfl ?_
    refine y_imul hg dX0_look_2_64 ?_
    refine y_ti (pk_mul _ _) ?_
    refine y_icmp_ge hg 91 dX0_look_2_65 (by decide) (fun hT => absurd hT (ge_c hi (by omega))) (fun _ => ?_)
    refine y_aload_n hg dX0_look_2_68 rfl ?_
    refine y_getr (j := 8) hg cf0 (hL.x) (by decide) rfl (hL.r_counts) q180 dX0_look_2_69 ?_
    refine y_iload_n hg dX0_look_2_72 rfl ?_
    refine y_ldc2 hg dX0_look_2_73 q380 ?_
    refine y_last hg _ (hL.k_counts) rfl (by omega) dX0_look_2_76 ?_
    refine y_aload_n hg dX0_look_2_77 rfl ?_
    refine y_getr (j := 9) hg cf0 (hL.x) (by decide) rfl (hL.r_worths) q181 dX0_look_2_78 ?_
    refine y_iload_n hg dX0_look_2_81 rfl ?_
    refine y_bipush (v := -101) hg dX0_look_2_82 rfl ?_
    refine y_iast hg _ (hL.k_worths) rfl (by omega) dX0_look_2_84 ?_
    refine y_iinc hg dX0_look_2_85 rfl (inc1 _) (by decide) (lv1 := [(0, _), (1, _), (2, _), (3, _)]) rfl ?_
    refine y_goto hg 58 dX0_look_2_88 (by decide) ?_
    refine ih _ ⟨(hf2.stL (Or.inl rfl)).stI (Or.inr rfl), fun q hq => ?_⟩
    by_cases e : q = i
    · subst e; exact ⟨gIL.trans gL_s, gI_s⟩
    · exact ⟨gIL.trans ((gL_n (by omega)).trans (h5 q (by omega)).1), (gI_n (by omega)).trans (gLI.trans (h5 q (by omega)).2)⟩
  obtain ⟨hf2, h5⟩ := hI
  have hL2 := hL1.frR hf2
  have hL := hL2
  have h3' : t.2.2.1 0 11 = nI (nS P) := (hf2.i hL1.x.2 (by omega)).trans h3
  have hn1 := hL1.n
  have hn2 := hL2.n
  have hWt : WXm t P := (hW0.fr hP hL0 hf ⟨by unfold LkP; omega, fun a j h => by unfold LkP; omega⟩).fr hP hL1 hf2.1 ⟨by omega, fun a j h => by omega⟩
  have h4t : ∀ y, y < 8 → t.2.2.1 10 y = nI (bs P.2.2.2.1 y) := fun y hy => (hf2.i (by omega) (by omega)).trans (h4 y hy)
  refine y_iload_n hg dX0_look_2_58 rfl ?_
  refine y_aload_n hg dX0_look_2_59 rfl ?_
  refine y_geti (j := 11) hg cf0 (hL.x) (by decide) rfl q183 dX0_look_2_60 ?_
  refine y_ti h3' ?_
  refine y_iconst (v := nI 5) hg dX0_look_2_63 rfl ?_
  refine y_imul hg dX0_look_2_64 ?_
  refine y_ti (pk_mul _ _) ?_
  refine y_icmp_ge hg 91 dX0_look_2_65 (by decide) (fun _ => ?_) (fun hF => absurd (le_c (Nat.le_refl _) (by omega)) hF)
  refine y_iconst (v := nI 0) hg dX0_look_2_91 rfl ?_
  refine y_istore_n hg dX0_look_2_92 (by decide) (lv1 := [(0, _), (1, _), (2, _), (3, _)]) rfl ?_
  -- what each word takes
  refine (loop_st (S := Mem) (G := fun i u => YY g 5 u 0 0 93 [(0, .ref (B.1 + 0)), (1, .ref (B.1 + ks)), (2, .int some_), (3, .int (nI i))] []) (I := fun i u => FrR (fun a _ => a = 14) t u ∧ ∀ w, w < i → u.2.2.1 14 w = nI (stp P w)) P.1 (fun w u hw hI ih => ?_) (fun u hI => ?_) 0 _ (Nat.zero_le _) ⟨FrR.rf, fun q hq => absurd hq (by omega)⟩)
  · obtain ⟨hf3, h6⟩ := hI
    have hL := hL2.frR hf3
    have hmany : u.2.2.1 0 1 = nI P.1 := (hf3.i (by omega) (by omega)).trans hWt.1
    refine y_iload_n hg dX0_look_2_93 rfl ?_
    refine y_aload_n hg dX0_look_2_94 rfl ?_
    refine y_geti (j := 1) hg cf0 (hL.x) (by decide) rfl q173 dX0_look_2_95 ?_
    refine y_ti hmany ?_
    refine y_icmp_ge hg 159 dX0_look_2_98 (by decide) (fun hT => absurd hT (ge_c hw (by omega))) (fun _ => ?_)
    refine y_aload_n hg dX0_look_2_101 rfl ?_
    refine y_getr (j := 10) hg cf0 (hL.x) (by decide) rfl (hL.r_steps) q182 dX0_look_2_102 ?_
    refine y_iload_n hg dX0_look_2_105 rfl ?_
    refine y_iconst (v := nI 0) hg dX0_look_2_106 rfl ?_
    refine y_iast hg _ (hL.k_steps) rfl (by omega) dX0_look_2_107 ?_
    refine y_iconst (v := nI 0) hg dX0_look_2_108 rfl ?_
    refine y_istore hg dX0_look_2_109 (by decide) (lv1 := [(0, _), (1, _), (2, _), (3, _), (4, _)]) rfl ?_
    have ini : ∀ w', w' < w → (setI u 14 w (nI 0)).2.2.1 14 w' = nI (stp P w') := fun w' h => (gI_n (by omega)).trans (h6 w' h)
    have hf3' : FrR (fun a _ => a = 14) t (setI u 14 w (nI 0)) := hf3.stI rfl
    have hz : (setI u 14 w (nI 0)).2.2.1 14 w = nI 0 := gI_s
    generalize setI u 14 w (nI 0) = u0 at ini hf3' hz ⊢
    refine (loop_st (S := Mem) (G := fun i v => YY g 5 v 0 0 111 [(0, .ref (B.1 + 0)), (1, .ref (B.1 + ks)), (2, .int some_), (3, .int (nI w)), (4, .int (nI i))] []) (I := fun i v => FrR (fun a _ => a = 14) t v ∧ (∀ w', w' < w → v.2.2.1 14 w' = nI (stp P w')) ∧ v.2.2.1 14 w = nI (va P.2.2.2.1 (P.2.1 w) i)) 8 (fun x v hx hI ih2 => ?_) (fun v hI => ?_) 0 u0 (by decide) ⟨hf3', ini, hz⟩)
    · obtain ⟨hf4, h7, h8⟩ := hI
      have hL := hL2.frR hf4
      have hbx : v.2.2.1 10 x = nI (bs P.2.2.2.1 x) := (hf4.i (by omega) (by omega)).trans (h4t x hx)
      have hhx : v.2.2.1 (97 + 6 * w + 2) x = nI (P.2.1 w x) := (hf4.i (hL2.w_words (i := w) (by omega)).k_has.2.1 (by omega)).trans ((hWt.2 w hw).2 x hx)
      refine y_iload hg dX0_look_2_111 rfl ?_
      refine y_bipush (v := nI 8) hg dX0_look_2_113 rfl ?_
      refine y_icmp_ge hg 153 dX0_look_2_115 (by decide) (fun hT => absurd hT (ge_c hx (by decide))) (fun _ => ?_)
      refine y_aload_n hg dX0_look_2_118 rfl ?_
      refine y_getr (j := 10) hg cf0 (hL.x) (by decide) rfl (hL.r_steps) q182 dX0_look_2_119 ?_
      refine y_iload_n hg dX0_look_2_122 rfl ?_
      refine y_dup2 hg dX0_look_2_123 rfl rfl ?_
      refine y_iald hg _ (hL.k_steps) rfl (by omega) dX0_look_2_124 ?_
      refine y_ti (h8) ?_
      refine y_aload_n hg dX0_look_2_125 rfl ?_
      refine y_getr (j := 6) hg cf0 (hL.x) (by decide) rfl (hL.r_base) q178 dX0_look_2_126 ?_
      refine y_iload hg dX0_look_2_129 rfl ?_
      refine y_iald hg _ (hL.k_base) rfl (by omega) dX0_look_2_131 ?_
      refine y_ti (hbx) ?_
      refine y_aload_n hg dX0_look_2_132 rfl ?_
      refine y_getr (j := 0) hg cf0 (hL.x) (by decide) rfl (hL.r_words) q172 dX0_look_2_133 ?_
      refine y_iload_n hg dX0_look_2_136 rfl ?_
      refine y_aald3 hg _ (hL.k_words) rfl (by omega) (hL.e_words (by omega)) dX0_look_2_137 ?_
      refine y_getrN (j := 3) hg cf2 ((hL.w_words (by omega)).o) (by decide) rfl ((hL.w_words (by omega)).r_has) nf9 dX0_look_2_138 ?_
      refine y_iload hg dX0_look_2_141 rfl ?_
      refine y_iald hg _ ((hL.w_words (by omega)).k_has) rfl (by omega) dX0_look_2_143 ?_
      refine y_ti (hhx) ?_
      refine y_imul hg dX0_look_2_144 ?_
      refine y_ti (pk_mul _ _) ?_
      refine y_iadd hg dX0_look_2_145 ?_
      refine y_ti (nI_add _ _) ?_
      refine y_iast hg _ (hL.k_steps) rfl (by omega) dX0_look_2_146 ?_
      refine y_iinc hg dX0_look_2_147 rfl (inc1 _) (by decide) (lv1 := [(0, _), (1, _), (2, _), (3, _), (4, _)]) rfl ?_
      refine y_goto hg 111 dX0_look_2_150 (by decide) ?_
      refine ih2 _ ⟨hf4.stI rfl, fun w' h => (gI_n (by omega)).trans (h7 w' h), gI_s.trans ?_⟩
      show nI (va P.2.2.2.1 (P.2.1 w) x + bs P.2.2.2.1 x * P.2.1 w x) = nI (va P.2.2.2.1 (P.2.1 w) x + P.2.1 w x * bs P.2.2.2.1 x)
      rw [Nat.mul_comm]
    · obtain ⟨hf4, h7, h8⟩ := hI
      have hL := hL2.frR hf4
      refine y_iload hg dX0_look_2_111 rfl ?_
      refine y_bipush (v := nI 8) hg dX0_look_2_113 rfl ?_
      refine y_icmp_ge hg 153 dX0_look_2_115 (by decide) (fun _ => ?_) (fun hF => absurd (le_c (Nat.le_refl 8) (by decide)) hF)
      refine y_iinc hg dX0_look_2_153 rfl (inc1 _) (by decide) (lv1 := [(0, _), (1, _), (2, _), (3, _), (4, _)]) rfl ?_
      refine y_goto hg 93 dX0_look_2_156 (by decide) ?_
      refine y_sub [0, 1, 2, 3] rfl (ih _ ⟨hf4, fun w' h => ?_⟩)
      by_cases e : w' = w
      · subst e; exact h8
      · exact h7 w' (by omega)
  obtain ⟨hf3, h6⟩ := hI
  have hL := hL2.frR hf3
  have hmany : u.2.2.1 0 1 = nI P.1 := (hf3.i (by omega) (by omega)).trans hWt.1
  refine y_iload_n hg dX0_look_2_93 rfl ?_
  refine y_aload_n hg dX0_look_2_94 rfl ?_
  refine y_geti (j := 1) hg cf0 (hL.x) (by decide) rfl q173 dX0_look_2_95 ?_
  refine y_ti hmany ?_
  refine y_icmp_ge hg 159 dX0_look_2_98 (by decide) (fun _ => ?_) (fun hF => absurd (le_c (Nat.le_refl _) (by omega)) hF)
  refine y_vret hg hr ⟨rfl, ?_⟩ dX0_look_2_159 (Nat.le_refl _) (Nat.le_refl _)
  have hF : Fr LkP σ u := (hf.tr (hf2.1.mono (fun a j h => by unfold LkP; omega))).tr (hf3.1.mono (fun a j h => by unfold LkP; omega))
  have hWu : WXm u P := hWt.fr hP hL2 hf3.1 ⟨by omega, fun a j h => by omega⟩
  refine ⟨⟨hL, hS0.fr hF (by omega), ?_, hWu, fun j hj => (ro_fr hF hS0 (fun a j q1 q2 => by unfold LkP; omega) j).trans (hr0 j hj), fun w hw => ?_, fun x hx => (hf3.i (by omega) (by omega)).trans (h4t x hx), (hf3.i (by omega) (by omega)).trans h3', h6, hks⟩, fun r k hr hk => Or.inl ((hf3.l (by omega) (by omega)).trans (h5 _ (by omega)).1), fun q hq => (hf3.i (by omega) (by omega)).trans (h5 q (by omega)).2, hF, by rw [hf3.2, hf2.2]; exact h1.2.1, by rw [hf3.2, hf2.2]; exact h1.2.2⟩
  · rw [hf3.2, hf2.2]; exact h1.1
  · rw [hf3.i (by omega) (by omega), hf2.i (by omega) (by omega), h2]
    exact hu0 w hw
end XLook

