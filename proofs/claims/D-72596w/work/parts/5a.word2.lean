section Wd2
variable {ll : Launch} {B : Bs} {σ : Mem} {A : Ab} {sd : Int64}
theorem twin_congr {f h f' h' : Nat → Int32} (hf : ∀ x, x < 8 → f x = f' x) (hh : ∀ x, x < 8 → h x = h' x) : twinB f h 8 = twinB f' h' 8 :=
  fo_congr 8 (fun x a hx => by rw [hf x hx, hh x hx])
/-- how many words are like a word -/
def twS (A : Ab) (w e : Nat) (n : Int32) : Int32 := n + (if twinB (fun x => A 4 (8 * e + x)) (fun x => A 4 (8 * w + x)) 8 = true then nI 1 else nI 0)
def twn (A : Ab) (w : Nat) : Int32 := fo (twS A w) (nI 0) (nm A)
theorem cX_twins (hW : WFA A) (hR : RX B A sd σ) {w : Nat} (hw : w < nm A) : MT ll B 1 0 0 yX0_twins cX0_twins 4 (some .int) [.ref (B.1 + 0), .ref (B.1 + (97 + 6 * w))] σ (pI fun r σ' => r = twn A w ∧ σ' = σ) := by
  have hL := hR.1
  have hm := hW.nmle
  have em := hR.many.trans hW.1.1
  have hWd := hL.w_words (i := w) (by omega)
  refine MT.of (by decide) (Nat.le_of_ble_eq_true rfl) (fun g hg hr => ?_)
  refine y_iconst (v := nI 0) hg dX0_twins_0 rfl ?_
  refine y_istore_n hg dX0_twins_1 (by decide) (lv1 := [(0, _), (1, _), (2, _)]) rfl ?_
  refine y_iconst (v := nI 0) hg dX0_twins_2 rfl ?_
  refine y_istore_n hg dX0_twins_3 (by decide) (lv1 := [(0, _), (1, _), (2, _), (3, _)]) rfl ?_
  refine (loop_up (G := fun i => YY g 4 σ 0 0 4 [(0, .ref (B.1 + 0)), (1, .ref (B.1 + (97 + 6 * w))), (2, .int (fo (twS A w) (nI 0) i)), (3, .int (nI i))] []) (nm A) (fun i hi ih => ?_) ?_ 0 (Nat.zero_le _))
  · have J : ∀ v : Int32, v = (if twinB (fun x => A 4 (8 * i + x)) (fun x => A 4 (8 * w + x)) 8 = true then nI 1 else nI 0) → YY g 4 σ 0 0 31 [(0, .ref (B.1 + 0)), (1, .ref (B.1 + (97 + 6 * w))), (2, .int (fo (twS A w) (nI 0) i)), (3, .int (nI i))] [.int v, .int (fo (twS A w) (nI 0) i)] := by
      intro v hv
      subst hv
      refine y_iadd hg dX0_twins_31 ?_
      refine y_istore_n hg dX0_twins_32 (by decide) (lv1 := [(0, _), (1, _), (2, _), (3, _)]) rfl ?_
      refine y_iinc hg dX0_twins_33 rfl (inc1 _) (by decide) (lv1 := [(0, _), (1, _), (2, _), (3, _)]) rfl ?_
      refine y_goto hg 4 dX0_twins_36 (by decide) ?_
      exact ih
    have et : twinB (σ.2.2.1 (97 + 6 * i + 2)) (σ.2.2.1 (97 + 6 * w + 2)) 8 = twinB (fun x => A 4 (8 * i + x)) (fun x => A 4 (8 * w + x)) 8 := twin_congr (fun x hx => hR.need hi hx) (fun x hx => hR.need hw hx)
    refine y_iload_n hg dX0_twins_4 rfl ?_
    refine y_aload_n hg dX0_twins_5 rfl ?_
    refine y_geti (j := 1) hg cf0 (hL.x) (by decide) rfl q173 dX0_twins_6 ?_
    refine y_ti (em) ?_
    refine y_icmp_ge hg 39 dX0_twins_9 (by decide) (fun hT => absurd hT (ge_c hi (by omega))) (fun _ => ?_)
    refine y_iload_n hg dX0_twins_12 rfl ?_
    refine y_aload_n hg dX0_twins_13 rfl ?_
    refine y_getr (j := 0) hg cf0 (hL.x) (by decide) rfl (hL.r_words) q172 dX0_twins_14 ?_
    refine y_iload_n hg dX0_twins_17 rfl ?_
    refine y_aald3 hg _ (hL.k_words) rfl (by omega) (hL.e_words (by omega)) dX0_twins_18 ?_
    refine y_aload_n hg dX0_twins_19 rfl ?_
    refine y_cVi hg (cX_isTwin (hL.w_words (by omega)) hWd) iX2_isTwin q456 ((hL.w_words (by omega)).o) cf2 rfl rfl (by simp [Value.category]) (Nat.le_refl _) (Nat.le_refl _) (by decide) dX0_twins_20 (fun r σ1 hp => ?_)
    obtain ⟨rfl, rfl⟩ := hp
    rw [et]
    refine y_if_eq hg 30 dX0_twins_23 (by decide) (fun hc => ?_) (fun hc => ?_)
    · refine y_iconst (v := nI 0) hg dX0_twins_30 rfl ?_
      exact J _ (by rw [if_neg (b2F hc)])
    · refine y_iconst (v := nI 1) hg dX0_twins_26 rfl ?_
      refine y_goto hg 31 dX0_twins_27 (by decide) ?_
      exact J _ (by rw [if_pos (b2T hc)])
  · refine y_iload_n hg dX0_twins_4 rfl ?_
    refine y_aload_n hg dX0_twins_5 rfl ?_
    refine y_geti (j := 1) hg cf0 (hL.x) (by decide) rfl q173 dX0_twins_6 ?_
    refine y_ti (em) ?_
    refine y_icmp_ge hg 39 dX0_twins_9 (by decide) (fun _ => ?_) (fun hF => absurd (le_c (Nat.le_refl _) (by omega)) hF)
    refine y_iload_n hg dX0_twins_39 rfl ?_
    refine y_iret hg hr ⟨_, rfl, ?_⟩ dX0_twins_40 (Nat.le_refl _) (Nat.le_refl _)
    exact ⟨rfl, rfl⟩
theorem cM_twins (hW : WFA A) (hR : RMm B A sd σ) {w : Nat} (hw : w < nm A) : MT ll B 1 0 0 yX3_twins cX3_twins 6 (some .int) [.ref (B.1 + 157), .int (nI w)] σ (pI fun r σ' => r = twn A w ∧ σ' = σ) := by
  have hM := hR.1
  have hm := hW.nmle
  have em := hR.many.trans hW.1.1
  refine MT.of (by decide) (Nat.le_of_ble_eq_true rfl) (fun g hg hr => ?_)
  refine y_iconst (v := nI 0) hg dX3_twins_0 rfl ?_
  refine y_istore_n hg dX3_twins_1 (by decide) (lv1 := [(0, _), (1, _), (2, _)]) rfl ?_
  refine y_iconst (v := nI 0) hg dX3_twins_2 rfl ?_
  refine y_istore_n hg dX3_twins_3 (by decide) (lv1 := [(0, _), (1, _), (2, _), (3, _)]) rfl ?_
  refine (loop_up (G := fun i => YY g 6 σ 0 0 4 [(0, .ref (B.1 + 157)), (1, .int (nI w)), (2, .int (fo (twS A w) (nI 0) i)), (3, .int (nI i))] []) (nm A) (fun i hi ih => ?_) ?_ 0 (Nat.zero_le _))
  · have J : ∀ (b v z : Int32), v = (if twinB (fun x => A 4 (8 * i + x)) (fun x => A 4 (8 * w + x)) 8 = true then nI 1 else nI 0) → YY g 6 σ 0 0 81 [(0, .ref (B.1 + 157)), (1, .int (nI w)), (2, .int (fo (twS A w) (nI 0) i)), (3, .int (nI i)), (4, .int b), (5, .int z)] [.int v, .int (fo (twS A w) (nI 0) i)] := by
      intro b v z hv
      subst hv
      refine y_iadd hg dX3_twins_81 ?_
      refine y_istore_n hg dX3_twins_82 (by decide) (lv1 := [(0, _), (1, _), (2, _), (3, _), (4, _), (5, _)]) rfl ?_
      refine y_iinc hg dX3_twins_83 rfl (inc1 _) (by decide) (lv1 := [(0, _), (1, _), (2, _), (3, _), (4, _), (5, _)]) rfl ?_
      refine y_goto hg 4 dX3_twins_86 (by decide) ?_
      refine y_sub [0, 1, 2, 3] rfl ih
    refine y_iload_n hg dX3_twins_4 rfl ?_
    refine y_aload_n hg dX3_twins_5 rfl ?_
    refine y_geti (j := 2) hg cf3 (hM.m) (by decide) rfl q913 dX3_twins_6 ?_
    refine y_ti (em) ?_
    refine y_icmp_ge hg 89 dX3_twins_9 (by decide) (fun hT => absurd hT (ge_c hi (by omega))) (fun _ => ?_)
    refine y_iconst (v := nI 1) hg dX3_twins_12 rfl ?_
    refine y_istore hg dX3_twins_13 (by decide) (lv1 := [(0, _), (1, _), (2, _), (3, _), (4, _)]) rfl ?_
    refine y_iconst (v := nI 0) hg dX3_twins_15 rfl ?_
    refine y_istore hg dX3_twins_16 (by decide) (lv1 := [(0, _), (1, _), (2, _), (3, _), (4, _), (5, _)]) rfl ?_
    refine (loop_up (G := fun x => YY g 6 σ 0 0 18 [(0, .ref (B.1 + 157)), (1, .int (nI w)), (2, .int (fo (twS A w) (nI 0) i)), (3, .int (nI i)), (4, .int (b2 (twinB (fun x => A 4 (8 * i + x)) (fun x => A 4 (8 * w + x)) x))), (5, .int (nI x))] []) 8 (fun x hx ih2 => ?_) ?_ 0 (Nat.zero_le _))
    · have J2 : ∀ v : Int32, v = b2 (twinB (fun x => A 4 (8 * i + x)) (fun x => A 4 (8 * w + x)) x && decide (A 4 (8 * i + x) = A 4 (8 * w + x))) → YY g 6 σ 0 0 62 [(0, .ref (B.1 + 157)), (1, .int (nI w)), (2, .int (fo (twS A w) (nI 0) i)), (3, .int (nI i)), (4, .int (b2 (twinB (fun x => A 4 (8 * i + x)) (fun x => A 4 (8 * w + x)) x))), (5, .int (nI x))] [.int v] := by
        intro v hv
        subst hv
        refine y_istore hg dX3_twins_62 (by decide) (lv1 := [(0, _), (1, _), (2, _), (3, _), (4, _), (5, _)]) rfl ?_
        refine y_iinc hg dX3_twins_64 rfl (inc1 _) (by decide) (lv1 := [(0, _), (1, _), (2, _), (3, _), (4, _), (5, _)]) rfl ?_
        refine y_goto hg 18 dX3_twins_67 (by decide) ?_
        exact ih2
      refine y_iload hg dX3_twins_18 rfl ?_
      refine y_bipush (v := nI 8) hg dX3_twins_20 rfl ?_
      refine y_icmp_ge hg 70 dX3_twins_22 (by decide) (fun hT => absurd hT (ge_c hx (by decide))) (fun _ => ?_)
      refine y_iload hg dX3_twins_25 rfl ?_
      refine y_if_eq hg 61 dX3_twins_27 (by decide) (fun hc => ?_) (fun hc => ?_)
      · refine y_iconst (v := nI 0) hg dX3_twins_61 rfl ?_
        exact J2 _ (by rw [(b2_eq _).mp hc]; rfl)
      refine y_aload_n hg dX3_twins_30 rfl ?_
      refine y_getr (j := 6) hg cf3 (hM.m) (by decide) rfl (hM.r_need) q917 dX3_twins_31 ?_
      refine y_bipush (v := nI 8) hg dX3_twins_34 rfl ?_
      refine y_iload_n hg dX3_twins_36 rfl ?_
      refine y_imul hg dX3_twins_37 ?_
      refine y_ti (pk_mul _ _) ?_
      refine y_iload hg dX3_twins_38 rfl ?_
      refine y_iadd hg dX3_twins_40 ?_
      refine y_ti (nI_add _ _) ?_
      refine y_iald hg _ (hM.k_need) rfl (by omega) dX3_twins_41 ?_
      refine y_ti (hR.need hw hx) ?_
      refine y_aload_n hg dX3_twins_42 rfl ?_
      refine y_getr (j := 6) hg cf3 (hM.m) (by decide) rfl (hM.r_need) q917 dX3_twins_43 ?_
      refine y_bipush (v := nI 8) hg dX3_twins_46 rfl ?_
      refine y_iload_n hg dX3_twins_48 rfl ?_
      refine y_imul hg dX3_twins_49 ?_
      refine y_ti (pk_mul _ _) ?_
      refine y_iload hg dX3_twins_50 rfl ?_
      refine y_iadd hg dX3_twins_52 ?_
      refine y_ti (nI_add _ _) ?_
      refine y_iald hg _ (hM.k_need) rfl (by omega) dX3_twins_53 ?_
      refine y_ti (hR.need hi hx) ?_
      refine y_icmp_ne hg 61 dX3_twins_54 (by decide) (fun hc2 => ?_) (fun hc2 => ?_)
      · refine y_iconst (v := nI 0) hg dX3_twins_61 rfl ?_
        exact J2 _ (by rw [decide_eq_false (fun z => hc2 z.symm), Bool.and_false]; rfl)
      · refine y_iconst (v := nI 1) hg dX3_twins_57 rfl ?_
        refine y_goto hg 62 dX3_twins_58 (by decide) ?_
        exact J2 _ (by rw [b2T hc, decide_eq_true hc2.symm]; rfl)
    · skip
      refine y_iload hg dX3_twins_18 rfl ?_
      refine y_bipush (v := nI 8) hg dX3_twins_20 rfl ?_
      refine y_icmp_ge hg 70 dX3_twins_22 (by decide) (fun _ => ?_) (fun hF => absurd (le_c (Nat.le_refl _) (by omega)) hF)
      refine y_iload_n hg dX3_twins_70 rfl ?_
      refine y_iload hg dX3_twins_71 rfl ?_
      refine y_if_eq hg 80 dX3_twins_73 (by decide) (fun hc => ?_) (fun hc => ?_)
      · refine y_iconst (v := nI 0) hg dX3_twins_80 rfl ?_
        exact J _ _ _ (by rw [if_neg (b2F hc)])
      · refine y_iconst (v := nI 1) hg dX3_twins_76 rfl ?_
        refine y_goto hg 81 dX3_twins_77 (by decide) ?_
        exact J _ _ _ (by rw [if_pos (b2T hc)])
  · skip
    refine y_iload_n hg dX3_twins_4 rfl ?_
    refine y_aload_n hg dX3_twins_5 rfl ?_
    refine y_geti (j := 2) hg cf3 (hM.m) (by decide) rfl q913 dX3_twins_6 ?_
    refine y_ti (em) ?_
    refine y_icmp_ge hg 89 dX3_twins_9 (by decide) (fun _ => ?_) (fun hF => absurd (le_c (Nat.le_refl _) (by omega)) hF)
    refine y_iload_n hg dX3_twins_89 rfl ?_
    refine y_iret hg hr ⟨_, rfl, ?_⟩ dX3_twins_90 (Nat.le_refl _) (Nat.le_refl _)
    exact ⟨rfl, rfl⟩
/-- the letters of a word -/
def ltS (A : Ab) (w x : Nat) (s : Int32) : Int32 := s ||| (if 0 < A 4 (8 * w + x) then nI 1 <<< (nI x &&& 31) else nI 0)
def lts (A : Ab) (w : Nat) : Int32 := fo (ltS A w) (nI 0) 8
theorem cX_lettersOf (hW : WFA A) (hR : RX B A sd σ) {w : Nat} (hw : w < nm A) : MT ll B 0 0 0 yX0_lettersOf cX0_lettersOf 3 (some .int) [.ref (B.1 + (97 + 6 * w))] σ (pI fun r σ' => r = lts A w ∧ σ' = σ) := by
  have hL := hR.1
  have hm := hW.nmle
  have hWd := hL.w_words (i := w) (by omega)
  refine MT.of (by decide) (Nat.le_of_ble_eq_true rfl) (fun g hg hr => ?_)
  refine y_iconst (v := nI 0) hg dX0_lettersOf_0 rfl ?_
  refine y_istore_n hg dX0_lettersOf_1 (by decide) (lv1 := [(0, _), (1, _)]) rfl ?_
  refine y_iconst (v := nI 0) hg dX0_lettersOf_2 rfl ?_
  refine y_istore_n hg dX0_lettersOf_3 (by decide) (lv1 := [(0, _), (1, _), (2, _)]) rfl ?_
  refine (loop_up (G := fun i => YY g 3 σ 0 0 4 [(0, .ref (B.1 + (97 + 6 * w))), (1, .int (fo (ltS A w) (nI 0) i)), (2, .int (nI i))] []) 8 (fun i hi ih => ?_) ?_ 0 (Nat.zero_le _))
  · have J : ∀ v : Int32, v = (if 0 < A 4 (8 * w + i) then nI 1 <<< (nI i &&& 31) else nI 0) → YY g 3 σ 0 0 27 [(0, .ref (B.1 + (97 + 6 * w))), (1, .int (fo (ltS A w) (nI 0) i)), (2, .int (nI i))] [.int v, .int (fo (ltS A w) (nI 0) i)] := by
      intro v hv
      subst hv
      refine y_ior hg dX0_lettersOf_27 ?_
      refine y_istore_n hg dX0_lettersOf_28 (by decide) (lv1 := [(0, _), (1, _), (2, _)]) rfl ?_
      refine y_iinc hg dX0_lettersOf_29 rfl (inc1 _) (by decide) (lv1 := [(0, _), (1, _), (2, _)]) rfl ?_
      refine y_goto hg 4 dX0_lettersOf_32 (by decide) ?_
      exact ih
    refine y_iload_n hg dX0_lettersOf_4 rfl ?_
    refine y_bipush (v := nI 8) hg dX0_lettersOf_5 rfl ?_
    refine y_icmp_ge hg 35 dX0_lettersOf_7 (by decide) (fun hT => absurd hT (ge_c hi (by omega))) (fun _ => ?_)
    refine y_iload_n hg dX0_lettersOf_10 rfl ?_
    refine y_aload_n hg dX0_lettersOf_11 rfl ?_
    refine y_getrN (j := 3) hg cf2 (hWd.o) (by decide) rfl (hWd.r_has) nf9 dX0_lettersOf_12 ?_
    refine y_iload_n hg dX0_lettersOf_15 rfl ?_
    refine y_iald hg _ (hWd.k_has) rfl (by omega) dX0_lettersOf_16 ?_
    refine y_ti (hR.need hw hi) ?_
    refine y_if_le hg 26 dX0_lettersOf_17 (by decide) (fun hc => ?_) (fun hc => ?_)
    · refine y_iconst (v := nI 0) hg dX0_lettersOf_26 rfl ?_
      exact J _ (by rw [if_neg (Int32.not_lt.mpr hc)])
    · refine y_iconst (v := nI 1) hg dX0_lettersOf_20 rfl ?_
      refine y_iload_n hg dX0_lettersOf_21 rfl ?_
      refine y_ishl hg dX0_lettersOf_22 ?_
      refine y_goto hg 27 dX0_lettersOf_23 (by decide) ?_
      exact J _ (by rw [if_pos (Int32.not_le.mp hc)])
  · refine y_iload_n hg dX0_lettersOf_4 rfl ?_
    refine y_bipush (v := nI 8) hg dX0_lettersOf_5 rfl ?_
    refine y_icmp_ge hg 35 dX0_lettersOf_7 (by decide) (fun _ => ?_) (fun hF => absurd (le_c (Nat.le_refl _) (by omega)) hF)
    refine y_iload_n hg dX0_lettersOf_35 rfl ?_
    refine y_iret hg hr ⟨_, rfl, ?_⟩ dX0_lettersOf_36 (Nat.le_refl _) (Nat.le_refl _)
    exact ⟨rfl, rfl⟩
theorem cM_lettersOf (hW : WFA A) (hR : RMm B A sd σ) {w : Nat} (hw : w < nm A) : MT ll B 0 0 0 yX3_lettersOf cX3_lettersOf 4 (some .int) [.ref (B.1 + 157), .int (nI w)] σ (pI fun r σ' => r = lts A w ∧ σ' = σ) := by
  have hM := hR.1
  have hm := hW.nmle
  refine MT.of (by decide) (Nat.le_of_ble_eq_true rfl) (fun g hg hr => ?_)
  refine y_iconst (v := nI 0) hg dX3_lettersOf_0 rfl ?_
  refine y_istore_n hg dX3_lettersOf_1 (by decide) (lv1 := [(0, _), (1, _), (2, _)]) rfl ?_
  refine y_iconst (v := nI 0) hg dX3_lettersOf_2 rfl ?_
  refine y_istore_n hg dX3_lettersOf_3 (by decide) (lv1 := [(0, _), (1, _), (2, _), (3, _)]) rfl ?_
  refine (loop_up (G := fun i => YY g 4 σ 0 0 4 [(0, .ref (B.1 + 157)), (1, .int (nI w)), (2, .int (fo (ltS A w) (nI 0) i)), (3, .int (nI i))] []) 8 (fun i hi ih => ?_) ?_ 0 (Nat.zero_le _))
  · have J : ∀ v : Int32, v = (if 0 < A 4 (8 * w + i) then nI 1 <<< (nI i &&& 31) else nI 0) → YY g 4 σ 0 0 32 [(0, .ref (B.1 + 157)), (1, .int (nI w)), (2, .int (fo (ltS A w) (nI 0) i)), (3, .int (nI i))] [.int v, .int (fo (ltS A w) (nI 0) i)] := by
      intro v hv
      subst hv
      refine y_ior hg dX3_lettersOf_32 ?_
      refine y_istore_n hg dX3_lettersOf_33 (by decide) (lv1 := [(0, _), (1, _), (2, _), (3, _)]) rfl ?_
      refine y_iinc hg dX3_lettersOf_34 rfl (inc1 _) (by decide) (lv1 := [(0, _), (1, _), (2, _), (3, _)]) rfl ?_
      refine y_goto hg 4 dX3_lettersOf_37 (by decide) ?_
      exact ih
    refine y_iload_n hg dX3_lettersOf_4 rfl ?_
    refine y_bipush (v := nI 8) hg dX3_lettersOf_5 rfl ?_
    refine y_icmp_ge hg 40 dX3_lettersOf_7 (by decide) (fun hT => absurd hT (ge_c hi (by omega))) (fun _ => ?_)
    refine y_iload_n hg dX3_lettersOf_10 rfl ?_
    refine y_aload_n hg dX3_lettersOf_11 rfl ?_
    refine y_getr (j := 6) hg cf3 (hM.m) (by decide) rfl (hM.r_need) q917 dX3_lettersOf_12 ?_
    refine y_bipush (v := nI 8) hg dX3_lettersOf_15 rfl ?_
    refine y_iload_n hg dX3_lettersOf_17 rfl ?_
    refine y_imul hg dX3_lettersOf_18 ?_
    refine y_ti (pk_mul _ _) ?_
    refine y_iload_n hg dX3_lettersOf_19 rfl ?_
    refine y_iadd hg dX3_lettersOf_20 ?_
    refine y_ti (nI_add _ _) ?_
    refine y_iald hg _ (hM.k_need) rfl (by omega) dX3_lettersOf_21 ?_
    refine y_ti (hR.need hw hi) ?_
    refine y_if_le hg 31 dX3_lettersOf_22 (by decide) (fun hc => ?_) (fun hc => ?_)
    · refine y_iconst (v := nI 0) hg dX3_lettersOf_31 rfl ?_
      exact J _ (by rw [if_neg (Int32.not_lt.mpr hc)])
    · refine y_iconst (v := nI 1) hg dX3_lettersOf_25 rfl ?_
      refine y_iload_n hg dX3_lettersOf_26 rfl ?_
      refine y_ishl hg dX3_lettersOf_27 ?_
      refine y_goto hg 32 dX3_lettersOf_28 (by decide) ?_
      exact J _ (by rw [if_pos (Int32.not_le.mp hc)])
  · refine y_iload_n hg dX3_lettersOf_4 rfl ?_
    refine y_bipush (v := nI 8) hg dX3_lettersOf_5 rfl ?_
    refine y_icmp_ge hg 40 dX3_lettersOf_7 (by decide) (fun _ => ?_) (fun hF => absurd (le_c (Nat.le_refl _) (by omega)) hF)
    refine y_iload_n hg dX3_lettersOf_40 rfl ?_
    refine y_iret hg hr ⟨_, rfl, ?_⟩ dX3_lettersOf_41 (Nat.le_refl _) (Nat.le_refl _)
    exact ⟨rfl, rfl⟩
/-- how often a word can be made -/
def tms (A : Ab) (w : Nat) : Int32 := fo (timesF (fun x => A 4 (8 * w + x)) (A 11)) (nI 12) 8
theorem cX_tms {l : Launch} (hW : WFA A) (hR : RX B A sd σ) {w : Nat} (hw : w < nm A) : MT l B 1 0 0 yX2_times cX2_times 4 (some .int) [.ref (B.1 + (97 + 6 * w)), .ref (B.1 + (2 + 1))] σ (pI fun r σ' => r = tms A w ∧ σ' = σ) := by
  have hm := hW.nmle
  have h := cX_times (l := l) (hR.1.w_words (i := w) (by omega)) hR.1.s_now.k_bag (by omega)
  rw [show fo (timesF (σ.2.2.1 (97 + 6 * w + 2)) (σ.2.2.1 (2 + 1))) (nI 12) 8 = tms A w from fo_congr 8 (fun x a hx => by unfold timesF; rw [hR.need hw hx, show 2 + 1 = 3 from rfl, hR.bag hx])] at h
  exact h
theorem cM_madeOf (hW : WFA A) (hR : RMm B A sd σ) {w : Nat} (hw : w < nm A) : MT ll B 1 0 0 yX3_madeOf cX3_madeOf 5 (some .int) [.ref (B.1 + 157), .int (nI w)] σ (pI fun r σ' => r = tms A w ∧ σ' = σ) := by
  have hM := hR.1
  have hm := hW.nmle
  refine MT.of (by decide) (Nat.le_of_ble_eq_true rfl) (fun g hg hr => ?_)
  refine y_bipush (v := nI 12) hg dX3_madeOf_0 rfl ?_
  refine y_istore_n hg dX3_madeOf_2 (by decide) (lv1 := [(0, _), (1, _), (2, _)]) rfl ?_
  refine y_iconst (v := nI 0) hg dX3_madeOf_3 rfl ?_
  refine y_istore_n hg dX3_madeOf_4 (by decide) (lv1 := [(0, _), (1, _), (2, _), (3, _)]) rfl ?_
  refine (loop_up (G := fun i => YY g 5 σ 0 0 5 [(0, .ref (B.1 + 157)), (1, .int (nI w)), (2, .int (fo (timesF (fun x => A 4 (8 * w + x)) (A 11)) (nI 12) i)), (3, .int (nI i))] []) 8 (fun i hi ih => ?_) ?_ 0 (Nat.zero_le _))
  · have ih' : YY g 5 σ 0 0 5 [(0, .ref (B.1 + 157)), (1, .int (nI w)), (2, .int (timesF (fun x => A 4 (8 * w + x)) (A 11) i (fo (timesF (fun x => A 4 (8 * w + x)) (A 11)) (nI 12) i))), (3, .int (nI (i + 1)))] [] := ih
    generalize fo (timesF (fun x => A 4 (8 * w + x)) (A 11)) (nI 12) i = a at *
    have J : ∀ v : Int32, v = timesF (fun x => A 4 (8 * w + x)) (A 11) i a → YY g 5 σ 0 0 55 [(0, .ref (B.1 + 157)), (1, .int (nI w)), (2, .int a), (3, .int (nI i)), (4, .int (A 4 (8 * w + i)))] [.int v] := by
      intro v hv
      subst hv
      refine y_istore_n hg dX3_madeOf_55 (by decide) (lv1 := [(0, _), (1, _), (2, _), (3, _), (4, _)]) rfl ?_
      refine y_iinc hg dX3_madeOf_56 rfl (inc1 _) (by decide) (lv1 := [(0, _), (1, _), (2, _), (3, _), (4, _)]) rfl ?_
      refine y_goto hg 5 dX3_madeOf_59 (by decide) ?_
      refine y_sub [0, 1, 2, 3] rfl ih'
    refine y_iload_n hg dX3_madeOf_5 rfl ?_
    refine y_bipush (v := nI 8) hg dX3_madeOf_6 rfl ?_
    refine y_icmp_ge hg 62 dX3_madeOf_8 (by decide) (fun hT => absurd hT (ge_c hi (by omega))) (fun _ => ?_)
    refine y_aload_n hg dX3_madeOf_11 rfl ?_
    refine y_getr (j := 6) hg cf3 (hM.m) (by decide) rfl (hM.r_need) q917 dX3_madeOf_12 ?_
    refine y_bipush (v := nI 8) hg dX3_madeOf_15 rfl ?_
    refine y_iload_n hg dX3_madeOf_17 rfl ?_
    refine y_imul hg dX3_madeOf_18 ?_
    refine y_ti (pk_mul _ _) ?_
    refine y_iload_n hg dX3_madeOf_19 rfl ?_
    refine y_iadd hg dX3_madeOf_20 ?_
    refine y_ti (nI_add _ _) ?_
    refine y_iald hg _ (hM.k_need) rfl (by omega) dX3_madeOf_21 ?_
    refine y_ti (hR.need hw hi) ?_
    refine y_istore hg dX3_madeOf_22 (by decide) (lv1 := [(0, _), (1, _), (2, _), (3, _), (4, _)]) rfl ?_
    refine y_iload hg dX3_madeOf_24 rfl ?_
    refine y_if_le hg 54 dX3_madeOf_26 (by decide) (fun hc => ?_) (fun hc => ?_)
    · refine y_iload_n hg dX3_madeOf_54 rfl ?_
      exact J _ (by unfold timesF; rw [if_neg (Int32.not_lt.mpr hc)])
    have hp := Int32.not_le.mp hc
    have h0 : ¬ A 4 (8 * w + i) = 0 := fun z => by rw [z] at hp; exact absurd hp (by decide)
    refine y_aload_n hg dX3_madeOf_29 rfl ?_
    refine y_getr (j := 7) hg cf3 (hM.m) (by decide) rfl (hM.r_now) q918 dX3_madeOf_30 ?_
    refine y_iload_n hg dX3_madeOf_33 rfl ?_
    refine y_iald hg _ (hM.k_now) rfl (by omega) dX3_madeOf_34 ?_
    refine y_ti (hR.bag hi) ?_
    refine y_iload hg dX3_madeOf_35 rfl ?_
    refine y_idiv hg dX3_madeOf_37 h0 ?_
    refine y_iload_n hg dX3_madeOf_38 rfl ?_
    refine y_icmp_ge hg 54 dX3_madeOf_39 (by decide) (fun hc2 => ?_) (fun hc2 => ?_)
    · refine y_iload_n hg dX3_madeOf_54 rfl ?_
      exact J _ (by unfold timesF; rw [if_pos hp, if_neg (Int32.not_lt.mpr hc2)])
    · refine y_aload_n hg dX3_madeOf_42 rfl ?_
      refine y_getr (j := 7) hg cf3 (hM.m) (by decide) rfl (hM.r_now) q918 dX3_madeOf_43 ?_
      refine y_iload_n hg dX3_madeOf_46 rfl ?_
      refine y_iald hg _ (hM.k_now) rfl (by omega) dX3_madeOf_47 ?_
      refine y_ti (hR.bag hi) ?_
      refine y_iload hg dX3_madeOf_48 rfl ?_
      refine y_idiv hg dX3_madeOf_50 h0 ?_
      refine y_goto hg 55 dX3_madeOf_51 (by decide) ?_
      exact J _ (by unfold timesF; rw [if_pos hp, if_pos (Int32.not_le.mp hc2)])
  · skip
    refine y_iload_n hg dX3_madeOf_5 rfl ?_
    refine y_bipush (v := nI 8) hg dX3_madeOf_6 rfl ?_
    refine y_icmp_ge hg 62 dX3_madeOf_8 (by decide) (fun _ => ?_) (fun hF => absurd (le_c (Nat.le_refl _) (by omega)) hF)
    refine y_iload_n hg dX3_madeOf_62 rfl ?_
    refine y_iret hg hr ⟨_, rfl, ?_⟩ dX3_madeOf_63 (Nat.le_refl _) (Nat.le_refl _)
    exact ⟨rfl, rfl⟩
end Wd2

