section Near2
variable {ll : Launch} {B : Bs} {σ : Mem} {A : Ab} {sd : Int64}
theorem cM_nearly (hW : WFA A) (hR : RMm B A sd σ) (q : Int32) : MT ll B 24 0 0 yX3_nearly cX3_nearly 5 (some .int) [.ref (B.1 + 157), .int q] σ (oM B sd σ (rNear A q, A)) := by
  have hM := hR.1
  have hm := hW.nmle
  refine MT.of (by decide) (Nat.le_of_ble_eq_true rfl) (fun g hg hr => ?_)
  refine y_iload_n hg dX3_nearly_0 rfl ?_
  refine y_i2l hg dX3_nearly_1 ?_
  refine y_lconst (v := 0) hg dX3_nearly_2 rfl ?_
  refine y_lconst (v := 1) hg dX3_nearly_3 rfl ?_
  refine y_cSi hg (cM_in _ _ _) iX3_in q1052 rfl rfl (by simp [Value.category]) (Nat.le_refl _) (Nat.le_refl _) (by decide) dX3_nearly_4 (fun r σ1 hp => ?_)
  obtain ⟨rfl, rfl⟩ := hp
  refine y_if_ne hg 13 dX3_nearly_7 (by decide) (fun hc => ?_) (fun hc => ?_)
  · have h1 := b2T hc
    have eo : rNear A q = fo (neS A (neD q)) (nI 0) 8 := by unfold rNear; rw [if_pos h1]
    rw [eo] at hr
    obtain ⟨q, hq, rfl⟩ := (inL_iff 1 rfl (by decide)).mp h1
    refine y_aload_n hg dX3_nearly_13 rfl ?_
    refine y_getr (j := 7) hg cf3 (hM.m) (by decide) rfl (hM.r_now) q918 dX3_nearly_14 ?_
    refine y_aload_n hg dX3_nearly_17 rfl ?_
    refine y_getr (j := 8) hg cf3 (hM.m) (by decide) rfl (hM.r_trial) q919 dX3_nearly_18 ?_
    refine y_cSv hg (cM_copy hM.k_trial (by decide) hM.k_now (by decide) (by decide)) iX3_copy q1111 rfl rfl (by simp [Value.category]) (Nat.le_refl _) (Nat.le_refl _) (by decide) dX3_nearly_21 (fun σ2 hp => ?_)
    obtain ⟨hf2, hr2⟩ := hp
    refine y_iconst (v := nI 0) hg dX3_nearly_24 rfl ?_
    refine y_istore_n hg dX3_nearly_25 (by decide) (lv1 := [(0, _), (1, _), (2, _)]) rfl ?_
    refine y_iconst (v := nI 0) hg dX3_nearly_26 rfl ?_
    refine y_istore_n hg dX3_nearly_27 (by decide) (lv1 := [(0, _), (1, _), (2, _), (3, _)]) rfl ?_
    have hw2 := (WM.rf hR).go hf2 (fun a j z => by unfold ME; omega)
    have hrow0 : ∀ j, j < 25 → σ2.2.2.1 164 j = A 11 j := fun j hj => by rw [hr2 j, if_pos hj]; exact hR.now hj
    have LOOP := loop_st (S := Mem) (G := fun i s => YY g 5 s 0 0 28 [(0, .ref (B.1 + 157)), (1, .int (nI q)), (2, .int (fo (neS A (neD (nI q))) (nI 0) i)), (3, .int (nI i))] []) (I := fun i s => WM B A sd σ1 s ∧ ∀ j, j < 25 → s.2.2.1 164 j = A 11 j) 8 ?_ ?_ 0 σ2 (Nat.zero_le _) ⟨hw2, hrow0⟩
    · exact LOOP
    · intro i s hi hI ih
      obtain ⟨hws, hrow⟩ := hI
      have hM := hws.1.1
      have hn := hM.n
      have ih' : ∀ (s' : Mem), (WM B A sd σ1 s' ∧ ∀ j, j < 25 → s'.2.2.1 164 j = A 11 j) → YY g 5 s' 0 0 28 [(0, .ref (B.1 + 157)), (1, .int (nI q)), (2, .int (neS A (neD (nI q)) i (fo (neS A (neD (nI q))) (nI 0) i))), (3, .int (nI (i + 1)))] [] := ih
      generalize fo (neS A (neD (nI q))) (nI 0) i = acc at *
      have J : ∀ d : Int32, d = neD (nI q) → YY g 5 s 0 0 43 [(0, .ref (B.1 + 157)), (1, .int (nI q)), (2, .int acc), (3, .int (nI i))] [.int d] := by
        intro d hd
        subst hd
        refine y_istore hg dX3_nearly_43 (by decide) (lv1 := [(0, _), (1, _), (2, _), (3, _), (4, _)]) rfl ?_
        refine y_aload_n hg dX3_nearly_45 rfl ?_
        refine y_getr (j := 8) hg cf3 (hM.m) (by decide) rfl (hM.r_trial) q919 dX3_nearly_46 ?_
        refine y_iload_n hg dX3_nearly_49 rfl ?_
        refine y_dup2 hg dX3_nearly_50 rfl rfl ?_
        refine y_iald hg _ (hM.k_trial) rfl (by omega) dX3_nearly_51 ?_
        refine y_ti (hrow i (by omega)) ?_
        refine y_iload hg dX3_nearly_52 rfl ?_
        refine y_iadd hg dX3_nearly_54 ?_
        refine y_iast hg _ (hM.k_trial) rfl (by omega) dX3_nearly_55 ?_
        have hw3 : WM B A sd σ1 (setI s 164 i (A 11 i + neD (nI q))) := hws.go (Q := ME) ((FrR.rf).stI (by unfold ME; omega)) (fun a j z => z)
        have hrow3 : ∀ j, j < 25 → (setI s 164 i (A 11 i + neD (nI q))).2.2.1 164 j = neR A (neD (nI q)) i j := by
          intro j hj
          unfold neR
          by_cases e : j = i
          · subst e; rw [upf_s, gI_s]
          · rw [upf_n e, gI_n (by omega)]; exact hrow j hj
        generalize setI s 164 i (A 11 i + neD (nI q)) = s3 at *
        have hM := hw3.1.1
        have e3 : s3.2.2.1 164 i = A 11 i + neD (nI q) := by rw [hrow3 i (by omega)]; unfold neR; rw [upf_s]
        have TAIL : ∀ (t : Mem) (w : Int32), WM B A sd σ1 t → (∀ j, j < 25 → t.2.2.1 164 j = neR A (neD (nI q)) i j) → w = neS A (neD (nI q)) i acc → YY g 5 t 0 0 88 [(0, .ref (B.1 + 157)), (1, .int (nI q)), (2, .int w), (3, .int (nI i)), (4, .int (neD (nI q)))] [] := by
          intro t w ht htr hw
          subst hw
          have hM := ht.1.1
          have et : t.2.2.1 164 i = A 11 i + neD (nI q) := by rw [htr i (by omega)]; unfold neR; rw [upf_s]
          refine y_aload_n hg dX3_nearly_88 rfl ?_
          refine y_getr (j := 8) hg cf3 (hM.m) (by decide) rfl (hM.r_trial) q919 dX3_nearly_89 ?_
          refine y_iload_n hg dX3_nearly_92 rfl ?_
          refine y_dup2 hg dX3_nearly_93 rfl rfl ?_
          refine y_iald hg _ (hM.k_trial) rfl (by omega) dX3_nearly_94 ?_
          refine y_ti (et) ?_
          refine y_iload hg dX3_nearly_95 rfl ?_
          refine y_isub hg dX3_nearly_97 ?_
          refine y_ti (ad_sub _ _) ?_
          refine y_iast hg _ (hM.k_trial) rfl (by omega) dX3_nearly_98 ?_
          refine y_iinc hg dX3_nearly_99 rfl (inc1 _) (by decide) (lv1 := [(0, _), (1, _), (2, _), (3, _), (4, _)]) rfl ?_
          refine y_goto hg 28 dX3_nearly_102 (by decide) ?_
          refine y_sub [0, 1, 2, 3] rfl (ih' _ ⟨ht.go (Q := ME) ((FrR.rf).stI (by unfold ME; omega)) (fun a j z => z), fun j hj => ?_⟩)
          by_cases e : j = i
          · subst e; rw [gI_s]
          · rw [gI_n (by omega), htr j hj]; unfold neR; rw [upf_n e]
        have K : ∀ (t : Mem) (w : Int32), WM B A sd σ1 t → (∀ j, j < 25 → t.2.2.1 164 j = neR A (neD (nI q)) i j) → acc ||| w = neS A (neD (nI q)) i acc → YY g 5 t 0 0 86 [(0, .ref (B.1 + 157)), (1, .int (nI q)), (2, .int acc), (3, .int (nI i)), (4, .int (neD (nI q)))] [.int w, .int acc] := by
          intro t w ht htr hw
          refine y_ior hg dX3_nearly_86 ?_
          refine y_istore_n hg dX3_nearly_87 (by decide) (lv1 := [(0, _), (1, _), (2, _), (3, _), (4, _)]) rfl ?_
          exact TAIL _ _ ht htr hw
        refine y_iload_n hg dX3_nearly_56 rfl ?_
        refine y_aload_n hg dX3_nearly_57 rfl ?_
        refine y_getr (j := 8) hg cf3 (hM.m) (by decide) rfl (hM.r_trial) q919 dX3_nearly_58 ?_
        refine y_iload_n hg dX3_nearly_61 rfl ?_
        refine y_iald hg _ (hM.k_trial) rfl (by omega) dX3_nearly_62 ?_
        refine y_ti (e3) ?_
        refine y_if_lt hg 85 dX3_nearly_63 (by decide) (fun hc2 => ?_) (fun hc2 => ?_)
        · refine y_iconst (v := nI 0) hg dX3_nearly_85 rfl ?_
          exact K _ _ hw3 hrow3 (by rw [or_0]; unfold neS; rw [if_pos hc2])
        · have hP := near_wf hW hq hi hc2
          have tb := tot_b hP
          have en : ∀ z, neS A (neD (nI q)) i z = z ||| (if 0 < tot (neP A (neD (nI q)) i) then nI 1 <<< (nI i &&& 31) else nI 0) := fun z => by unfold neS; rw [if_neg hc2]
          have hn3 := hM.n
          refine y_aload_n hg dX3_nearly_66 rfl ?_
          refine y_aload_n hg dX3_nearly_67 rfl ?_
          refine y_getr (j := 8) hg cf3 (hM.m) (by decide) rfl (hM.r_trial) q919 dX3_nearly_68 ?_
          refine y_cVl hg (cM_manyOf (P := neP A (neD (nI q)) i) hM (Or.inr rfl) hP (hw3.1.wm hW) hrow3 RMm.hu0) iX3_manyOf q1142 (hM.m) cf3 rfl rfl (by simp [Value.category]) (Nat.le_refl _) (Nat.le_refl _) (by decide) dX3_nearly_71 (fun r σ5 hp => ?_)
          obtain ⟨rfl, hX, hC, hf5⟩ := hp
          have hw5 := hw3.go hf5 (fun a j z => by unfold MyP MkP at z; unfold ME; omega)
          have hrow5 : ∀ j, j < 25 → σ5.2.2.1 164 j = neR A (neD (nI q)) i j := fun j hj => (hf5.i (by omega) (by unfold MyP MkP; omega)).trans (hrow3 j hj)
          refine y_lconst (v := 0) hg dX3_nearly_74 rfl ?_
          refine y_lc_le hg 85 dX3_nearly_75 dX3_nearly_76 (by decide) (fun hc3 => ?_) (fun hc3 => ?_)
          · refine y_iconst (v := nI 0) hg dX3_nearly_85 rfl ?_
            have := (pk_lLE (b := 0) (by omega) (by omega)).mp hc3
            exact K _ _ hw5 hrow5 (by rw [en, if_neg (by omega)])
          · refine y_iconst (v := nI 1) hg dX3_nearly_79 rfl ?_
            refine y_iload_n hg dX3_nearly_80 rfl ?_
            refine y_ishl hg dX3_nearly_81 ?_
            refine y_goto hg 86 dX3_nearly_82 (by decide) ?_
            exact K _ _ hw5 hrow5 (by rw [en, if_pos (Nat.pos_of_ne_zero (fun z => hc3 (by rw [z]; decide)))])
      refine y_iload_n hg dX3_nearly_28 rfl ?_
      refine y_bipush (v := nI 8) hg dX3_nearly_29 rfl ?_
      refine y_icmp_ge hg 105 dX3_nearly_31 (by decide) (fun hT => absurd hT (ge_c hi (by decide))) (fun _ => ?_)
      refine y_iload_n hg dX3_nearly_34 rfl ?_
      refine y_if_ne hg 42 dX3_nearly_35 (by decide) (fun hc1 => ?_) (fun hc1 => ?_)
      · refine y_iconst (v := -1) hg dX3_nearly_42 rfl ?_
        exact J _ (by unfold neD; rw [if_neg hc1])
      · refine y_iconst (v := nI 1) hg dX3_nearly_38 rfl ?_
        refine y_goto hg 43 dX3_nearly_39 (by decide) ?_
        exact J _ (by unfold neD; rw [if_pos hc1])
    · intro s hI
      obtain ⟨hws, hrow⟩ := hI
      have hM := hws.1.1
      refine y_iload_n hg dX3_nearly_28 rfl ?_
      refine y_bipush (v := nI 8) hg dX3_nearly_29 rfl ?_
      refine y_icmp_ge hg 105 dX3_nearly_31 (by decide) (fun _ => ?_) (fun hF => absurd (le_c (Nat.le_refl _) (by decide)) hF)
      refine y_iload_n hg dX3_nearly_105 rfl ?_
      refine y_iret hg hr ⟨_, rfl, ?_⟩ dX3_nearly_106 (Nat.le_refl _) (Nat.le_refl _)
      exact ⟨rfl, hws.fin⟩
  · refine y_bipush (v := -2) hg dX3_nearly_10 rfl ?_
    refine y_iret hg hr ⟨_, rfl, ?_⟩ dX3_nearly_12 (Nat.le_refl _) (Nat.le_refl _)
    have eo : rNear A q = -2 := by unfold rNear; rw [if_neg (b2F hc)]
    exact ⟨eo.symm, hR, FrR.rf⟩
end Near2

