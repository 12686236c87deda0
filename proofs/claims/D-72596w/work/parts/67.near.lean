section Near
variable {ll : Launch} {B : Bs} {σ : Mem} {A : Ab} {sd : Int64}
/-- one letter more, or less -/
def neD (q : Int32) : Int32 := if q = 0 then nI 1 else -1
def neR (A : Ab) (d : Int32) (x : Nat) : Nat → Int32 := upf (A 11) x (A 11 x + d)
def neP (A : Ab) (d : Int32) (x : Nat) : Pb := pb A (neR A d x) (uN (neR A d x))
def neS (A : Ab) (d : Int32) (x : Nat) (s : Int32) : Int32 := if A 11 x + d < 0 then s else s ||| (if 0 < tot (neP A d x) then nI 1 <<< (nI x &&& 31) else nI 0)
def rNear (A : Ab) (q : Int32) : Int32 := if inL q.toInt64 0 1 = true then fo (neS A (neD q)) (nI 0) 8 else -2
theorem or_0 (x : Int32) : x ||| nI 0 = x := by
  apply Int32.toBitVec_inj.mp
  rw [Int32.toBitVec_or]
  show x.toBitVec ||| 0#32 = x.toBitVec
  rw [BitVec.or_zero]
theorem ad_sub (x d : Int32) : x + d - d = x := by rw [Int32.add_sub_cancel]
theorem near_wf (hW : WFA A) {q x : Nat} (hq : q ≤ 1) (hx : x < 8) (h : ¬ A 11 x + neD (nI q) < 0) : WFP (neP A (neD (nI q)) x) := by
  have hr := hW.now
  have hb := hr.1 x hx
  have hge : bg (A 11) x ≤ sm (bg (A 11)) 8 := sm_ge 8 hx
  have hsm := hr.2.1
  have hv : ∃ c, c ≤ bg (A 11) x + 1 ∧ A 11 x + neD (nI q) = nI c := by
    rw [hb] at h ⊢
    have h01 : q = 0 ∨ q = 1 := by omega
    rcases h01 with rfl | rfl
    · exact ⟨bg (A 11) x + 1, by omega, nI_add _ _⟩
    · rw [show neD (nI 1) = -1 from rfl] at h ⊢
      rcases Nat.eq_zero_or_pos (bg (A 11) x) with z | z
      · rw [z] at h; exact absurd dn_lt h
      · refine ⟨bg (A 11) x - 1, by omega, ?_⟩
        rw [show bg (A 11) x = (bg (A 11) x - 1) + 1 by omega, pk_m1]
        rfl
  obtain ⟨c, hc, e⟩ := hv
  refine pb_wf hW (fun y hy => ?_) ?_
  · unfold neR
    rw [e]
    by_cases ey : y = x
    · subst ey; rw [bg_upf (by omega), upf_s]
    · rw [bg_upn ey, upf_n ey]; exact hr.1 y hy
  · unfold neR
    rw [e]
    have hs := sm_at (v := bg (A 11)) (u := bg (upf (A 11) x (nI c))) (x := x) 8 hx (fun y hy => bg_upn hy)
    rw [bg_upf (by omega)] at hs
    omega
theorem ro_setbag {k x : Nat} {v : Int32} (hx : x < 8) {j : Nat} : rowOf (setI σ (k + 1) x v) k j = upf (rowOf σ k) x v j := by
  by_cases e : j = x
  · subst e; rw [upf_s, ro_bag hx, gI_s]
  · rw [upf_n e]
    unfold rowOf
    rw [gI_n (by omega), gI_n (by omega), gI_n (by omega), gI_n (by omega), gI_n (by omega), gI_n (by omega)]
theorem cX_nearly (hW : WFA A) (hR : RX B A sd σ) (q : Int32) : MT ll B 24 0 0 yX0_nearly cX0_nearly 4 (some .int) [.ref (B.1 + 0), .int q] σ (oX B sd σ (rNear A q, A)) := by
  have hL := hR.1
  have hm := hW.nmle
  refine MT.of (by decide) (Nat.le_of_ble_eq_true rfl) (fun g hg hr => ?_)
  refine y_iload_n hg dX0_nearly_0 rfl ?_
  refine y_i2l hg dX0_nearly_1 ?_
  refine y_lconst (v := 0) hg dX0_nearly_2 rfl ?_
  refine y_lconst (v := 1) hg dX0_nearly_3 rfl ?_
  refine y_cSi hg (cX_isIn _ _ _) iX0_isIn q286 rfl rfl (by simp [Value.category]) (Nat.le_refl _) (Nat.le_refl _) (by decide) dX0_nearly_4 (fun r σ1 hp => ?_)
  obtain ⟨rfl, rfl⟩ := hp
  refine y_if_ne hg 13 dX0_nearly_7 (by decide) (fun hc => ?_) (fun hc => ?_)
  · have h1 := b2T hc
    have eo : rNear A q = fo (neS A (neD q)) (nI 0) 8 := by unfold rNear; rw [if_pos h1]
    rw [eo] at hr
    obtain ⟨q, hq, rfl⟩ := (inL_iff 1 rfl (by decide)).mp h1
    refine y_iconst (v := nI 0) hg dX0_nearly_13 rfl ?_
    refine y_istore_n hg dX0_nearly_14 (by decide) (lv1 := [(0, _), (1, _), (2, _)]) rfl ?_
    refine y_iconst (v := nI 0) hg dX0_nearly_15 rfl ?_
    refine y_istore_n hg dX0_nearly_16 (by decide) (lv1 := [(0, _), (1, _), (2, _), (3, _)]) rfl ?_
    have LOOP := loop_st (S := Mem) (G := fun i s => YY g 4 s 0 0 17 [(0, .ref (B.1 + 0)), (1, .int (nI q)), (2, .int (fo (neS A (neD (nI q))) (nI 0) i)), (3, .int (nI i))] []) (I := fun i s => WX B A sd σ1 s) 8 ?_ ?_ 0 σ1 (Nat.zero_le _) (WX.rf hR)
    · exact LOOP
    · intro i s hi hws ih
      have hL := hws.1.1
      have hn := hL.n
      have ih' : ∀ (s' : Mem), WX B A sd σ1 s' → YY g 4 s' 0 0 17 [(0, .ref (B.1 + 0)), (1, .int (nI q)), (2, .int (neS A (neD (nI q)) i (fo (neS A (neD (nI q))) (nI 0) i))), (3, .int (nI (i + 1)))] [] := ih
      generalize fo (neS A (neD (nI q))) (nI 0) i = acc at *
      refine y_iload_n hg dX0_nearly_17 rfl ?_
      refine y_bipush (v := nI 8) hg dX0_nearly_18 rfl ?_
      refine y_icmp_ge hg 114 dX0_nearly_20 (by decide) (fun hT => absurd hT (ge_c hi (by decide))) (fun _ => ?_)
      refine y_aload_n hg dX0_nearly_23 rfl ?_
      refine y_getr (j := 3) hg cf0 (hL.x) (by decide) rfl (hL.r_trial) q175 dX0_nearly_24 ?_
      refine y_aload_n hg dX0_nearly_27 rfl ?_
      refine y_getr (j := 2) hg cf0 (hL.x) (by decide) rfl (hL.r_now) q174 dX0_nearly_28 ?_
      refine y_cVv hg (cX_scopy hL.s_trial hL.s_now (by omega)) iX1_copy q301 (hL.s_trial.o) cf1 rfl rfl (by simp [Value.category]) (Nat.le_refl _) (Nat.le_refl _) (by decide) dX0_nearly_31 (fun σ2 hp => ?_)
      obtain ⟨hf2, hr2⟩ := hp
      have hw2 := hws.goR hW hf2 (fun a j z => by unfold SP at z; unfold XE; omega)
      have hL := hw2.1.1
      have hbag : σ2.2.2.1 (6 + 1) i = A 11 i := by
        have := hr2 i
        rw [if_pos (by omega), hws.1.now (by omega), ro_bag hi] at this
        exact this
      have TAIL : ∀ (t : Mem), WX B A sd σ1 t → YY g 4 t 0 0 108 [(0, .ref (B.1 + 0)), (1, .int (nI q)), (2, .int (neS A (neD (nI q)) i acc)), (3, .int (nI i))] [] := by
        intro t ht
        refine y_iinc hg dX0_nearly_108 rfl (inc1 _) (by decide) (lv1 := [(0, _), (1, _), (2, _), (3, _)]) rfl ?_
        refine y_goto hg 17 dX0_nearly_111 (by decide) ?_
        exact ih' _ ht
      have J : ∀ d : Int32, d = neD (nI q) → YY g 4 σ2 0 0 53 [(0, .ref (B.1 + 0)), (1, .int (nI q)), (2, .int acc), (3, .int (nI i))] [.int d, .int (A 11 i), .int (nI i), .ref (B.1 + (6 + 1))] := by
        intro d hd
        subst hd
        refine y_iadd hg dX0_nearly_53 ?_
        refine y_iast hg _ (hL.s_trial.k_bag) rfl (by omega) dX0_nearly_54 ?_
        have hw3 : WX B A sd σ1 (setI σ2 (6 + 1) i (A 11 i + neD (nI q))) := hw2.goR hW (Q := XE) ((FrR.rf).stI (by unfold XE; omega)) (fun a j z => z)
        have hrow : ∀ j, j < 25 → rowOf (setI σ2 (6 + 1) i (A 11 i + neD (nI q))) 6 j = neR A (neD (nI q)) i j := by
          intro j hj
          rw [ro_setbag hi]
          unfold neR
          by_cases e : j = i
          · subst e; rw [upf_s, upf_s]
          · rw [upf_n e, upf_n e, hr2 j, if_pos hj]; exact hws.1.now hj
        have hb3 : (setI σ2 (6 + 1) i (A 11 i + neD (nI q))).2.2.1 (6 + 1) i = A 11 i + neD (nI q) := gI_s
        generalize setI σ2 (6 + 1) i (A 11 i + neD (nI q)) = s3 at *
        have hL := hw3.1.1
        have em := hw3.1.many.trans hW.1.1
        refine y_aload_n hg dX0_nearly_55 rfl ?_
        refine y_getr (j := 3) hg cf0 (hL.x) (by decide) rfl (hL.r_trial) q175 dX0_nearly_56 ?_
        refine y_getrN (j := 0) hg cf1 (hL.s_trial.o) (by decide) rfl (hL.s_trial.r_bag) nf0 dX0_nearly_59 ?_
        refine y_iload_n hg dX0_nearly_62 rfl ?_
        refine y_iald hg _ (hL.s_trial.k_bag) rfl (by omega) dX0_nearly_63 ?_
        refine y_ti (hb3) ?_
        refine y_if_lt hg 108 dX0_nearly_64 (by decide) (fun hc2 => ?_) (fun hc2 => ?_)
        · have e : neS A (neD (nI q)) i acc = acc := by unfold neS; rw [if_pos hc2]
          rw [e] at TAIL
          exact TAIL _ hw3
        · have hP := near_wf hW hq hi hc2
          have tb := tot_b hP
          have hub : neR A (neD (nI q)) i 8 = A 11 8 := by unfold neR; rw [upf_n (by omega)]
          refine y_aload_n hg dX0_nearly_67 rfl ?_
          refine y_aload_n hg dX0_nearly_68 rfl ?_
          refine y_getr (j := 3) hg cf0 (hL.x) (by decide) rfl (hL.r_trial) q175 dX0_nearly_69 ?_
          refine y_aload_n hg dX0_nearly_72 rfl ?_
          refine y_cVi hg (cX_all hL) iX0_all q372 (hL.x) cf0 rfl rfl (by simp [Value.category]) (Nat.le_refl _) (Nat.le_refl _) (by decide) dX0_nearly_73 (fun r σ4 hp => ?_)
          obtain ⟨rfl, rfl⟩ := hp
          refine y_aload_n hg dX0_nearly_76 rfl ?_
          refine y_getr (j := 2) hg cf0 (hL.x) (by decide) rfl (hL.r_now) q174 dX0_nearly_77 ?_
          refine y_getiN (j := 1) hg cf1 (hL.s_now.o) (by decide) rfl nf1 dX0_nearly_80 ?_
          refine y_ti (hw3.1.barred) ?_
          refine y_iconst (v := -1) hg dX0_nearly_83 rfl ?_
          refine y_ixor hg dX0_nearly_84 ?_
          refine y_iand hg dX0_nearly_85 ?_
          refine y_cVv hg (cX_look (P := neP A (neD (nI q)) i) hL hL.s_trial (Or.inr rfl) hP (hw3.1.wx hW) hrow (fun w hw => by rw [em]; refine (u_all hm hw).trans ?_; show _ = !hasB (neR A (neD (nI q)) i 8) (nI w); rw [hub])) iX0_look_2 q376 (hL.x) cf0 rfl rfl (by simp [Value.category]) (Nat.le_refl _) (Nat.le_refl _) (by decide) dX0_nearly_86 (fun σ5 hp => ?_)
          obtain ⟨q1, q2, q3, q4, q5, q6⟩ := hp
          have hw5 := hw3.go hW (q4.mono (fun a j z => by unfold LkP at z; unfold XE; omega)) q5 q6
          have hL := hw5.1.1
          have K : ∀ (t : Mem) (w : Int32), WX B A sd σ1 t → w = (if 0 < tot (neP A (neD (nI q)) i) then nI 1 <<< (nI i &&& 31) else nI 0) → YY g 4 t 0 0 106 [(0, .ref (B.1 + 0)), (1, .int (nI q)), (2, .int acc), (3, .int (nI i))] [.int w, .int acc] := by
            intro t w ht hw
            subst hw
            refine y_ior hg dX0_nearly_106 ?_
            refine y_istore_n hg dX0_nearly_107 (by decide) (lv1 := [(0, _), (1, _), (2, _), (3, _)]) rfl ?_
            have e : neS A (neD (nI q)) i acc = acc ||| (if 0 < tot (neP A (neD (nI q)) i) then nI 1 <<< (nI i &&& 31) else nI 0) := by unfold neS; rw [if_neg hc2]
            rw [e] at TAIL
            exact TAIL _ ht
          refine y_iload_n hg dX0_nearly_89 rfl ?_
          refine y_aload_n hg dX0_nearly_90 rfl ?_
          refine y_cVl hg (cX_countAll hP q1 q2) iX0_countAll q404 (hL.x) cf0 rfl rfl (by simp [Value.category]) (Nat.le_refl _) (Nat.le_refl _) (by decide) dX0_nearly_91 (fun r σ6 hp => ?_)
          obtain ⟨rfl, hf6, hC6⟩ := hp
          have hw6 := hw5.goR hW hf6 (fun a j z => by unfold XE; omega)
          refine y_lconst (v := 0) hg dX0_nearly_94 rfl ?_
          refine y_lc_le hg 105 dX0_nearly_95 dX0_nearly_96 (by decide) (fun hc3 => ?_) (fun hc3 => ?_)
          · refine y_iconst (v := nI 0) hg dX0_nearly_105 rfl ?_
            have := (pk_lLE (b := 0) (by omega) (by omega)).mp hc3
            exact K _ _ hw6 (by rw [if_neg (by omega)])
          · refine y_iconst (v := nI 1) hg dX0_nearly_99 rfl ?_
            refine y_iload_n hg dX0_nearly_100 rfl ?_
            refine y_ishl hg dX0_nearly_101 ?_
            refine y_goto hg 106 dX0_nearly_102 (by decide) ?_
            exact K _ _ hw6 (by rw [if_pos (Nat.pos_of_ne_zero (fun z => hc3 (by rw [z]; decide)))])
      refine y_aload_n hg dX0_nearly_34 rfl ?_
      refine y_getr (j := 3) hg cf0 (hL.x) (by decide) rfl (hL.r_trial) q175 dX0_nearly_35 ?_
      refine y_getrN (j := 0) hg cf1 (hL.s_trial.o) (by decide) rfl (hL.s_trial.r_bag) nf0 dX0_nearly_38 ?_
      refine y_iload_n hg dX0_nearly_41 rfl ?_
      refine y_dup2 hg dX0_nearly_42 rfl rfl ?_
      refine y_iald hg _ (hL.s_trial.k_bag) rfl (by omega) dX0_nearly_43 ?_
      refine y_ti (hbag) ?_
      refine y_iload_n hg dX0_nearly_44 rfl ?_
      refine y_if_ne hg 52 dX0_nearly_45 (by decide) (fun hc1 => ?_) (fun hc1 => ?_)
      · refine y_iconst (v := -1) hg dX0_nearly_52 rfl ?_
        exact J _ (by unfold neD; rw [if_neg hc1])
      · refine y_iconst (v := nI 1) hg dX0_nearly_48 rfl ?_
        refine y_goto hg 53 dX0_nearly_49 (by decide) ?_
        exact J _ (by unfold neD; rw [if_pos hc1])
    · intro s hws
      have hL := hws.1.1
      refine y_iload_n hg dX0_nearly_17 rfl ?_
      refine y_bipush (v := nI 8) hg dX0_nearly_18 rfl ?_
      refine y_icmp_ge hg 114 dX0_nearly_20 (by decide) (fun _ => ?_) (fun hF => absurd (le_c (Nat.le_refl _) (by decide)) hF)
      refine y_iload_n hg dX0_nearly_114 rfl ?_
      refine y_iret hg hr ⟨_, rfl, ?_⟩ dX0_nearly_115 (Nat.le_refl _) (Nat.le_refl _)
      exact ⟨rfl, hws.fin⟩
  · refine y_bipush (v := -2) hg dX0_nearly_10 rfl ?_
    refine y_iret hg hr ⟨_, rfl, ?_⟩ dX0_nearly_12 (Nat.le_refl _) (Nat.le_refl _)
    have eo : rNear A q = -2 := by unfold rNear; rw [if_neg (b2F hc)]
    exact ⟨eo.symm, hR, Fr.rf⟩
end Near

