section RHouse
variable {ll : Launch} {B : Bs} {σ : Mem} {A : Ab} {sd : Int64} {σ0 : Mem}
theorem spl_b {n : Nat} : ∀ f q S, q ≤ (spl A n f q S).1 ∧ (spl A n f q S).1 ≤ q + f
  | 0, q, S => ⟨Nat.le_refl _, Nat.le_refl _⟩
  | f + 1, q, S => by
    rw [spl]
    by_cases e : (rnx A 97 8 q).isSome = true
    · rw [if_pos e]
      have := spl_b (n := n) f (q + 1) (adL S n (rtx A q))
      omega
    · rw [if_neg e]; exact ⟨Nat.le_refl _, by show q ≤ _; omega⟩
theorem wK_b {n q : Nat} {S : Ab} : (wK A n q S).2.1 ≤ q + 2 ∧ ((wK A n q S).1 = true → q < (wK A n q S).2.1 ∧ (wK A n q S).2.1 ≤ rln A) := by
  unfold wK
  by_cases e : (rnx A 65 4 q).isSome = true ∧ 0 < sz S n
  · rw [if_pos e]
    by_cases f : (rnx A 48 10 (q + 1)).isSome = true
    · rw [if_pos f]
      obtain ⟨-, f2, f3, f4⟩ := rnx_s f
      exact ⟨Nat.le_refl _, fun _ => ⟨by show q < q + 2; omega, by show q + 2 ≤ _; omega⟩⟩
    · rw [if_neg f]; exact ⟨by show q + 1 ≤ _; omega, fun z => absurd z Bool.false_ne_true⟩
  · rw [if_neg e]; exact ⟨by show q ≤ _; omega, fun z => absurd z Bool.false_ne_true⟩
theorem xKd_b {j n q : Nat} {S : Ab} : (xKd A j n q S).2.1 ≤ q + 1 ∧ ((xKd A j n q S).1 = true → q < (xKd A j n q S).2.1 ∧ (xKd A j n q S).2.1 ≤ rln A) := by
  unfold xKd
  by_cases e : (rnx A 65 4 q).isSome = true ∧ hasB (S 11 j) (nI (rtx A q - 65)) = false
  · rw [if_pos e]
    obtain ⟨-, f2, f3, f4⟩ := rnx_s e.1
    exact ⟨Nat.le_refl _, fun _ => ⟨by show q < q + 1; omega, by show q + 1 ≤ _; omega⟩⟩
  · rw [if_neg e]; exact ⟨by show q ≤ _; omega, fun z => absurd z Bool.false_ne_true⟩
theorem xP_b' {n q : Nat} {S : Ab} : (xPart A n S q).2.1 ≤ q + 9 ∧ ((xPart A n S q).1 = true → q < (xPart A n S q).2.1 ∧ (xPart A n S q).2.1 ≤ rln A) := by
  by_cases t1 : rtx A q = 119
  · rw [xP_w t1]
    by_cases h : n < 10
    · rw [if_pos h]
      have h1 := spl_b (A := A) (n := n) 6 (q + 1) (up2 S 2 n (nI 0))
      have h2 := wK_b (A := A) (n := n) (q := (spl A n 6 (q + 1) (up2 S 2 n (nI 0))).1) (S := (spl A n 6 (q + 1) (up2 S 2 n (nI 0))).2)
      exact ⟨by omega, fun z => by have := h2.2 z; omega⟩
    · rw [if_neg h]; exact ⟨by show q ≤ _; omega, fun z => absurd z Bool.false_ne_true⟩
  by_cases t2 : rtx A q = 43
  · rw [xP_l t2]
    by_cases h : sm (bg (S 11)) 8 < 12
    · rw [if_pos h]
      by_cases e : (rnx A 97 8 (q + 1)).isSome = true
      · rw [if_pos e]
        obtain ⟨-, f2, f3, f4⟩ := rnx_s e
        exact ⟨by show q + 2 ≤ _; omega, fun _ => ⟨by show q < q + 2; omega, by show q + 2 ≤ _; omega⟩⟩
      · rw [if_neg e]; exact ⟨by show q + 1 ≤ _; omega, fun z => absurd z Bool.false_ne_true⟩
    · rw [if_neg h]; exact ⟨by show q ≤ _; omega, fun z => absurd z Bool.false_ne_true⟩
  by_cases t3 : rtx A q = 94
  · rw [xP_b t3]
    by_cases h : S 11 19 = nI 15
    · rw [if_pos h]; exact ⟨by show q ≤ _; omega, fun z => absurd z Bool.false_ne_true⟩
    · rw [if_neg h]
      have h2 := xKd_b (A := A) (j := 19) (n := n) (q := q + 1) (S := S)
      exact ⟨by omega, fun z => by have := h2.2 z; omega⟩
  by_cases t4 : rtx A q = 46
  · rw [xP_e t4]
    by_cases h : S 11 20 = nI 15
    · rw [if_pos h]; exact ⟨by show q ≤ _; omega, fun z => absurd z Bool.false_ne_true⟩
    · rw [if_neg h]
      have h2 := xKd_b (A := A) (j := 20) (n := n) (q := q + 1) (S := S)
      exact ⟨by omega, fun z => by have := h2.2 z; omega⟩
  by_cases t5 : rtx A q = 58
  · rw [xP_p t5]
    by_cases h : S 11 21 = nI 15 ∧ S 11 22 = nI 15 ∧ S 11 23 = nI 15 ∧ S 11 24 = nI 15
    · rw [if_pos h]; exact ⟨by show q ≤ _; omega, fun z => absurd z Bool.false_ne_true⟩
    · rw [if_neg h]
      by_cases e : (rnx A 65 4 (q + 1)).isSome = true ∧ ¬ S 11 (21 + (rtx A (q + 1) - 65)) = nI 15
      · rw [if_pos e]
        have h2 := xKd_b (A := A) (j := 21 + (rtx A (q + 1) - 65)) (n := n) (q := q + 2) (S := S)
        exact ⟨by omega, fun z => by have := h2.2 z; omega⟩
      · rw [if_neg e]; exact ⟨by show q + 1 ≤ _; omega, fun z => absurd z Bool.false_ne_true⟩
  · rw [xP_o ⟨t1, t2, t3, t4, t5⟩]; exact ⟨by show q ≤ _; omega, fun z => absurd z Bool.false_ne_true⟩
theorem cX_readHouse (hW : WFA A) (hR : RX B A sd σ) : MT ll B 5 4 28 yX0_readHouse cX0_readHouse 1 (some .int) [.ref (B.1 + 0)] σ (pI fun r σ' => r = (mR0 A).1 ∧ WXs B A sd σ σ' ∧ ((mR0 A).1 = -9 → ∃ q, RdX σ' q (mR0 A).2.1 (mR0 A).2.2 ∧ WFS (mR0 A).2.1 (mR0 A).2.2)) := by
  have hL := hR.1
  have hn := hL.n
  obtain ⟨hln, hl180⟩ := hW.lenN
  have hw0 : WXs B A sd σ σ := ⟨hR, Fr.rf⟩
  obtain ⟨P, hP⟩ : ∃ P, P = mR0 A := ⟨_, rfl⟩
  have hx : xRun A (rln A) 0 0 zA = P := by rw [hP]; exact (mx_run (rln A) 0 0 0 0 zA (rln A) (by omega) (Nat.le_refl _)).symm
  rw [← hP]
  refine MT.of (by decide) (Nat.le_of_ble_eq_true rfl) (fun g hg hr => ?_)
  have LOOP : ∀ (G q n : Nat) (S : Ab) (s : Mem), rln A ≤ q + G → q ≤ rln A → WFS n S → WXs B A sd σ s → RdX s q n S → xRun A G q n S = P → YY g 1 s 4 28 24 [(0, .ref (B.1 + 0))] [] := by
    intro G
    induction G with
    | zero =>
      intro q n S s hG hq hS hws hds hx
      have hL := hws.1.1
      have e : P = (-9, n, S) := hx.symm
      rw [e] at hr
      refine y_aload_n hg dX0_readHouse_24 rfl ?_
      refine y_geti (j := 18) hg cf0 (hL.x) (by decide) rfl q190 dX0_readHouse_25 ?_
      refine y_ti (hds.1) ?_
      refine y_aload_n hg dX0_readHouse_28 rfl ?_
      refine y_geti (j := 17) hg cf0 (hL.x) (by decide) rfl q189 dX0_readHouse_29 ?_
      refine y_ti (hws.1.len.trans hln) ?_
      refine y_icmp_ge hg 47 dX0_readHouse_32 (by decide) (fun _ => ?_) (fun hF => absurd (nI_le (by omega) (by omega)) hF)
      refine y_bipush (v := -9) hg dX0_readHouse_47 rfl ?_
      refine y_iret hg hr ⟨_, rfl, ?_⟩ dX0_readHouse_49 (Nat.le_refl _) (Nat.le_refl _)
      exact ⟨rfl, hws, fun _ => ⟨q, hds, hS⟩⟩
    | succ G ih =>
      intro q n S s hG hq hS hws hds hx
      have hL := hws.1.1
      rw [xRun] at hx
      by_cases hlt : q < rln A
      · rw [if_pos hlt] at hx
        have hb := xP_b' (A := A) (n := n) (q := q) (S := S)
        refine y_aload_n hg dX0_readHouse_24 rfl ?_
        refine y_geti (j := 18) hg cf0 (hL.x) (by decide) rfl q190 dX0_readHouse_25 ?_
        refine y_ti (hds.1) ?_
        refine y_aload_n hg dX0_readHouse_28 rfl ?_
        refine y_geti (j := 17) hg cf0 (hL.x) (by decide) rfl q189 dX0_readHouse_29 ?_
        refine y_ti (hws.1.len.trans hln) ?_
        refine y_icmp_ge hg 47 dX0_readHouse_32 (by decide) (fun hT => absurd hT (nI_ge hlt (by omega))) (fun _ => ?_)
        refine y_aload_n hg dX0_readHouse_35 rfl ?_
        refine y_cVi hg (cX_readPart hW hws hS hds hlt) iX0_readPart q308 (hL.x) cf0 rfl rfl (by simp [Value.category]) (Nat.le_refl _) (Nat.le_refl _) (by decide) dX0_readHouse_36 (fun r s1 hp => ?_)
        obtain ⟨rfl, h1, h2, h3⟩ := hp
        refine y_if_ne hg 24 dX0_readHouse_39 (by decide) (fun hc => ?_) (fun hc => ?_)
        · have hb1 := b2T hc
          rw [if_pos hb1] at hx
          exact ih _ _ _ s1 (by have := hb.2 hb1; omega) (hb.2 hb1).2 (xPart_wf hS hb1) h1 (h3 hb1) hx
        · have hb1 := b2F hc
          rw [if_neg hb1] at hx
          have hL := h1.1.1
          refine y_aload_n hg dX0_readHouse_42 rfl ?_
          refine y_geti (j := 18) hg cf0 (hL.x) (by decide) rfl q190 dX0_readHouse_43 ?_
          refine y_ti (h2) ?_
          refine y_iret hg hr ⟨_, rfl, ?_⟩ dX0_readHouse_46 (Nat.le_refl _) (Nat.le_refl _)
          rw [← hx]
          exact ⟨rfl, h1, fun z => absurd z (nk9 (by omega))⟩
      · rw [if_neg hlt] at hx
        refine y_aload_n hg dX0_readHouse_24 rfl ?_
        refine y_geti (j := 18) hg cf0 (hL.x) (by decide) rfl q190 dX0_readHouse_25 ?_
        refine y_ti (hds.1) ?_
        refine y_aload_n hg dX0_readHouse_28 rfl ?_
        refine y_geti (j := 17) hg cf0 (hL.x) (by decide) rfl q189 dX0_readHouse_29 ?_
        refine y_ti (hws.1.len.trans hln) ?_
        refine y_icmp_ge hg 47 dX0_readHouse_32 (by decide) (fun _ => ?_) (fun hF => absurd (nI_le (by omega) (by omega)) hF)
        refine y_bipush (v := -9) hg dX0_readHouse_47 rfl ?_
        refine y_iret hg hr ⟨_, rfl, ?_⟩ dX0_readHouse_49 (Nat.le_refl _) (Nat.le_refl _)
        rw [← hx]
        exact ⟨rfl, hws, fun _ => ⟨q, hds, hS⟩⟩
  refine y_aload_n hg dX0_readHouse_0 rfl ?_
  refine y_iconst (v := nI 0) hg dX0_readHouse_1 rfl ?_
  refine y_puti (j := 18) hg cf0 (hL.x) (by decide) rfl rfl q190 dX0_readHouse_2 ?_
  refine y_aload_n hg dX0_readHouse_5 rfl ?_
  refine y_iconst (v := nI 0) hg dX0_readHouse_6 rfl ?_
  refine y_puti (j := 19) hg cf0 (hL.x) (by decide) rfl rfl q191 dX0_readHouse_7 ?_
  have hw1 : WXs B A sd σ (setI σ 0 18 (nI 0)) := hw0.st hW (by unfold XR; omega)
  have hw2 : WXs B A sd σ (setI (setI σ 0 18 (nI 0)) 0 19 (nI 0)) := hw1.st hW (by unfold XR; omega)
  have a1 : (setI (setI σ 0 18 (nI 0)) 0 19 (nI 0)).2.2.1 0 18 = nI 0 := (gI_n (by omega)).trans gI_s
  have a2 : (setI (setI σ 0 18 (nI 0)) 0 19 (nI 0)).2.2.1 0 19 = nI 0 := gI_s
  have hL := hw2.1.1
  have hn := hL.n
  generalize setI (setI σ 0 18 (nI 0)) 0 19 (nI 0) = s2 at hw2 a1 a2 hL hn ⊢
  refine y_aload_n hg dX0_readHouse_10 rfl ?_
  refine y_getr (j := 21) hg cf0 (hL.x) (by decide) rfl (hL.r_read) q193 dX0_readHouse_11 ?_
  refine y_newS hg (by decide) (by decide) (by decide) (by show 1 ≤ 7; decide) dX0_readHouse_14 dX0_readHouse_17 dX0_readHouse_18 (fun s3 hmk => ?_)
  obtain ⟨hnw, hsz, hIs, hz⟩ := hmk
  have hw3 : WXs B A sd σ s3 := hw2.nw hW hnw
  have a3 : s3.2.2.1 0 18 = nI 0 := by rw [(hnw.2 0 (by omega)).2.1]; exact a1
  have a4 : s3.2.2.1 0 19 = nI 0 := by rw [(hnw.2 0 (by omega)).2.1]; exact a2
  have hL := hw3.1.1
  refine y_cVv hg (cX_scopy hL.s_read hIs (by omega)) iX1_copy q301 (hL.s_read.o) cf1 rfl rfl (by simp [Value.category]) (by decide) (by decide) (by decide) dX0_readHouse_21 (fun s4 hp => ?_)
  obtain ⟨hf, hro⟩ := hp
  have hw4 : WXs B A sd σ s4 := hw3.goR hW hf (fun a j z => by unfold SP at z; unfold XR; omega)
  refine LOOP (rln A) 0 0 zA s4 (by omega) (by omega) (WFm.z (p := 0) (fi := 0)).1 hw4 ⟨(hf.i (by omega) (fun z => by unfold SP at z; omega)).trans a3, (hf.i (by omega) (fun z => by unfold SP at z; omega)).trans a4, fun j hj => ?_, fun w hw => by omega⟩ hx
  rw [hro j, if_pos hj, ro_at]
  have := rA_in s2.2.1 j
  exact (hz _ _ (by omega) (by omega)).1
theorem cX_fault (hW : WFA A) (hR : RX B A sd σ) : MT ll B 24 4 28 yX0_fault cX0_fault 1 (some .int) [.ref (B.1 + 0)] σ (oX B sd σ ((mR0 A).1, A)) := by
  have hL := hR.1
  refine MT.of (by decide) (Nat.le_of_ble_eq_true rfl) (fun g hg hr => ?_)
  refine y_aload_n hg dX0_fault_0 rfl ?_
  refine y_callV (As := []) (rest := []) hg (cX_readHouse hW hR) iX0_readHouse q297 hL.x cf0 rfl rfl (by decide) (by decide) (by decide) (by decide) dX0_fault_1 (fun v σ1 h => ?_)
  obtain ⟨r, rfl, h1, h2, h3⟩ := h
  refine y_iret hg hr ⟨_, rfl, ?_⟩ dX0_fault_4 (by decide) (by decide)
  exact ⟨h1, h2.fin⟩
theorem cM_fault (hW : WFA A) (hR : RMm B A sd σ) : MT ll B 24 0 0 yX3_fault cX3_fault 1 (some .int) [.ref (B.1 + 157)] σ (oM B sd σ ((mR0 A).1, A)) := by
  have hM := hR.1
  refine MT.of (by decide) (Nat.le_of_ble_eq_true rfl) (fun g hg hr => ?_)
  refine y_aload_n hg dX3_fault_0 rfl ?_
  refine y_cVi hg (cM_readText hW hR) iX3_readText q1063 (hM.m) cf3 rfl rfl (by simp [Value.category]) (Nat.le_refl _) (Nat.le_refl _) (by decide) dX3_fault_1 (fun r σ1 hp => ?_)
  obtain ⟨rfl, h2, h3⟩ := hp
  refine y_iret hg hr ⟨_, rfl, ?_⟩ dX3_fault_4 (Nat.le_refl _) (Nat.le_refl _)
  exact ⟨rfl, h2.fin⟩
end RHouse

