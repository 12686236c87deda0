section Ops4
variable {ll : Launch} {B : Bs} {σ : Mem} {A : Ab} {sd : Int64}
theorem nm_1 {A : Ab} {c : Nat} {f : Nat → Int32} (h : c ≠ 1) (hA : nm A ≤ 10) : nm (up1 A c f) ≤ 10 := by unfold nm; rw [up1_n (by omega)]; exact hA
theorem nm_uj {A : Ab} {c j : Nat} {v : Int32} (h : j ≠ 1) (hA : nm A ≤ 10) : nm (up2 A c j v) ≤ 10 := by unfold nm; rw [up2_n (by omega)]; exact hA
/-- undo -/
def oUndo (A : Ab) : Int32 × Ab := if A 1 2 = 0 then (-3, A) else (nI (na A - 1), up1 (up2 (up2 A 1 2 (nI (na A - 1))) 1 3 (nI ((nx A + 13) % 14))) 11 (A (12 + (nx A + 13) % 14)))
theorem wUndo (hW : WFA A) : WFA (oUndo A).2 := by
  have hx := hW.nx_e
  have ha := hW.na_e
  unfold oUndo
  split
  · exact hW
  · rename_i h
    have h0 : 0 < na A := by
      rcases Nat.eq_zero_or_pos (na A) with z | z
      · exact absurd (by rw [ha.1, z]; rfl) h
      · exact z
    show WFA (up1 (up2 (up2 A 1 2 (nI (na A - 1))) 1 3 (nI ((nx A + 13) % 14))) 11 (A (12 + (nx A + 13) % 14)))
    refine hW.ch (acts := Or.inr ⟨na A - 1, by omega, rfl⟩) (next := Or.inr ⟨(nx A + 13) % 14, by omega, rfl⟩) (now := Or.inr ?_) (diary := Or.inr (fun i hi h14 y hy ey => ?_))
    · rw [up1_s]
      exact hW.diary 0 (by rw [ha.1]; exact nI_lt h0 (by omega)) (by omega) _ hx.2 hx.1
    · rw [up1_n (by omega), up2_n (by omega), up2_s, nI_ltI (by omega) (by omega)] at hi
      rw [up1_n (by omega), up2_s] at ey
      have ey := nI_inj (by omega) (by omega) ey
      rw [up1_n (by omega), up2_row (by omega), up2_row (by omega), show (y + 13 - i) % 14 = (nx A + 13 - (i + 1)) % 14 by omega]
      exact hW.diary (i + 1) (by rw [ha.1]; exact nI_lt (by omega) (by omega)) (by omega) _ hx.2 hx.1
theorem und_e {a : Nat} (h : a < 14) : nI (a + 14 - 1) - nI (a + 14 - 1) / nI 14 * nI 14 = nI ((a + 13) % 14) := by
  rw [show a + 14 - 1 = a + 13 by omega, pk_rem (by omega) (by omega) (by omega)]
theorem cX_undo (hW : WFA A) (hR : RX B A sd σ) : MT ll B 24 0 0 yX0_undo cX0_undo 1 (some .int) [.ref (B.1 + 0)] σ (oX B sd σ (oUndo A)) := by
  have hL := hR.1
  obtain ⟨ex, hx⟩ := hW.nx_e
  obtain ⟨ea, ha⟩ := hW.na_e
  have e1 := hR.next.trans ex
  have e2 := hR.acts.trans ea
  have hm := hW.nmle
  refine MT.of (by decide) (Nat.le_of_ble_eq_true rfl) (fun g hg hr => ?_)
  refine y_aload_n hg dX0_undo_0 rfl ?_
  refine y_geti (j := 22) hg cf0 (hL.x) (by decide) rfl q194 dX0_undo_1 ?_
  refine y_ti (e2) ?_
  refine y_if_ne hg 10 dX0_undo_4 (by decide) (fun hc => ?_) (fun hc => ?_)
  · have h0 : 0 < na A := by
      rcases Nat.eq_zero_or_pos (na A) with z | z
      · exact absurd (by rw [z]; rfl) hc
      · exact z
    have hy : (nx A + 13) % 14 < 14 := by omega
    have eo : oUndo A = (nI (na A - 1), up1 (up2 (up2 A 1 2 (nI (na A - 1))) 1 3 (nI ((nx A + 13) % 14))) 11 (A (12 + (nx A + 13) % 14))) := by
      unfold oUndo
      rw [if_neg (by rw [ea]; exact hc)]
    rw [eo] at hr
    have hR1 := (hR.u2 hm (v := nI (na A - 1)) 1 2 (by unfold dm; omega) (by omega) (by omega)).u2 (nm_uj (by omega) hm) (v := nI ((nx A + 13) % 14)) 1 3 (by unfold dm; omega) (by omega) (by omega)
    refine y_aload_n hg dX0_undo_10 rfl ?_
    refine y_dup hg dX0_undo_11 rfl ?_
    refine y_geti (j := 22) hg cf0 (hL.x) (by decide) rfl q194 dX0_undo_12 ?_
    refine y_ti (e2) ?_
    refine y_iconst (v := nI 1) hg dX0_undo_15 rfl ?_
    refine y_isub hg dX0_undo_16 ?_
    refine y_ti (pk_sub h0) ?_
    refine y_puti (j := 22) hg cf0 (hL.x) (by decide) rfl rfl q194 dX0_undo_17 ?_
    refine y_aload_n hg dX0_undo_20 rfl ?_
    refine y_aload_n hg dX0_undo_21 rfl ?_
    refine y_geti (j := 23) hg cf0 (hL.x) (by decide) rfl q195 dX0_undo_22 ?_
    refine y_ti ((gI_n (by omega)).trans e1) ?_
    refine y_bipush (v := nI 14) hg dX0_undo_25 rfl ?_
    refine y_iadd hg dX0_undo_27 ?_
    refine y_ti (nI_add _ _) ?_
    refine y_iconst (v := nI 1) hg dX0_undo_28 rfl ?_
    refine y_isub hg dX0_undo_29 ?_
    refine y_ti (pk_sub (by omega)) ?_
    refine y_bipush (v := nI 14) hg dX0_undo_30 rfl ?_
    refine y_irem hg dX0_undo_32 (by decide) ?_
    refine y_ti (und_e hx) ?_
    refine y_puti (j := 23) hg cf0 (hL.x) (by decide) rfl rfl q195 dX0_undo_33 ?_
    have hL := hR1.1
    refine y_aload_n hg dX0_undo_36 rfl ?_
    refine y_getr (j := 2) hg cf0 (hL.x) (by decide) rfl (hL.r_now) q174 dX0_undo_37 ?_
    refine y_aload_n hg dX0_undo_40 rfl ?_
    refine y_getr (j := 24) hg cf0 (hL.x) (by decide) rfl (hL.r_before) q196 dX0_undo_41 ?_
    refine y_aload_n hg dX0_undo_44 rfl ?_
    refine y_geti (j := 23) hg cf0 (hL.x) (by decide) rfl q195 dX0_undo_45 ?_
    refine y_ti (gI_s) ?_
    refine y_aald4 hg _ (hL.k_before) rfl hy (hL.e_before hy) dX0_undo_48 ?_
    refine y_cVv hg (cX_scopy hL.s_now (hL.w_before hy) (by omega)) iX1_copy q301 (hL.s_now.o) cf1 rfl rfl (by simp [Value.category]) (Nat.le_refl _) (Nat.le_refl _) (by decide) dX0_undo_49 (fun σ2 hp => ?_)
    obtain ⟨hf1, hr1⟩ := hp
    have hL := hR1.1.frR hf1
    refine y_aload_n hg dX0_undo_52 rfl ?_
    refine y_geti (j := 22) hg cf0 (hL.x) (by decide) rfl q194 dX0_undo_53 ?_
    refine y_iret hg hr ⟨_, rfl, ?_⟩ dX0_undo_56 (Nat.le_refl _) (Nat.le_refl _)
    have hR2 := hR1.row (c0 := 11) (f := A (12 + (nx A + 13) % 14)) (nm_uj (by omega) (nm_uj (by omega) hm)) (by omega) hf1 (fun j hj => by
      have := hr1 j
      rw [if_pos hj] at this
      refine this.trans ?_
      have q := hR1.row_g (c := 12 + (nx A + 13) % 14) (by omega) hj
      rw [kS_d hy, up2_row (by omega), up2_row (by omega)] at q
      exact q)
    refine ⟨?_, hR2, (((Fr.rf).stI (by omega)).stI (by omega)).tr (lt157 (by omega) hf1)⟩
    refine hR2.acts.trans ?_
    rw [up1_n (by omega), up2_n (by omega), up2_s]
  · refine y_bipush (v := -3) hg dX0_undo_7 rfl ?_
    refine y_iret hg hr ⟨_, rfl, ?_⟩ dX0_undo_9 (Nat.le_refl _) (Nat.le_refl _)
    have eo : oUndo A = (-3, A) := by unfold oUndo; rw [if_pos (by rw [ea]; exact hc)]
    rw [eo]
    exact ⟨rfl, hR, Fr.rf⟩
theorem cM_undo (hW : WFA A) (hR : RMm B A sd σ) : MT ll B 24 0 0 yX3_undo cX3_undo 2 (some .int) [.ref (B.1 + 157)] σ (oM B sd σ (oUndo A)) := by
  have hM := hR.1
  obtain ⟨ex, hx⟩ := hW.nx_e
  obtain ⟨ea, ha⟩ := hW.na_e
  have e1 := hR.next.trans ex
  have e2 := hR.acts.trans ea
  have hm := hW.nmle
  refine MT.of (by decide) (Nat.le_of_ble_eq_true rfl) (fun g hg hr => ?_)
  refine y_aload_n hg dX3_undo_0 rfl ?_
  refine y_geti (j := 10) hg cf3 (hM.m) (by decide) rfl q921 dX3_undo_1 ?_
  refine y_ti (e2) ?_
  refine y_if_ne hg 10 dX3_undo_4 (by decide) (fun hc => ?_) (fun hc => ?_)
  · have h0 : 0 < na A := by
      rcases Nat.eq_zero_or_pos (na A) with z | z
      · exact absurd (by rw [z]; rfl) hc
      · exact z
    have hy : (nx A + 13) % 14 < 14 := by omega
    have eo : oUndo A = (nI (na A - 1), up1 (up2 (up2 A 1 2 (nI (na A - 1))) 1 3 (nI ((nx A + 13) % 14))) 11 (A (12 + (nx A + 13) % 14))) := by
      unfold oUndo
      rw [if_neg (by rw [ea]; exact hc)]
    rw [eo] at hr
    have hR1 := (hR.u2 hm (v := nI (na A - 1)) 1 2 (by unfold dm; omega) (by omega) (by omega)).u2 (nm_uj (by omega) hm) (v := nI ((nx A + 13) % 14)) 1 3 (by unfold dm; omega) (by omega) (by omega)
    refine y_aload_n hg dX3_undo_10 rfl ?_
    refine y_dup hg dX3_undo_11 rfl ?_
    refine y_geti (j := 10) hg cf3 (hM.m) (by decide) rfl q921 dX3_undo_12 ?_
    refine y_ti (e2) ?_
    refine y_iconst (v := nI 1) hg dX3_undo_15 rfl ?_
    refine y_isub hg dX3_undo_16 ?_
    refine y_ti (pk_sub h0) ?_
    refine y_puti (j := 10) hg cf3 (hM.m) (by decide) rfl rfl q921 dX3_undo_17 ?_
    refine y_aload_n hg dX3_undo_20 rfl ?_
    refine y_aload_n hg dX3_undo_21 rfl ?_
    refine y_geti (j := 11) hg cf3 (hM.m) (by decide) rfl q922 dX3_undo_22 ?_
    refine y_ti ((gI_n (by omega)).trans e1) ?_
    refine y_bipush (v := nI 14) hg dX3_undo_25 rfl ?_
    refine y_iadd hg dX3_undo_27 ?_
    refine y_ti (nI_add _ _) ?_
    refine y_iconst (v := nI 1) hg dX3_undo_28 rfl ?_
    refine y_isub hg dX3_undo_29 ?_
    refine y_ti (pk_sub (by omega)) ?_
    refine y_bipush (v := nI 14) hg dX3_undo_30 rfl ?_
    refine y_irem hg dX3_undo_32 (by decide) ?_
    refine y_ti (und_e hx) ?_
    refine y_puti (j := 11) hg cf3 (hM.m) (by decide) rfl rfl q922 dX3_undo_33 ?_
    refine y_iconst (v := nI 0) hg dX3_undo_36 rfl ?_
    refine y_istore_n hg dX3_undo_37 (by decide) (lv1 := [(0, _), (1, _)]) rfl ?_
    have hn := hR.1.n
    have eY : ∀ j, j < 25 → (setI (setI σ 157 10 (nI (na A - 1))) 157 11 (nI ((nx A + 13) % 14))).2.2.1 165 (25 * ((nx A + 13) % 14) + j) = A (12 + (nx A + 13) % 14) j := by
      intro j hj
      rw [gI_n (by omega), gI_n (by omega)]
      exact hR.diary hy hj
    have eN : (setI (setI σ 157 10 (nI (na A - 1))) 157 11 (nI ((nx A + 13) % 14))).2.2.1 157 11 = nI ((nx A + 13) % 14) := gI_s
    have eA : (setI (setI σ 157 10 (nI (na A - 1))) 157 11 (nI ((nx A + 13) % 14))).2.2.1 157 10 = nI (na A - 1) := (gI_n (by omega)).trans gI_s
    have hf0 : FrR (fun a _ => 157 ≤ a) σ (setI (setI σ 157 10 (nI (na A - 1))) 157 11 (nI ((nx A + 13) % 14))) := ((FrR.rf).stI (by omega)).stI (by omega)
    have hn1 : 187 ≤ (setI (setI σ 157 10 (nI (na A - 1))) 157 11 (nI ((nx A + 13) % 14))).2.1 := hR1.1.n
    generalize hτ : setI (setI σ 157 10 (nI (na A - 1))) 157 11 (nI ((nx A + 13) % 14)) = τ at *
    replace hR1 : RMm B (up2 (up2 A 1 2 (nI (na A - 1))) 1 3 (nI ((nx A + 13) % 14))) sd τ := by rw [← hτ]; exact hR1
    have LOOP := loop_st (S := Mem) (G := fun i s => YY g 2 s 0 0 38 [(0, .ref (B.1 + 157)), (1, .int (nI i))] []) (I := fun i s => FrR (fun a q => a = 163 ∧ q < 25) τ s ∧ ∀ j, j < i → s.2.2.1 163 j = A (12 + (nx A + 13) % 14) j) 25 ?_ ?_ 0 τ (Nat.zero_le _) ⟨FrR.rf, fun j hj => by omega⟩
    · exact LOOP
    · intro i s hi hI ih
      obtain ⟨hf, hj⟩ := hI
      have hM := hR1.1.frR hf
      have q1 : s.2.2.1 157 11 = nI ((nx A + 13) % 14) := (hf.i (by omega) (by omega)).trans eN
      have q2 : s.2.2.1 165 (25 * ((nx A + 13) % 14) + i) = A (12 + (nx A + 13) % 14) i := (hf.i (by omega) (by omega)).trans (eY i hi)
      refine y_iload_n hg dX3_undo_38 rfl ?_
      refine y_bipush (v := nI 25) hg dX3_undo_39 rfl ?_
      refine y_icmp_ge hg 70 dX3_undo_41 (by decide) (fun hT => absurd hT (ge_c hi (by decide))) (fun _ => ?_)
      refine y_aload_n hg dX3_undo_44 rfl ?_
      refine y_getr (j := 7) hg cf3 (hM.m) (by decide) rfl (hM.r_now) q918 dX3_undo_45 ?_
      refine y_iload_n hg dX3_undo_48 rfl ?_
      refine y_aload_n hg dX3_undo_49 rfl ?_
      refine y_getr (j := 9) hg cf3 (hM.m) (by decide) rfl (hM.r_diary) q920 dX3_undo_50 ?_
      refine y_bipush (v := nI 25) hg dX3_undo_53 rfl ?_
      refine y_aload_n hg dX3_undo_55 rfl ?_
      refine y_geti (j := 11) hg cf3 (hM.m) (by decide) rfl q922 dX3_undo_56 ?_
      refine y_ti (q1) ?_
      refine y_imul hg dX3_undo_59 ?_
      refine y_ti (pk_mul _ _) ?_
      refine y_iload_n hg dX3_undo_60 rfl ?_
      refine y_iadd hg dX3_undo_61 ?_
      refine y_ti (nI_add _ _) ?_
      refine y_iald hg _ (hM.k_diary) rfl (by omega) dX3_undo_62 ?_
      refine y_ti (q2) ?_
      refine y_iast hg _ (hM.k_now) rfl (by omega) dX3_undo_63 ?_
      refine y_iinc hg dX3_undo_64 rfl (inc1 _) (by decide) (lv1 := [(0, _), (1, _)]) rfl ?_
      refine y_goto hg 38 dX3_undo_67 (by decide) ?_
      refine ih _ ⟨hf.stI ⟨rfl, by omega⟩, fun j hj2 => ?_⟩
      by_cases e : j = i
      · subst e; exact gI_s
      · rw [gI_n (by omega)]; exact hj j (by omega)
    · intro s hI
      obtain ⟨hf, hj⟩ := hI
      have hM := hR1.1.frR hf
      have hR2 := hR1.nowRow hf hj
      refine y_iload_n hg dX3_undo_38 rfl ?_
      refine y_bipush (v := nI 25) hg dX3_undo_39 rfl ?_
      refine y_icmp_ge hg 70 dX3_undo_41 (by decide) (fun _ => ?_) (fun hF => absurd (le_c (Nat.le_refl 25) (by decide)) hF)
      refine y_aload_n hg dX3_undo_70 rfl ?_
      refine y_geti (j := 10) hg cf3 (hM.m) (by decide) rfl q921 dX3_undo_71 ?_
      refine y_iret hg hr ⟨_, rfl, ?_⟩ dX3_undo_74 (Nat.le_refl _) (Nat.le_refl _)
      exact ⟨(hf.i (by omega) (by omega)).trans eA, hR2, hf0.tr (hf.mono (fun a j q => by omega))⟩
  · refine y_bipush (v := -3) hg dX3_undo_7 rfl ?_
    refine y_iret hg hr ⟨_, rfl, ?_⟩ dX3_undo_9 (Nat.le_refl _) (Nat.le_refl _)
    have eo : oUndo A = (-3, A) := by unfold oUndo; rw [if_pos (by rw [ea]; exact hc)]
    rw [eo]
    exact ⟨rfl, hR, FrR.rf⟩
/-- keep, again -/
def oKeep (A : Ab) (v : Int32) : Int32 × Ab := if inL v.toInt64 0 1 = true then (A 1 1, up1 (up2 A 10 v.toNatClampNeg (nI 1)) (26 + v.toNatClampNeg) (A 11)) else (-1, A)
def oAgain (A : Ab) (v : Int32) : Int32 × Ab := if inL v.toInt64 0 1 = true then if A 10 v.toNatClampNeg = 0 then (-3, A) else (A 1 1, up2 (up1 A 11 (A (26 + v.toNatClampNeg))) 1 2 (nI 0)) else (-1, A)
theorem wKeep (hW : WFA A) (v : Int32) : WFA (oKeep A v).2 := by
  unfold oKeep
  split
  · rename_i h
    obtain ⟨x, hx, rfl⟩ := (inL_iff 1 rfl (by decide)).mp h
    rw [nI_clamp (by omega)]
    show WFA (up1 (up2 A 10 x (nI 1)) (26 + x) (A 11))
    have o1 : ∀ c, c < 10 ∨ c = 11 → up1 (up2 A 10 x (nI 1)) (26 + x) (A 11) c = A c := fun c hc => by rw [up1_n (by omega), up2_row (by omega)]
    refine hW.ch (e1 := by rw [o1 1 (by omega)]) (e2 := o1 2 (by omega)) (e3 := o1 3 (by omega)) (e4 := o1 4 (by omega)) (e5 := o1 5 (by omega)) (len := Or.inl (by rw [o1 1 (by omega)])) (acts := Or.inl (by rw [o1 1 (by omega)])) (next := Or.inl (by rw [o1 1 (by omega)])) (told := Or.inl (by rw [o1 1 (by omega)])) (seen := Or.inl (by rw [o1 1 (by omega)])) (row6 := Or.inl ⟨by rw [o1 1 (by omega)], o1 6 (by omega)⟩) (now := Or.inl (o1 11 (by omega))) (diary := Or.inl ⟨by rw [o1 1 (by omega)], by rw [o1 1 (by omega)], fun i hi => by rw [up1_n (by omega), up2_row (by omega)]⟩) (text := Or.inl (o1 0 (by omega))) (kept := Or.inr (fun i hi h2 => ?_)) (kb := Or.inr (fun i hi => ?_))
    · by_cases e : i = x
      · subst e; rw [up1_s]; exact hW.now
      · rw [up1_n (by omega), up2_row (by omega)]
        rw [up1_n (by omega), up2_n (by omega)] at h2
        exact hW.kept i hi h2
    · rw [up1_n (by omega)]
      by_cases e : i = x
      · subst e; rw [up2_s]; exact Or.inr rfl
      · rw [up2_n (by omega)]; exact hW.kb i hi
  · exact hW
theorem wAgain (hW : WFA A) (v : Int32) : WFA (oAgain A v).2 := by
  unfold oAgain
  split
  · rename_i h
    split
    · exact hW
    · rename_i h2
      obtain ⟨x, hx, rfl⟩ := (inL_iff 1 rfl (by decide)).mp h
      rw [nI_clamp (by omega)] at h2 ⊢
      show WFA (up2 (up1 A 11 (A (26 + x))) 1 2 (nI 0))
      refine hW.ch (acts := Or.inr ⟨0, by omega, rfl⟩) (now := Or.inr ?_) (diary := Or.inr (fun i hi h14 => ?_))
      · rw [up2_row (by omega), up1_s]; exact hW.kept x (by omega) h2
      · rw [up2_s, nI_ltI (by omega) (by omega)] at hi
        omega
  · exact hW
theorem cX_keep (hW : WFA A) (hR : RX B A sd σ) (v : Int32) : MT ll B 24 0 0 yX0_keep cX0_keep 2 (some .int) [.ref (B.1 + 0), .int v] σ (oX B sd σ (oKeep A v)) := by
  have hL := hR.1
  have hm := hW.nmle
  refine MT.of (by decide) (Nat.le_of_ble_eq_true rfl) (fun g hg hr => ?_)
  refine y_iload_n hg dX0_keep_0 rfl ?_
  refine y_i2l hg dX0_keep_1 ?_
  refine y_lconst (v := 0) hg dX0_keep_2 rfl ?_
  refine y_lconst (v := 1) hg dX0_keep_3 rfl ?_
  refine y_cSi hg (cX_isIn _ _ _) iX0_isIn q286 rfl rfl (by simp [Value.category]) (Nat.le_refl _) (Nat.le_refl _) (by decide) dX0_keep_4 (fun r σ1 hp => ?_)
  obtain ⟨rfl, rfl⟩ := hp
  refine y_if_ne hg 12 dX0_keep_7 (by decide) (fun hc => ?_) (fun hc => ?_)
  · have h1 := b2T hc
    obtain ⟨x, hx, rfl⟩ := (inL_iff 1 rfl (by decide)).mp h1
    have eo : oKeep A (nI x) = (A 1 1, up1 (up2 A 10 x (nI 1)) (26 + x) (A 11)) := by unfold oKeep; rw [if_pos h1, nI_clamp (by omega)]
    rw [eo] at hr
    have hR1 := hR.u2 hm (v := nI 1) 10 x (by unfold dm; omega) (by omega) (by omega)
    refine y_aload_n hg dX0_keep_12 rfl ?_
    refine y_getr (j := 34) hg cf0 (hL.x) (by decide) rfl (hL.r_isKept) q206 dX0_keep_13 ?_
    refine y_iload_n hg dX0_keep_16 rfl ?_
    refine y_iconst (v := nI 1) hg dX0_keep_17 rfl ?_
    refine y_zast hg _ (hL.k_isKept) rfl (by omega) rfl dX0_keep_18 ?_
    refine y_aload_n hg dX0_keep_19 rfl ?_
    refine y_getr (j := 35) hg cf0 (hL.x) (by decide) rfl (hL.r_kept) q207 dX0_keep_20 ?_
    refine y_iload_n hg dX0_keep_23 rfl ?_
    refine y_aald4 hg _ (hL.k_kept) rfl (by omega) (hL.e_kept (by omega)) dX0_keep_24 ?_
    refine y_aload_n hg dX0_keep_25 rfl ?_
    refine y_getr (j := 2) hg cf0 (hL.x) (by decide) rfl (hL.r_now) q174 dX0_keep_26 ?_
    refine y_cVv hg (cX_scopy (hR1.1.w_kept (by omega)) hR1.1.s_now (by omega)) iX1_copy q301 ((hL.w_kept (by omega)).o) cf1 rfl rfl (by simp [Value.category]) (Nat.le_refl _) (Nat.le_refl _) (by decide) dX0_keep_29 (fun σ2 hp => ?_)
    obtain ⟨hf1, hr1⟩ := hp
    have hL := hR1.1.frR hf1
    refine y_aload_n hg dX0_keep_32 rfl ?_
    refine y_geti (j := 1) hg cf0 (hL.x) (by decide) rfl q173 dX0_keep_33 ?_
    refine y_iret hg hr ⟨_, rfl, ?_⟩ dX0_keep_36 (Nat.le_refl _) (Nat.le_refl _)
    have hR2 := hR1.row (c0 := 26 + x) (f := A 11) (nm_u (by omega) hm) (by omega) (by rw [kS_k]; exact hf1) (fun j hj => by
      have := hr1 j
      rw [if_pos hj] at this
      rw [kS_k]
      exact this.trans (hR1.now hj))
    refine ⟨?_, hR2, ((Fr.rf).stI (by omega)).tr (lt157 (by omega) hf1)⟩
    refine hR2.many.trans ?_
    rw [up1_n (by omega), up2_n (by omega)]
  · refine y_iconst (v := -1) hg dX0_keep_10 rfl ?_
    refine y_iret hg hr ⟨_, rfl, ?_⟩ dX0_keep_11 (Nat.le_refl _) (Nat.le_refl _)
    have eo : oKeep A v = (-1, A) := by unfold oKeep; rw [if_neg (b2F hc)]
    rw [eo]
    exact ⟨rfl, hR, Fr.rf⟩
theorem cM_keep (hW : WFA A) (hR : RMm B A sd σ) (v : Int32) : MT ll B 24 0 0 yX3_keep cX3_keep 3 (some .int) [.ref (B.1 + 157), .int v] σ (oM B sd σ (oKeep A v)) := by
  have hM := hR.1
  have hm := hW.nmle
  refine MT.of (by decide) (Nat.le_of_ble_eq_true rfl) (fun g hg hr => ?_)
  refine y_iload_n hg dX3_keep_0 rfl ?_
  refine y_i2l hg dX3_keep_1 ?_
  refine y_lconst (v := 0) hg dX3_keep_2 rfl ?_
  refine y_lconst (v := 1) hg dX3_keep_3 rfl ?_
  refine y_cSi hg (cM_in _ _ _) iX3_in q1052 rfl rfl (by simp [Value.category]) (Nat.le_refl _) (Nat.le_refl _) (by decide) dX3_keep_4 (fun r σ1 hp => ?_)
  obtain ⟨rfl, rfl⟩ := hp
  refine y_if_ne hg 12 dX3_keep_7 (by decide) (fun hc => ?_) (fun hc => ?_)
  · have h1 := b2T hc
    obtain ⟨x, hx, rfl⟩ := (inL_iff 1 rfl (by decide)).mp h1
    have eo : oKeep A (nI x) = (A 1 1, up1 (up2 A 10 x (nI 1)) (26 + x) (A 11)) := by unfold oKeep; rw [if_pos h1, nI_clamp (by omega)]
    rw [eo] at hr
    have hR1 := hR.u2 hm (v := nI 1) 10 x (by unfold dm; omega) (by omega) (by omega)
    refine y_aload_n hg dX3_keep_12 rfl ?_
    refine y_getr (j := 13) hg cf3 (hM.m) (by decide) rfl (hM.r_isKept) q924 dX3_keep_13 ?_
    refine y_iload_n hg dX3_keep_16 rfl ?_
    refine y_iconst (v := nI 1) hg dX3_keep_17 rfl ?_
    refine y_zast hg _ (hM.k_isKept) rfl (by omega) rfl dX3_keep_18 ?_
    refine y_iconst (v := nI 0) hg dX3_keep_19 rfl ?_
    refine y_istore_n hg dX3_keep_20 (by decide) (lv1 := [(0, _), (1, _), (2, _)]) rfl ?_
    have hn1 := hR1.1.n
    have LOOP := loop_st (S := Mem) (G := fun i s => YY g 3 s 0 0 21 [(0, .ref (B.1 + 157)), (1, .int (nI x)), (2, .int (nI i))] []) (I := fun i s => FrR (fun a q => a = 166 ∧ 25 * x ≤ q ∧ q < 25 * x + 25) (setI σ1 167 x (nI 1)) s ∧ ∀ j, j < i → s.2.2.1 166 (25 * x + j) = A 11 j) 25 ?_ ?_ 0 (setI σ1 167 x (nI 1)) (Nat.zero_le _) ⟨FrR.rf, fun j hj => by omega⟩
    · exact LOOP
    · intro i s hi hI ih
      obtain ⟨hf, hj⟩ := hI
      have hM := hR1.1.frR hf
      have q2 : s.2.2.1 163 i = A 11 i := (hf.i (Nat.lt_of_lt_of_le (by omega) hn1) (by omega)).trans (hR1.now hi)
      refine y_iload_n hg dX3_keep_21 rfl ?_
      refine y_bipush (v := nI 25) hg dX3_keep_22 rfl ?_
      refine y_icmp_ge hg 50 dX3_keep_24 (by decide) (fun hT => absurd hT (ge_c hi (by decide))) (fun _ => ?_)
      refine y_aload_n hg dX3_keep_27 rfl ?_
      refine y_getr (j := 12) hg cf3 (hM.m) (by decide) rfl (hM.r_kept) q923 dX3_keep_28 ?_
      refine y_bipush (v := nI 25) hg dX3_keep_31 rfl ?_
      refine y_iload_n hg dX3_keep_33 rfl ?_
      refine y_imul hg dX3_keep_34 ?_
      refine y_ti (pk_mul _ _) ?_
      refine y_iload_n hg dX3_keep_35 rfl ?_
      refine y_iadd hg dX3_keep_36 ?_
      refine y_ti (nI_add _ _) ?_
      refine y_aload_n hg dX3_keep_37 rfl ?_
      refine y_getr (j := 7) hg cf3 (hM.m) (by decide) rfl (hM.r_now) q918 dX3_keep_38 ?_
      refine y_iload_n hg dX3_keep_41 rfl ?_
      refine y_iald hg _ (hM.k_now) rfl (by omega) dX3_keep_42 ?_
      refine y_ti (q2) ?_
      refine y_iast hg _ (hM.k_kept) rfl (by omega) dX3_keep_43 ?_
      refine y_iinc hg dX3_keep_44 rfl (inc1 _) (by decide) (lv1 := [(0, _), (1, _), (2, _)]) rfl ?_
      refine y_goto hg 21 dX3_keep_47 (by decide) ?_
      refine ih _ ⟨hf.stI ⟨rfl, by omega, by omega⟩, fun j hj2 => ?_⟩
      by_cases e : j = i
      · subst e; exact gI_s
      · rw [gI_n (by omega)]; exact hj j (by omega)
    · intro s hI
      obtain ⟨hf, hj⟩ := hI
      have hM := hR1.1.frR hf
      have hR2 := hR1.keptRow (i := x) (by omega) hf hj
      refine y_iload_n hg dX3_keep_21 rfl ?_
      refine y_bipush (v := nI 25) hg dX3_keep_22 rfl ?_
      refine y_icmp_ge hg 50 dX3_keep_24 (by decide) (fun _ => ?_) (fun hF => absurd (le_c (Nat.le_refl 25) (by decide)) hF)
      refine y_aload_n hg dX3_keep_50 rfl ?_
      refine y_geti (j := 2) hg cf3 (hM.m) (by decide) rfl q913 dX3_keep_51 ?_
      refine y_iret hg hr ⟨_, rfl, ?_⟩ dX3_keep_54 (Nat.le_refl _) (Nat.le_refl _)
      refine ⟨?_, hR2, ((FrR.rf).stI (by omega)).tr (hf.mono (fun a j q => by omega))⟩
      refine hR2.many.trans ?_
      rw [up1_n (by omega), up2_n (by omega)]
  · refine y_iconst (v := -1) hg dX3_keep_10 rfl ?_
    refine y_iret hg hr ⟨_, rfl, ?_⟩ dX3_keep_11 (Nat.le_refl _) (Nat.le_refl _)
    have eo : oKeep A v = (-1, A) := by unfold oKeep; rw [if_neg (b2F hc)]
    rw [eo]
    exact ⟨rfl, hR, FrR.rf⟩
theorem cX_again (hW : WFA A) (hR : RX B A sd σ) (v : Int32) : MT ll B 24 0 0 yX0_again cX0_again 2 (some .int) [.ref (B.1 + 0), .int v] σ (oX B sd σ (oAgain A v)) := by
  have hL := hR.1
  have hm := hW.nmle
  refine MT.of (by decide) (Nat.le_of_ble_eq_true rfl) (fun g hg hr => ?_)
  refine y_iload_n hg dX0_again_0 rfl ?_
  refine y_i2l hg dX0_again_1 ?_
  refine y_lconst (v := 0) hg dX0_again_2 rfl ?_
  refine y_lconst (v := 1) hg dX0_again_3 rfl ?_
  refine y_cSi hg (cX_isIn _ _ _) iX0_isIn q286 rfl rfl (by simp [Value.category]) (Nat.le_refl _) (Nat.le_refl _) (by decide) dX0_again_4 (fun r σ1 hp => ?_)
  obtain ⟨rfl, rfl⟩ := hp
  refine y_if_ne hg 12 dX0_again_7 (by decide) (fun hc => ?_) (fun hc => ?_)
  · have h1 := b2T hc
    obtain ⟨x, hx, rfl⟩ := (inL_iff 1 rfl (by decide)).mp h1
    refine y_aload_n hg dX0_again_12 rfl ?_
    refine y_getr (j := 34) hg cf0 (hL.x) (by decide) rfl (hL.r_isKept) q206 dX0_again_13 ?_
    refine y_iload_n hg dX0_again_16 rfl ?_
    refine y_zald hg _ (hL.k_isKept) rfl (by omega) dX0_again_17 ?_
    refine y_ti (hR.kept (by omega)) ?_
    refine y_if_ne hg 24 dX0_again_18 (by decide) (fun hc2 => ?_) (fun hc2 => ?_)
    · have eo : oAgain A (nI x) = (A 1 1, up2 (up1 A 11 (A (26 + x))) 1 2 (nI 0)) := by unfold oAgain; rw [if_pos h1, nI_clamp (by omega), if_neg hc2]
      rw [eo] at hr
      refine y_aload_n hg dX0_again_24 rfl ?_
      refine y_getr (j := 2) hg cf0 (hL.x) (by decide) rfl (hL.r_now) q174 dX0_again_25 ?_
      refine y_aload_n hg dX0_again_28 rfl ?_
      refine y_getr (j := 35) hg cf0 (hL.x) (by decide) rfl (hL.r_kept) q207 dX0_again_29 ?_
      refine y_iload_n hg dX0_again_32 rfl ?_
      refine y_aald4 hg _ (hL.k_kept) rfl (by omega) (hL.e_kept (by omega)) dX0_again_33 ?_
      refine y_cVv hg (cX_scopy hL.s_now (hL.w_kept (by omega)) (by omega)) iX1_copy q301 (hL.s_now.o) cf1 rfl rfl (by simp [Value.category]) (Nat.le_refl _) (Nat.le_refl _) (by decide) dX0_again_34 (fun σ2 hp => ?_)
      obtain ⟨hf1, hr1⟩ := hp
      have hR1 := hR.row (c0 := 11) (f := A (26 + x)) hm (by omega) hf1 (fun j hj => by
        have := hr1 j
        rw [if_pos hj] at this
        refine this.trans ?_
        have q := hR.row_g (c := 26 + x) (by omega) hj
        rw [kS_k] at q
        exact q)
      have hL := hR1.1
      refine y_aload_n hg dX0_again_37 rfl ?_
      refine y_iconst (v := nI 0) hg dX0_again_38 rfl ?_
      refine y_puti (j := 22) hg cf0 (hL.x) (by decide) rfl rfl q194 dX0_again_39 ?_
      refine y_aload_n hg dX0_again_42 rfl ?_
      refine y_geti (j := 1) hg cf0 (hL.x) (by decide) rfl q173 dX0_again_43 ?_
      refine y_iret hg hr ⟨_, rfl, ?_⟩ dX0_again_46 (Nat.le_refl _) (Nat.le_refl _)
      have hR2 := hR1.u2 (nm_1 (by omega) hm) (v := nI 0) 1 2 (by unfold dm; omega) (by omega) (by omega)
      refine ⟨?_, hR2, (lt157 (by omega) hf1).stI (by omega)⟩
      refine hR2.many.trans ?_
      rw [up2_n (by omega), up1_n (by omega)]
    · refine y_bipush (v := -3) hg dX0_again_21 rfl ?_
      refine y_iret hg hr ⟨_, rfl, ?_⟩ dX0_again_23 (Nat.le_refl _) (Nat.le_refl _)
      have eo : oAgain A (nI x) = (-3, A) := by unfold oAgain; rw [if_pos h1, nI_clamp (by omega), if_pos hc2]
      rw [eo]
      exact ⟨rfl, hR, Fr.rf⟩
  · refine y_iconst (v := -1) hg dX0_again_10 rfl ?_
    refine y_iret hg hr ⟨_, rfl, ?_⟩ dX0_again_11 (Nat.le_refl _) (Nat.le_refl _)
    have eo : oAgain A v = (-1, A) := by unfold oAgain; rw [if_neg (b2F hc)]
    rw [eo]
    exact ⟨rfl, hR, Fr.rf⟩
theorem cM_again (hW : WFA A) (hR : RMm B A sd σ) (v : Int32) : MT ll B 24 0 0 yX3_again cX3_again 3 (some .int) [.ref (B.1 + 157), .int v] σ (oM B sd σ (oAgain A v)) := by
  have hM := hR.1
  have hm := hW.nmle
  refine MT.of (by decide) (Nat.le_of_ble_eq_true rfl) (fun g hg hr => ?_)
  refine y_iload_n hg dX3_again_0 rfl ?_
  refine y_i2l hg dX3_again_1 ?_
  refine y_lconst (v := 0) hg dX3_again_2 rfl ?_
  refine y_lconst (v := 1) hg dX3_again_3 rfl ?_
  refine y_cSi hg (cM_in _ _ _) iX3_in q1052 rfl rfl (by simp [Value.category]) (Nat.le_refl _) (Nat.le_refl _) (by decide) dX3_again_4 (fun r σ1 hp => ?_)
  obtain ⟨rfl, rfl⟩ := hp
  refine y_if_ne hg 12 dX3_again_7 (by decide) (fun hc => ?_) (fun hc => ?_)
  · have h1 := b2T hc
    obtain ⟨x, hx, rfl⟩ := (inL_iff 1 rfl (by decide)).mp h1
    refine y_aload_n hg dX3_again_12 rfl ?_
    refine y_getr (j := 13) hg cf3 (hM.m) (by decide) rfl (hM.r_isKept) q924 dX3_again_13 ?_
    refine y_iload_n hg dX3_again_16 rfl ?_
    refine y_zald hg _ (hM.k_isKept) rfl (by omega) dX3_again_17 ?_
    refine y_ti (hR.kept (by omega)) ?_
    refine y_if_ne hg 24 dX3_again_18 (by decide) (fun hc2 => ?_) (fun hc2 => ?_)
    · have eo : oAgain A (nI x) = (A 1 1, up2 (up1 A 11 (A (26 + x))) 1 2 (nI 0)) := by unfold oAgain; rw [if_pos h1, nI_clamp (by omega), if_neg hc2]
      rw [eo] at hr
      have hn := hR.1.n
      refine y_iconst (v := nI 0) hg dX3_again_24 rfl ?_
      refine y_istore_n hg dX3_again_25 (by decide) (lv1 := [(0, _), (1, _), (2, _)]) rfl ?_
      have LOOP := loop_st (S := Mem) (G := fun i s => YY g 3 s 0 0 26 [(0, .ref (B.1 + 157)), (1, .int (nI x)), (2, .int (nI i))] []) (I := fun i s => FrR (fun a q => a = 163 ∧ q < 25) σ1 s ∧ ∀ j, j < i → s.2.2.1 163 j = A (26 + x) j) 25 ?_ ?_ 0 σ1 (Nat.zero_le _) ⟨FrR.rf, fun j hj => by omega⟩
      · exact LOOP
      · intro i s hi hI ih
        obtain ⟨hf, hj⟩ := hI
        have hM := hR.1.frR hf
        have q2 : s.2.2.1 166 (25 * x + i) = A (26 + x) i := (hf.i (by omega) (by omega)).trans (hR.keptR (by omega) hi)
        refine y_iload_n hg dX3_again_26 rfl ?_
        refine y_bipush (v := nI 25) hg dX3_again_27 rfl ?_
        refine y_icmp_ge hg 55 dX3_again_29 (by decide) (fun hT => absurd hT (ge_c hi (by decide))) (fun _ => ?_)
        refine y_aload_n hg dX3_again_32 rfl ?_
        refine y_getr (j := 7) hg cf3 (hM.m) (by decide) rfl (hM.r_now) q918 dX3_again_33 ?_
        refine y_iload_n hg dX3_again_36 rfl ?_
        refine y_aload_n hg dX3_again_37 rfl ?_
        refine y_getr (j := 12) hg cf3 (hM.m) (by decide) rfl (hM.r_kept) q923 dX3_again_38 ?_
        refine y_bipush (v := nI 25) hg dX3_again_41 rfl ?_
        refine y_iload_n hg dX3_again_43 rfl ?_
        refine y_imul hg dX3_again_44 ?_
        refine y_ti (pk_mul _ _) ?_
        refine y_iload_n hg dX3_again_45 rfl ?_
        refine y_iadd hg dX3_again_46 ?_
        refine y_ti (nI_add _ _) ?_
        refine y_iald hg _ (hM.k_kept) rfl (by omega) dX3_again_47 ?_
        refine y_ti (q2) ?_
        refine y_iast hg _ (hM.k_now) rfl (by omega) dX3_again_48 ?_
        refine y_iinc hg dX3_again_49 rfl (inc1 _) (by decide) (lv1 := [(0, _), (1, _), (2, _)]) rfl ?_
        refine y_goto hg 26 dX3_again_52 (by decide) ?_
        refine ih _ ⟨hf.stI ⟨rfl, by omega⟩, fun j hj2 => ?_⟩
        by_cases e : j = i
        · subst e; exact gI_s
        · rw [gI_n (by omega)]; exact hj j (by omega)
      · intro s hI
        obtain ⟨hf, hj⟩ := hI
        have hM := hR.1.frR hf
        have hR1 := hR.nowRow hf hj
        refine y_iload_n hg dX3_again_26 rfl ?_
        refine y_bipush (v := nI 25) hg dX3_again_27 rfl ?_
        refine y_icmp_ge hg 55 dX3_again_29 (by decide) (fun _ => ?_) (fun hF => absurd (le_c (Nat.le_refl 25) (by decide)) hF)
        refine y_aload_n hg dX3_again_55 rfl ?_
        refine y_iconst (v := nI 0) hg dX3_again_56 rfl ?_
        refine y_puti (j := 10) hg cf3 (hM.m) (by decide) rfl rfl q921 dX3_again_57 ?_
        refine y_aload_n hg dX3_again_60 rfl ?_
        refine y_geti (j := 2) hg cf3 (hM.m) (by decide) rfl q913 dX3_again_61 ?_
        refine y_iret hg hr ⟨_, rfl, ?_⟩ dX3_again_64 (Nat.le_refl _) (Nat.le_refl _)
        have hR2 := hR1.u2 (nm_1 (by omega) hm) (v := nI 0) 1 2 (by unfold dm; omega) (by omega) (by omega)
        refine ⟨?_, hR2, (hf.mono (fun a j q => by omega)).stI (by omega)⟩
        refine hR2.many.trans ?_
        rw [up2_n (by omega), up1_n (by omega)]
    · refine y_bipush (v := -3) hg dX3_again_21 rfl ?_
      refine y_iret hg hr ⟨_, rfl, ?_⟩ dX3_again_23 (Nat.le_refl _) (Nat.le_refl _)
      have eo : oAgain A (nI x) = (-3, A) := by unfold oAgain; rw [if_pos h1, nI_clamp (by omega), if_pos hc2]
      rw [eo]
      exact ⟨rfl, hR, FrR.rf⟩
  · refine y_iconst (v := -1) hg dX3_again_10 rfl ?_
    refine y_iret hg hr ⟨_, rfl, ?_⟩ dX3_again_11 (Nat.le_refl _) (Nat.le_refl _)
    have eo : oAgain A v = (-1, A) := by unfold oAgain; rw [if_neg (b2F hc)]
    rw [eo]
    exact ⟨rfl, hR, FrR.rf⟩
end Ops4

