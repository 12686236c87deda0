section XLen
variable {ll : Launch} {B : Bs} {σ : Mem}
theorem PX.frY {B : Bs} {σ σ' : Mem} {P : Pb} {ko : Nat} (h : PX B σ P ko) (hP : WFP P) (hf : Fr YP σ σ') (h4 : σ'.2.2.2.2 0 4 = σ.2.2.2.2 0 4) : PX B σ' P ko := h.fr hP (hf.mono (fun a j h => by unfold YP at h; unfold EP; omega)) h4
theorem cX_countOf {P : Pb} {ko ka kb n : Nat} (hP : WFP P) (hX : PX B σ P ko) (hY : LyR B σ ka kb) (hn1 : 1 ≤ n) (hn12 : n ≤ 12) :
    MT ll B 3 0 0 yX0_countOf cX0_countOf 3 (some .long) [.ref (B.1 + 0), .int (nI n)] σ (pL fun v σ' => v = lN (gJ P n (nS P - 1) 4) ∧ Fr YP σ σ' ∧ σ'.2.2.2.2 0 4 = σ.2.2.2.2 0 4 ∧ ∃ ka kb, LyR B σ' ka kb) := by
  have hL := hX.1
  refine MT.of (by decide) (Nat.le_of_ble_eq_true rfl) (fun g hg hr => ?_)
  refine y_aload_n hg dX0_countOf_0 rfl ?_
  refine y_cVv hg (cX_beginLayers hP hX hY) iX0_beginLayers q424 (hL.x) cf0 rfl rfl (by simp [Value.category]) (Nat.le_refl _) (Nat.le_refl _) (by decide) dX0_countOf_1 (fun σ1 hp => ?_)
  obtain ⟨hf1, F1, hY1⟩ := hp
  refine y_iconst (v := nI 1) hg dX0_countOf_4 rfl ?_
  refine y_istore_n hg dX0_countOf_5 (by decide) (lv1 := [(0, _), (1, _), (2, _)]) rfl ?_
  have LOOP := loop_st (S := Mem) (G := fun i s => YY g 3 s 0 0 6 [(0, .ref (B.1 + 0)), (1, .int (nI n)), (2, .int (nI (1 + i)))] []) (I := fun i s => Fr YP σ s ∧ s.2.2.2.2 0 4 = σ.2.2.2.2 0 4 ∧ ∃ ka kb F, LyX B s P (1 + i) ka kb F) (n - 1) ?_ ?_ 0 σ1 (Nat.zero_le _) ⟨hf1.1, by rw [hf1.2], ka, kb, F1, hY1⟩
  · exact LOOP
  · intro i s hi hI ih
    obtain ⟨hf, h4, ka, kb, F, hYs⟩ := hI
    have hXs := hX.frY hP hf h4
    have hL := hXs.1
    refine y_iload_n hg dX0_countOf_6 rfl ?_
    refine y_iload_n hg dX0_countOf_7 rfl ?_
    refine y_icmp_ge hg 21 dX0_countOf_8 (by decide) (fun hT => absurd hT (nI_ge (by omega) (by omega))) (fun _ => ?_)
    refine y_aload_n hg dX0_countOf_11 rfl ?_
    refine y_cVv hg (cX_goOnLayers hP hXs hYs (by omega)) iX0_goOnLayers q432 (hL.x) cf0 rfl rfl (by simp [Value.category]) (Nat.le_refl _) (Nat.le_refl _) (by decide) dX0_countOf_12 (fun σ2 hp => ?_)
    obtain ⟨hf2, h42, N, hYn⟩ := hp
    refine y_iinc hg dX0_countOf_15 rfl (inc1 _) (by decide) (lv1 := [(0, _), (1, _), (2, _)]) rfl ?_
    refine y_goto hg 6 dX0_countOf_18 (by decide) ?_
    exact ih _ ⟨hf.tr hf2, h42.trans h4, kb, ka, N, hYn⟩
  · intro s hI
    obtain ⟨hf, h4, ka, kb, F, hYs⟩ := hI
    have hXs := hX.frY hP hf h4
    have hL := hXs.1
    rw [show 1 + (n - 1) = n by omega] at hYs ⊢
    refine y_iload_n hg dX0_countOf_6 rfl ?_
    refine y_iload_n hg dX0_countOf_7 rfl ?_
    refine y_icmp_ge hg 21 dX0_countOf_8 (by decide) (fun _ => ?_) (fun hF => absurd (nI_le (Nat.le_refl _) (by omega)) hF)
    refine y_aload_n hg dX0_countOf_21 rfl ?_
    refine y_cVl hg (cX_endedNow hP hXs hYs) iX0_endedNow q428 (hL.x) cf0 rfl rfl (by simp [Value.category]) (Nat.le_refl _) (Nat.le_refl _) (by decide) dX0_countOf_22 (fun r σ2 hp => ?_)
    obtain ⟨rfl, rfl⟩ := hp
    refine y_lret hg hr ⟨_, rfl, ?_⟩ dX0_countOf_25 (Nat.le_refl _) (Nat.le_refl _)
    exact ⟨rfl, hf, h4, ka, kb, hYs.1⟩
/-- the fewest words of a phrase, or the most; none -/
def lenR (P : Pb) (most : Bool) : Int32 := fo (lenS (fun j => decide (0 < gJ P j (nS P - 1) 4)) most) (-9) 12
theorem cX_lengthOf {P : Pb} {ko ka kb : Nat} {mo : Int32} (hP : WFP P) (hX : PX B σ P ko) (hY : LyR B σ ka kb) :
    MT ll B 3 0 0 yX0_lengthOf cX0_lengthOf 4 (some .int) [.ref (B.1 + 0), .int mo] σ (pI fun v σ' => v = lenR P (decide (¬ mo = 0)) ∧ Fr YP σ σ' ∧ σ'.2.2.2.2 0 4 = σ.2.2.2.2 0 4 ∧ ∃ ka kb, LyR B σ' ka kb) := by
  have hL := hX.1
  refine MT.of (by decide) (Nat.le_of_ble_eq_true rfl) (fun g hg hr => ?_)
  refine y_bipush (v := -9) hg dX0_lengthOf_0 rfl ?_
  refine y_istore_n hg dX0_lengthOf_2 (by decide) (lv1 := [(0, _), (1, _), (2, _)]) rfl ?_
  refine y_aload_n hg dX0_lengthOf_3 rfl ?_
  refine y_cVv hg (cX_beginLayers hP hX hY) iX0_beginLayers q424 (hL.x) cf0 rfl rfl (by simp [Value.category]) (Nat.le_refl _) (Nat.le_refl _) (by decide) dX0_lengthOf_4 (fun σ1 hp => ?_)
  obtain ⟨hf1, F1, hY1⟩ := hp
  refine y_iconst (v := nI 1) hg dX0_lengthOf_7 rfl ?_
  refine y_istore_n hg dX0_lengthOf_8 (by decide) (lv1 := [(0, _), (1, _), (2, _), (3, _)]) rfl ?_
  have LOOP := loop_st (S := Mem) (G := fun i s => YY g 4 s 0 0 9 [(0, .ref (B.1 + 0)), (1, .int mo), (2, .int (fo (lenS (fun j => decide (0 < gJ P j (nS P - 1) 4)) (decide (¬ mo = 0))) (-9) i)), (3, .int (nI (1 + i)))] []) (I := fun i s => Fr YP σ s ∧ s.2.2.2.2 0 4 = σ.2.2.2.2 0 4 ∧ ∃ ka kb F, LyX B s P (1 + i) ka kb F) 12 ?_ ?_ 0 σ1 (Nat.zero_le _) ⟨hf1.1, by rw [hf1.2], ka, kb, F1, hY1⟩
  · exact LOOP
  · intro i s hi hI ih
    obtain ⟨hf, h4, ka, kb, F, hYs⟩ := hI
    have hXs := hX.frY hP hf h4
    have hL := hXs.1
    have hgb := gJ_le hP (1 + i) (nS P - 1) 4
    have hgb2 : gJ P (1 + i) (nS P - 1) 4 ≤ 10000000000000 := Nat.le_trans hgb (Nat.le_trans (Nat.pow_le_pow_right (by omega) (show 1 + i ≤ 13 by omega)) (by decide))
    generalize hacc : fo (lenS (fun j => decide (0 < gJ P j (nS P - 1) 4)) (decide (¬ mo = 0))) (-9) i = acc at *
    have estep : fo (lenS (fun j => decide (0 < gJ P j (nS P - 1) 4)) (decide (¬ mo = 0))) (-9) (i + 1) = if 0 < gJ P (1 + i) (nS P - 1) 4 ∧ (¬ mo = 0 ∨ acc = -9) then nI (1 + i) else acc := by
      show lenS _ _ i _ = _
      rw [hacc]
      unfold lenS
      rw [Nat.add_comm i 1]
      simp only [decide_eq_true_eq]
    rw [estep] at ih
    have J : ∀ v : Int32, v = (if 0 < gJ P (1 + i) (nS P - 1) 4 ∧ (¬ mo = 0 ∨ acc = -9) then nI (1 + i) else acc) → YY g 4 s 0 0 39 [(0, .ref (B.1 + 0)), (1, .int mo), (2, .int acc), (3, .int (nI (1 + i)))] [.int v] := by
      intro v hv
      subst hv
      refine y_istore_n hg dX0_lengthOf_39 (by decide) (lv1 := [(0, _), (1, _), (2, _), (3, _)]) rfl ?_
      refine y_aload_n hg dX0_lengthOf_40 rfl ?_
      refine y_cVv hg (cX_goOnLayers hP hXs hYs (by omega)) iX0_goOnLayers q432 (hL.x) cf0 rfl rfl (by simp [Value.category]) (Nat.le_refl _) (Nat.le_refl _) (by decide) dX0_lengthOf_41 (fun σ2 hp => ?_)
      obtain ⟨hf2, h42, N, hYn⟩ := hp
      refine y_iinc hg dX0_lengthOf_44 rfl (inc1 _) (by decide) (lv1 := [(0, _), (1, _), (2, _), (3, _)]) rfl ?_
      refine y_goto hg 9 dX0_lengthOf_47 (by decide) ?_
      exact ih _ ⟨hf.tr hf2, h42.trans h4, kb, ka, N, hYn⟩
    refine y_iload_n hg dX0_lengthOf_9 rfl ?_
    refine y_bipush (v := nI 12) hg dX0_lengthOf_10 rfl ?_
    refine y_icmp_gt hg 50 dX0_lengthOf_12 (by decide) (fun hT => absurd hT (nI_nlt (by omega) (by decide))) (fun _ => ?_)
    refine y_aload_n hg dX0_lengthOf_15 rfl ?_
    refine y_cVl hg (cX_endedNow hP hXs hYs) iX0_endedNow q428 (hL.x) cf0 rfl rfl (by simp [Value.category]) (Nat.le_refl _) (Nat.le_refl _) (by decide) dX0_lengthOf_16 (fun r σ2 hp => ?_)
    obtain ⟨rfl, rfl⟩ := hp
    refine y_lconst (v := 0) hg dX0_lengthOf_19 rfl ?_
    refine y_lc_le hg 38 dX0_lengthOf_20 dX0_lengthOf_21 (by decide) (fun hc => ?_) (fun hc => ?_)
    · refine y_iload_n hg dX0_lengthOf_38 rfl ?_
      have h0 := (pk_lLE (b := 0) (by omega) (by omega)).mp hc
      exact J _ (by rw [if_neg (fun q => by omega)])
    · have h0 : 0 < gJ P (1 + i) (nS P - 1) 4 := by
        rcases Nat.eq_zero_or_pos (gJ P (1 + i) (nS P - 1) 4) with z | z
        · exact absurd (by rw [z]; decide) hc
        · exact z
      refine y_iload_n hg dX0_lengthOf_24 rfl ?_
      refine y_if_ne hg 34 dX0_lengthOf_25 (by decide) (fun hc2 => ?_) (fun hc2 => ?_)
      · refine y_iload_n hg dX0_lengthOf_34 rfl ?_
        refine y_goto hg 39 dX0_lengthOf_35 (by decide) ?_
        exact J _ (by rw [if_pos ⟨h0, Or.inl hc2⟩])
      · refine y_iload_n hg dX0_lengthOf_28 rfl ?_
        refine y_bipush (v := -9) hg dX0_lengthOf_29 rfl ?_
        refine y_icmp_ne hg 38 dX0_lengthOf_31 (by decide) (fun hc3 => ?_) (fun hc3 => ?_)
        · refine y_iload_n hg dX0_lengthOf_38 rfl ?_
          exact J _ (by rw [if_neg (fun q => q.2.elim (fun z => z hc2) hc3)])
        · refine y_iload_n hg dX0_lengthOf_34 rfl ?_
          refine y_goto hg 39 dX0_lengthOf_35 (by decide) ?_
          exact J _ (by rw [if_pos ⟨h0, Or.inr hc3⟩])
  · intro s hI
    obtain ⟨hf, h4, ka, kb, F, hYs⟩ := hI
    refine y_iload_n hg dX0_lengthOf_9 rfl ?_
    refine y_bipush (v := nI 12) hg dX0_lengthOf_10 rfl ?_
    refine y_icmp_gt hg 50 dX0_lengthOf_12 (by decide) (fun _ => ?_) (fun hF => absurd (nI_lt (by omega) (by decide)) hF)
    refine y_iload_n hg dX0_lengthOf_50 rfl ?_
    refine y_iret hg hr ⟨_, rfl, ?_⟩ dX0_lengthOf_51 (Nat.le_refl _) (Nat.le_refl _)
    exact ⟨rfl, hf, h4, ka, kb, hYs.1⟩
end XLen

