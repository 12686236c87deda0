section Leaf3
variable {l : Launch} {B : Bs} {σ : Mem}
theorem cX_begin {k : Nat} (hT0 : IsW B σ k) (hk0 : k ≠ 0) : MT l B 0 0 0 yX2_begin cX2_begin 2 none [.ref (B.1 + k)] σ (pV fun σ' => FrR (fun a j => (a = k ∧ j = 1) ∨ a = k + 2) σ σ' ∧ σ'.2.2.1 k 1 = 0 ∧ ∀ x, x < 8 → σ'.2.2.1 (k + 2) x = 0) := by
  have hT := hT0
  refine MT.of (by decide) (Nat.le_of_ble_eq_true rfl) (fun g hg hr => ?_)
  refine y_aload_n hg dX2_begin_0 rfl ?_
  refine y_iconst (v := nI 0) hg dX2_begin_1 rfl ?_
  refine y_puti (j := 1) hg cf2 (hT.o) (by decide) rfl rfl q155 dX2_begin_2 ?_
  refine y_iconst (v := nI 0) hg dX2_begin_5 rfl ?_
  refine y_istore_n hg dX2_begin_6 (by decide) (lv1 := [(0, _), (1, _)]) rfl ?_
  refine (loop_st (S := Mem) (G := fun i s => YY g 2 s 0 0 7 [(0, .ref (B.1 + k)), (1, .int (nI i))] []) (I := fun i s => FrR (fun a j => (a = k ∧ j = 1) ∨ a = k + 2) σ s ∧ s.2.2.1 k 1 = 0 ∧ ∀ x, x < i → s.2.2.1 (k + 2) x = 0) 8 (fun i s hi hI ih => ?_) (fun s hI => ?_) 0 _ (by decide) ⟨FrR.stI FrR.rf (Or.inl ⟨rfl, rfl⟩), by simp [setI, up2_s]; rfl, fun x hx => absurd hx (by omega)⟩)
  · obtain ⟨hf, h1, h2⟩ := hI
    have hT := hT0.fr hf.1 hk0
    refine y_iload_n hg dX2_begin_7 rfl ?_
    refine y_bipush (v := nI 8) hg dX2_begin_8 rfl ?_
    refine y_icmp_ge hg 26 dX2_begin_10 (by decide) (fun hT => absurd hT (ge_c hi (by decide))) (fun _ => ?_)
    refine y_aload_n hg dX2_begin_13 rfl ?_
    refine y_getr (j := 3) hg cf2 (hT.o) (by decide) rfl (hT.r_has) q159 dX2_begin_14 ?_
    refine y_iload_n hg dX2_begin_17 rfl ?_
    refine y_iconst (v := nI 0) hg dX2_begin_18 rfl ?_
    refine y_iast hg _ (hT.k_has) rfl (by omega) dX2_begin_19 ?_
    refine y_iinc hg dX2_begin_20 rfl (inc1 _) (by decide) (lv1 := [(0, _), (1, _)]) rfl ?_
    refine y_goto hg 7 dX2_begin_23 (by decide) ?_
    refine ih _ ⟨hf.stI (Or.inr rfl), ?_, fun x hx => ?_⟩
    · rw [← h1]; exact up2_n (by omega)
    · by_cases e : x = i
      · subst e; exact up2_s
      · exact (up2_n (by omega)).trans (h2 x (by omega))
  · refine y_iload_n hg dX2_begin_7 rfl ?_
    refine y_bipush (v := nI 8) hg dX2_begin_8 rfl ?_
    refine y_icmp_ge hg 26 dX2_begin_10 (by decide) (fun _ => ?_) (fun hF => absurd (le_c (Nat.le_refl 8) (by decide)) hF)
    refine y_vret hg hr ⟨rfl, ?_⟩ dX2_begin_26 (Nat.le_refl _) (Nat.le_refl _)
    exact hI
theorem cX_add {k n x : Nat} (hT : IsW B σ k) (hn : σ.2.2.1 k 1 = nI n) (hn6 : n < 6) (hx : x < 8) : MT l B 0 0 0 yX2_add cX2_add 2 none [.ref (B.1 + k), .int (nI x)] σ (pV fun σ' => σ' = setI (setI (setI σ (k + 1) n (nI x)) k 1 (nI (n + 1))) (k + 2) x (σ.2.2.1 (k + 2) x + 1)) := by
  refine MT.of (by decide) (Nat.le_of_ble_eq_true rfl) (fun g hg hr => ?_)
  refine y_aload_n hg dX2_add_0 rfl ?_
  refine y_getr (j := 0) hg cf2 (hT.o) (by decide) rfl (hT.r_spelt) q153 dX2_add_1 ?_
  refine y_aload_n hg dX2_add_4 rfl ?_
  refine y_geti (j := 1) hg cf2 (hT.o) (by decide) rfl q155 dX2_add_5 ?_
  refine y_iload_n hg dX2_add_8 rfl ?_
  refine y_iast hg n (hT.k_spelt) hn (by omega) dX2_add_9 ?_
  refine y_aload_n hg dX2_add_10 rfl ?_
  refine y_dup hg dX2_add_11 rfl ?_
  refine y_geti (j := 1) hg cf2 (hT.o) (by decide) rfl q155 dX2_add_12 ?_
  refine y_ti (show _ = nI n from (up2_n (by omega)).trans hn) ?_
  refine y_iconst (v := nI 1) hg dX2_add_15 rfl ?_
  refine y_iadd hg dX2_add_16 ?_
  refine y_ti (nI_add n 1) ?_
  refine y_puti (j := 1) hg cf2 (hT.o) (by decide) rfl rfl q155 dX2_add_17 ?_
  refine y_aload_n hg dX2_add_20 rfl ?_
  refine y_getr (j := 3) hg cf2 (hT.o) (by decide) rfl (hT.r_has) q159 dX2_add_21 ?_
  refine y_iload_n hg dX2_add_24 rfl ?_
  refine y_dup2 hg dX2_add_25 rfl rfl ?_
  refine y_iald hg x (hT.k_has) rfl (by omega) dX2_add_26 ?_
  refine y_ti (show _ = σ.2.2.1 (k + 2) x from (up2_n (by omega)).trans (up2_n (by omega))) ?_
  refine y_iconst (v := nI 1) hg dX2_add_27 rfl ?_
  refine y_iadd hg dX2_add_28 ?_
  refine y_iast hg x (hT.k_has) rfl (by omega) dX2_add_29 ?_
  refine y_vret hg hr ⟨rfl, ?_⟩ dX2_add_30 (Nat.le_refl _) (Nat.le_refl _)
  rfl
/-- two rows alike -/
def twinB (f h : Nat → Int32) (n : Nat) : Bool := fo (fun x b => b && decide (f x = h x)) true n
theorem cX_isTwin {k o : Nat} (hT : IsW B σ k) (hO : IsW B σ o) : MT l B 0 0 0 yX2_isTwin cX2_isTwin 4 (some .boolean) [.ref (B.1 + k), .ref (B.1 + o)] σ (pI fun r σ' => r = b2 (twinB (σ.2.2.1 (k + 2)) (σ.2.2.1 (o + 2)) 8) ∧ σ' = σ) := by
  refine MT.of (by decide) (Nat.le_of_ble_eq_true rfl) (fun g hg hr => ?_)
  refine y_iconst (v := nI 1) hg dX2_isTwin_0 rfl ?_
  refine y_istore_n hg dX2_isTwin_1 (by decide) (lv1 := [(0, _), (1, _), (2, _)]) rfl ?_
  refine y_iconst (v := nI 0) hg dX2_isTwin_2 rfl ?_
  refine y_istore_n hg dX2_isTwin_3 (by decide) (lv1 := [(0, _), (1, _), (2, _), (3, _)]) rfl ?_
  refine (loop_up (G := fun i => YY g 4 σ 0 0 4 [(0, .ref (B.1 + k)), (1, .ref (B.1 + o)), (2, .int (b2 (twinB (σ.2.2.1 (k + 2)) (σ.2.2.1 (o + 2)) i))), (3, .int (nI i))] []) 8 (fun i hi ih => ?_) ?_ 0 (by decide))
  · have J : ∀ v : Int32, v = b2 (twinB (σ.2.2.1 (k + 2)) (σ.2.2.1 (o + 2)) (i + 1)) → YY g 4 σ 0 0 34 [(0, .ref (B.1 + k)), (1, .ref (B.1 + o)), (2, .int (b2 (twinB (σ.2.2.1 (k + 2)) (σ.2.2.1 (o + 2)) i))), (3, .int (nI i))] [.int v] := by
      intro v hv
      subst hv
      refine y_istore_n hg dX2_isTwin_34 (by decide) (lv1 := [(0, _), (1, _), (2, _), (3, _)]) rfl ?_
      refine y_iinc hg dX2_isTwin_35 rfl (inc1 _) (by decide) (lv1 := [(0, _), (1, _), (2, _), (3, _)]) rfl ?_
      refine y_goto hg 4 dX2_isTwin_38 (by decide) ?_
      exact ih
    have e1 : twinB (σ.2.2.1 (k + 2)) (σ.2.2.1 (o + 2)) (i + 1) = (twinB (σ.2.2.1 (k + 2)) (σ.2.2.1 (o + 2)) i && decide (σ.2.2.1 (k + 2) i = σ.2.2.1 (o + 2) i)) := rfl
    refine y_iload_n hg dX2_isTwin_4 rfl ?_
    refine y_bipush (v := nI 8) hg dX2_isTwin_5 rfl ?_
    refine y_icmp_ge hg 41 dX2_isTwin_7 (by decide) (fun hT => absurd hT (ge_c hi (by decide))) (fun _ => ?_)
    refine y_iload_n hg dX2_isTwin_10 rfl ?_
    refine y_if_eq hg 33 dX2_isTwin_11 (by decide) (fun hc => ?_) (fun hc => ?_)
    · refine y_iconst (v := nI 0) hg dX2_isTwin_33 rfl ?_
      refine J _ ?_
      rw [e1, (b2_eq _).mp hc]; rfl
    · refine y_aload_n hg dX2_isTwin_14 rfl ?_
      refine y_getr (j := 3) hg cf2 (hT.o) (by decide) rfl (hT.r_has) q159 dX2_isTwin_15 ?_
      refine y_iload_n hg dX2_isTwin_18 rfl ?_
      refine y_iald hg _ (hT.k_has) rfl (by omega) dX2_isTwin_19 ?_
      refine y_aload_n hg dX2_isTwin_20 rfl ?_
      refine y_getr (j := 3) hg cf2 (hO.o) (by decide) rfl (hO.r_has) q159 dX2_isTwin_21 ?_
      refine y_iload_n hg dX2_isTwin_24 rfl ?_
      refine y_iald hg _ (hO.k_has) rfl (by omega) dX2_isTwin_25 ?_
      refine y_icmp_ne hg 33 dX2_isTwin_26 (by decide) (fun hc2 => ?_) (fun hc2 => ?_)
      · refine y_iconst (v := nI 0) hg dX2_isTwin_33 rfl ?_
        refine J _ ?_
        rw [e1, decide_eq_false hc2, Bool.and_false]; rfl
      · refine y_iconst (v := nI 1) hg dX2_isTwin_29 rfl ?_
        refine y_goto hg 34 dX2_isTwin_30 (by decide) ?_
        refine J _ ?_
        rw [e1, (b2_ne _).mp hc, decide_eq_true hc2]; rfl
  · refine y_iload_n hg dX2_isTwin_4 rfl ?_
    refine y_bipush (v := nI 8) hg dX2_isTwin_5 rfl ?_
    refine y_icmp_ge hg 41 dX2_isTwin_7 (by decide) (fun _ => ?_) (fun hF => absurd (le_c (Nat.le_refl 8) (by decide)) hF)
    refine y_iload_n hg dX2_isTwin_41 rfl ?_
    refine y_zret hg hr (nz_b2 _) ⟨_, rfl, ?_⟩ dX2_isTwin_42 (Nat.le_refl _) (Nat.le_refl _)
    exact ⟨rfl, rfl⟩
theorem cX_wcopy {k o : Nat} (hT : IsW B σ k) (hO : IsW B σ o) (hd : k + 2 < o ∨ o + 2 < k) : MT l B 1 0 0 yX2_copy cX2_copy 2 none [.ref (B.1 + k), .ref (B.1 + o)] σ (pV fun σ' => FrR (WP k) σ σ' ∧ σ'.2.2.1 k 1 = σ.2.2.1 o 1 ∧ σ'.2.2.1 k 2 = σ.2.2.1 o 2 ∧ (∀ x, x < 6 → σ'.2.2.1 (k + 1) x = σ.2.2.1 (o + 1) x) ∧ ∀ x, x < 8 → σ'.2.2.1 (k + 2) x = σ.2.2.1 (o + 2) x) := by
  refine MT.of (by decide) (Nat.le_of_ble_eq_true rfl) (fun g hg hr => ?_)
  refine y_aload_n hg dX2_copy_0 rfl ?_
  refine y_aload_n hg dX2_copy_1 rfl ?_
  refine y_geti (j := 1) hg cf2 (hO.o) (by decide) rfl q155 dX2_copy_2 ?_
  refine y_puti (j := 1) hg cf2 (hT.o) (by decide) rfl rfl q155 dX2_copy_5 ?_
  refine y_aload_n hg dX2_copy_8 rfl ?_
  refine y_aload_n hg dX2_copy_9 rfl ?_
  refine y_geti (j := 2) hg cf2 (hO.o) (by decide) rfl q157 dX2_copy_10 ?_
  refine y_puti (j := 2) hg cf2 (hT.o) (by decide) rfl rfl q157 dX2_copy_13 ?_
  refine y_aload_n hg dX2_copy_16 rfl ?_
  refine y_getr (j := 0) hg cf2 (hO.o) (by decide) rfl (hO.r_spelt) q153 dX2_copy_17 ?_
  refine y_iconst (v := nI 0) hg dX2_copy_20 rfl ?_
  refine y_aload_n hg dX2_copy_21 rfl ?_
  refine y_getr (j := 0) hg cf2 (hT.o) (by decide) rfl (hT.r_spelt) q153 dX2_copy_22 ?_
  refine y_iconst (v := nI 0) hg dX2_copy_25 rfl ?_
  refine y_bipush (v := nI 6) hg dX2_copy_26 rfl ?_
  refine y_acopy hg 6 (hO.k_spelt) (hT.k_spelt) rfl (by omega) (by omega) q363 (by decide) (by decide) dX2_copy_28 ?_
  refine y_aload_n hg dX2_copy_31 rfl ?_
  refine y_getr (j := 3) hg cf2 (hO.o) (by decide) rfl (hO.r_has) q159 dX2_copy_32 ?_
  refine y_iconst (v := nI 0) hg dX2_copy_35 rfl ?_
  refine y_aload_n hg dX2_copy_36 rfl ?_
  refine y_getr (j := 3) hg cf2 (hT.o) (by decide) rfl (hT.r_has) q159 dX2_copy_37 ?_
  refine y_iconst (v := nI 0) hg dX2_copy_40 rfl ?_
  refine y_bipush (v := nI 8) hg dX2_copy_41 rfl ?_
  refine y_acopy hg 8 (hO.k_has) (hT.k_has) rfl (by omega) (by omega) q363 (by decide) (by decide) dX2_copy_43 ?_
  refine y_vret hg hr ⟨rfl, ?_⟩ dX2_copy_46 (Nat.le_refl _) (Nat.le_refl _)
  refine ⟨?_, ?_⟩
  · exact FrR.stRow (FrR.stRow (FrR.stI (FrR.stI FrR.rf (show WP k k 1 from ⟨by omega, by omega⟩)) (show WP k k 2 from ⟨by omega, by omega⟩)) (fun j h => absurd (show WP k (k + 1) j from ⟨by omega, by omega⟩) h)) (fun j h => absurd (show WP k (k + 2) j from ⟨by omega, by omega⟩) h)
  · have n00 : ¬ o = k := by omega
    have n01 : ¬ o = k + 1 := by omega
    have n02 : ¬ o = k + 2 := by omega
    have n10 : ¬ o + 1 = k := by omega
    have n11 : ¬ o + 1 = k + 1 := by omega
    have n12 : ¬ o + 1 = k + 2 := by omega
    have n20 : ¬ o + 2 = k := by omega
    have n21 : ¬ o + 2 = k + 1 := by omega
    have n22 : ¬ o + 2 = k + 2 := by omega
    refine ⟨?_, ?_, fun x hx => ?_, fun x hx => ?_⟩ <;> simp_all [rowI, setI, up1, up2]
theorem cM_empty {k n : Nat} (hA0 : KA σ k 0 n) (hn : 25 ≤ n) : MT l B 0 0 0 yX3_empty cX3_empty 2 none [.ref (B.1 + k)] σ (pV fun σ' => FrR (fun a _ => a = k) σ σ' ∧ ∀ j, σ'.2.2.1 k j = if j < 25 then 0 else σ.2.2.1 k j) := by
  refine MT.of (by decide) (Nat.le_of_ble_eq_true rfl) (fun g hg hr => ?_)
  refine y_iconst (v := nI 0) hg dX3_empty_0 rfl ?_
  refine y_istore_n hg dX3_empty_1 (by decide) (lv1 := [(0, _), (1, _)]) rfl ?_
  refine (loop_st (S := Mem) (G := fun i s => YY g 2 s 0 0 2 [(0, .ref (B.1 + k)), (1, .int (nI i))] []) (I := fun i s => FrR (fun a _ => a = k) σ s ∧ ∀ j, s.2.2.1 k j = if j < i then 0 else σ.2.2.1 k j) 25 (fun i s hi hI ih => ?_) (fun s hI => ?_) 0 _ (by decide) ⟨FrR.rf, fun j => by simp⟩)
  · obtain ⟨hf, h1⟩ := hI
    have hA := hA0.fr hf.1
    refine y_iload_n hg dX3_empty_2 rfl ?_
    refine y_bipush (v := nI 25) hg dX3_empty_3 rfl ?_
    refine y_icmp_ge hg 18 dX3_empty_5 (by decide) (fun hT => absurd hT (ge_c hi (by decide))) (fun _ => ?_)
    refine y_aload_n hg dX3_empty_8 rfl ?_
    refine y_iload_n hg dX3_empty_9 rfl ?_
    refine y_iconst (v := nI 0) hg dX3_empty_10 rfl ?_
    refine y_iast hg _ (hA) rfl (by omega) dX3_empty_11 ?_
    refine y_iinc hg dX3_empty_12 rfl (inc1 _) (by decide) (lv1 := [(0, _), (1, _)]) rfl ?_
    refine y_goto hg 2 dX3_empty_15 (by decide) ?_
    refine ih _ ⟨hf.stI rfl, fun j => ?_⟩
    by_cases e : j = i
    · subst e; rw [if_pos (by omega)]; exact up2_s
    · refine (up2_n (by omega)).trans ((h1 j).trans ?_)
      by_cases e2 : j < i
      · rw [if_pos e2, if_pos (by omega)]
      · rw [if_neg e2, if_neg (by omega)]
  · refine y_iload_n hg dX3_empty_2 rfl ?_
    refine y_bipush (v := nI 25) hg dX3_empty_3 rfl ?_
    refine y_icmp_ge hg 18 dX3_empty_5 (by decide) (fun _ => ?_) (fun hF => absurd (le_c (Nat.le_refl 25) (by decide)) hF)
    refine y_vret hg hr ⟨rfl, ?_⟩ dX3_empty_18 (Nat.le_refl _) (Nat.le_refl _)
    exact hI
theorem cM_copy {k o n n2 : Nat} (hA0 : KA σ k 0 n) (hn : 25 ≤ n) (hO0 : KA σ o 0 n2) (hn2 : 25 ≤ n2) (hd : k ≠ o) : MT l B 0 0 0 yX3_copy cX3_copy 3 none [.ref (B.1 + o), .ref (B.1 + k)] σ (pV fun σ' => FrR (fun a _ => a = k) σ σ' ∧ ∀ j, σ'.2.2.1 k j = if j < 25 then σ.2.2.1 o j else σ.2.2.1 k j) := by
  refine MT.of (by decide) (Nat.le_of_ble_eq_true rfl) (fun g hg hr => ?_)
  refine y_iconst (v := nI 0) hg dX3_copy_0 rfl ?_
  refine y_istore_n hg dX3_copy_1 (by decide) (lv1 := [(0, _), (1, _), (2, _)]) rfl ?_
  refine (loop_st (S := Mem) (G := fun i s => YY g 3 s 0 0 2 [(0, .ref (B.1 + o)), (1, .ref (B.1 + k)), (2, .int (nI i))] []) (I := fun i s => FrR (fun a _ => a = k) σ s ∧ ∀ j, s.2.2.1 k j = if j < i then σ.2.2.1 o j else σ.2.2.1 k j) 25 (fun i s hi hI ih => ?_) (fun s hI => ?_) 0 _ (by decide) ⟨FrR.rf, fun j => by simp⟩)
  · obtain ⟨hf, h1⟩ := hI
    have hA := hA0.fr hf.1
    have hO := hO0.fr hf.1
    refine y_iload_n hg dX3_copy_2 rfl ?_
    refine y_bipush (v := nI 25) hg dX3_copy_3 rfl ?_
    refine y_icmp_ge hg 20 dX3_copy_5 (by decide) (fun hT => absurd hT (ge_c hi (by decide))) (fun _ => ?_)
    refine y_aload_n hg dX3_copy_8 rfl ?_
    refine y_iload_n hg dX3_copy_9 rfl ?_
    refine y_aload_n hg dX3_copy_10 rfl ?_
    refine y_iload_n hg dX3_copy_11 rfl ?_
    refine y_iald hg _ (hO) rfl (by omega) dX3_copy_12 ?_
    refine y_iast hg _ (hA) rfl (by omega) dX3_copy_13 ?_
    refine y_iinc hg dX3_copy_14 rfl (inc1 _) (by decide) (lv1 := [(0, _), (1, _), (2, _)]) rfl ?_
    refine y_goto hg 2 dX3_copy_17 (by decide) ?_
    refine ih _ ⟨hf.stI rfl, fun j => ?_⟩
    by_cases e : j = i
    · subst e; rw [if_pos (by omega)]; exact up2_s.trans (hf.i hO0.2.1 (fun q => hd q.symm))
    · refine (up2_n (by omega)).trans ((h1 j).trans ?_)
      by_cases e2 : j < i
      · rw [if_pos e2, if_pos (by omega)]
      · rw [if_neg e2, if_neg (by omega)]
  · refine y_iload_n hg dX3_copy_2 rfl ?_
    refine y_bipush (v := nI 25) hg dX3_copy_3 rfl ?_
    refine y_icmp_ge hg 20 dX3_copy_5 (by decide) (fun _ => ?_) (fun hF => absurd (le_c (Nat.le_refl 25) (by decide)) hF)
    refine y_vret hg hr ⟨rfl, ?_⟩ dX3_copy_20 (Nat.le_refl _) (Nat.le_refl _)
    exact hI
/-- the bits of a set, counted -/
def onesF (s : Int32) (n : Nat) : Int32 := fo (fun k a => a + ((s >>> (nI k &&& 31)) &&& nI 1)) 0 n
theorem cM_ones (s : Int32) : MT l B 0 0 0 yX3_ones cX3_ones 3 (some .int) [.int s] σ (pI fun r σ' => r = onesF s 16 ∧ σ' = σ) := by
  refine MT.of (by decide) (Nat.le_of_ble_eq_true rfl) (fun g hg hr => ?_)
  refine y_iconst (v := nI 0) hg dX3_ones_0 rfl ?_
  refine y_istore_n hg dX3_ones_1 (by decide) (lv1 := [(0, _), (1, _)]) rfl ?_
  refine y_iconst (v := nI 0) hg dX3_ones_2 rfl ?_
  refine y_istore_n hg dX3_ones_3 (by decide) (lv1 := [(0, _), (1, _), (2, _)]) rfl ?_
  refine (loop_up (G := fun i => YY g 3 σ 0 0 4 [(0, .int s), (1, .int (onesF s i)), (2, .int (nI i))] []) 16 (fun i hi ih => ?_) ?_ 0 (by decide))
  · refine y_iload_n hg dX3_ones_4 rfl ?_
    refine y_bipush (v := nI 16) hg dX3_ones_5 rfl ?_
    refine y_icmp_ge hg 24 dX3_ones_7 (by decide) (fun hT => absurd hT (ge_c hi (by decide))) (fun _ => ?_)
    refine y_iload_n hg dX3_ones_10 rfl ?_
    refine y_iload_n hg dX3_ones_11 rfl ?_
    refine y_iload_n hg dX3_ones_12 rfl ?_
    refine y_ishr hg dX3_ones_13 ?_
    refine y_iconst (v := nI 1) hg dX3_ones_14 rfl ?_
    refine y_iand hg dX3_ones_15 ?_
    refine y_iadd hg dX3_ones_16 ?_
    refine y_istore_n hg dX3_ones_17 (by decide) (lv1 := [(0, _), (1, _), (2, _)]) rfl ?_
    refine y_iinc hg dX3_ones_18 rfl (inc1 _) (by decide) (lv1 := [(0, _), (1, _), (2, _)]) rfl ?_
    refine y_goto hg 4 dX3_ones_21 (by decide) ?_
    exact ih
  · refine y_iload_n hg dX3_ones_4 rfl ?_
    refine y_bipush (v := nI 16) hg dX3_ones_5 rfl ?_
    refine y_icmp_ge hg 24 dX3_ones_7 (by decide) (fun _ => ?_) (fun hF => absurd (le_c (Nat.le_refl 16) (by decide)) hF)
    refine y_iload_n hg dX3_ones_24 rfl ?_
    refine y_iret hg hr ⟨_, rfl, ?_⟩ dX3_ones_25 (Nat.le_refl _) (Nat.le_refl _)
    exact ⟨rfl, rfl⟩
def powF (x : Int32) (n : Nat) : Int32 := fo (fun _ a => a * x) 1 n
theorem cM_power (x : Int32) (n : Nat) (hn : n < 100) : MT l B 0 0 0 yX3_power cX3_power 4 (some .int) [.int x, .int (nI n)] σ (pI fun r σ' => r = powF x n ∧ σ' = σ) := by
  refine MT.of (by decide) (Nat.le_of_ble_eq_true rfl) (fun g hg hr => ?_)
  refine y_iconst (v := nI 1) hg dX3_power_0 rfl ?_
  refine y_istore_n hg dX3_power_1 (by decide) (lv1 := [(0, _), (1, _), (2, _)]) rfl ?_
  refine y_iconst (v := nI 0) hg dX3_power_2 rfl ?_
  refine y_istore_n hg dX3_power_3 (by decide) (lv1 := [(0, _), (1, _), (2, _), (3, _)]) rfl ?_
  refine (loop_up (G := fun i => YY g 4 σ 0 0 4 [(0, .int x), (1, .int (nI n)), (2, .int (powF x i)), (3, .int (nI i))] []) n (fun i hi ih => ?_) ?_ 0 (by omega))
  · refine y_iload_n hg dX3_power_4 rfl ?_
    refine y_iload_n hg dX3_power_5 rfl ?_
    refine y_icmp_ge hg 19 dX3_power_6 (by decide) (fun hT => absurd hT (ge_c hi (by omega))) (fun _ => ?_)
    refine y_iload_n hg dX3_power_9 rfl ?_
    refine y_iload_n hg dX3_power_10 rfl ?_
    refine y_imul hg dX3_power_11 ?_
    refine y_istore_n hg dX3_power_12 (by decide) (lv1 := [(0, _), (1, _), (2, _), (3, _)]) rfl ?_
    refine y_iinc hg dX3_power_13 rfl (inc1 _) (by decide) (lv1 := [(0, _), (1, _), (2, _), (3, _)]) rfl ?_
    refine y_goto hg 4 dX3_power_16 (by decide) ?_
    exact ih
  · refine y_iload_n hg dX3_power_4 rfl ?_
    refine y_iload_n hg dX3_power_5 rfl ?_
    refine y_icmp_ge hg 19 dX3_power_6 (by decide) (fun _ => ?_) (fun hF => absurd (le_c (Nat.le_refl n) (by omega)) hF)
    refine y_iload_n hg dX3_power_19 rfl ?_
    refine y_iret hg hr ⟨_, rfl, ?_⟩ dX3_power_20 (Nat.le_refl _) (Nat.le_refl _)
    exact ⟨rfl, rfl⟩
theorem cX_whole (x : Int32) (n : Nat) (hn : n < 100) : MT l B 0 0 0 yX0_whole cX0_whole 4 (some .int) [.int x, .int (nI n)] σ (pI fun r σ' => r = powF x n ∧ σ' = σ) := by
  refine MT.of (by decide) (Nat.le_of_ble_eq_true rfl) (fun g hg hr => ?_)
  refine y_iconst (v := nI 1) hg dX0_whole_0 rfl ?_
  refine y_istore_n hg dX0_whole_1 (by decide) (lv1 := [(0, _), (1, _), (2, _)]) rfl ?_
  refine y_iconst (v := nI 0) hg dX0_whole_2 rfl ?_
  refine y_istore_n hg dX0_whole_3 (by decide) (lv1 := [(0, _), (1, _), (2, _), (3, _)]) rfl ?_
  refine (loop_up (G := fun i => YY g 4 σ 0 0 4 [(0, .int x), (1, .int (nI n)), (2, .int (powF x i)), (3, .int (nI i))] []) n (fun i hi ih => ?_) ?_ 0 (by omega))
  · refine y_iload_n hg dX0_whole_4 rfl ?_
    refine y_iload_n hg dX0_whole_5 rfl ?_
    refine y_icmp_ge hg 19 dX0_whole_6 (by decide) (fun hT => absurd hT (ge_c hi (by omega))) (fun _ => ?_)
    refine y_iload_n hg dX0_whole_9 rfl ?_
    refine y_iload_n hg dX0_whole_10 rfl ?_
    refine y_imul hg dX0_whole_11 ?_
    refine y_istore_n hg dX0_whole_12 (by decide) (lv1 := [(0, _), (1, _), (2, _), (3, _)]) rfl ?_
    refine y_iinc hg dX0_whole_13 rfl (inc1 _) (by decide) (lv1 := [(0, _), (1, _), (2, _), (3, _)]) rfl ?_
    refine y_goto hg 4 dX0_whole_16 (by decide) ?_
    exact ih
  · refine y_iload_n hg dX0_whole_4 rfl ?_
    refine y_iload_n hg dX0_whole_5 rfl ?_
    refine y_icmp_ge hg 19 dX0_whole_6 (by decide) (fun _ => ?_) (fun hF => absurd (le_c (Nat.le_refl n) (by omega)) hF)
    refine y_iload_n hg dX0_whole_19 rfl ?_
    refine y_iret hg hr ⟨_, rfl, ?_⟩ dX0_whole_20 (Nat.le_refl _) (Nat.le_refl _)
    exact ⟨rfl, rfl⟩
def facF (n : Nat) : Int32 := fo (fun k a => a * nI (2 + k)) 1 (n - 1)
theorem cM_factorial (n : Nat) (hn : n < 100) : MT l B 0 0 0 yX3_factorial cX3_factorial 3 (some .int) [.int (nI n)] σ (pI fun r σ' => r = facF n ∧ σ' = σ) := by
  refine MT.of (by decide) (Nat.le_of_ble_eq_true rfl) (fun g hg hr => ?_)
  refine y_iconst (v := nI 1) hg dX3_factorial_0 rfl ?_
  refine y_istore_n hg dX3_factorial_1 (by decide) (lv1 := [(0, _), (1, _)]) rfl ?_
  refine y_iconst (v := nI 2) hg dX3_factorial_2 rfl ?_
  refine y_istore_n hg dX3_factorial_3 (by decide) (lv1 := [(0, _), (1, _), (2, _)]) rfl ?_
  refine (loop_up (G := fun i => YY g 3 σ 0 0 4 [(0, .int (nI n)), (1, .int (fo (fun k a => a * nI (2 + k)) 1 i)), (2, .int (nI (2 + i)))] []) (n - 1) (fun i hi ih => ?_) ?_ 0 (by omega))
  · refine y_iload_n hg dX3_factorial_4 rfl ?_
    refine y_iload_n hg dX3_factorial_5 rfl ?_
    refine y_icmp_gt hg 19 dX3_factorial_6 (by decide) (fun hT => absurd hT (nI_nlt (by omega) (by omega))) (fun _ => ?_)
    refine y_iload_n hg dX3_factorial_9 rfl ?_
    refine y_iload_n hg dX3_factorial_10 rfl ?_
    refine y_imul hg dX3_factorial_11 ?_
    refine y_istore_n hg dX3_factorial_12 (by decide) (lv1 := [(0, _), (1, _), (2, _)]) rfl ?_
    refine y_iinc hg dX3_factorial_13 rfl (inc1 _) (by decide) (lv1 := [(0, _), (1, _), (2, _)]) rfl ?_
    refine y_goto hg 4 dX3_factorial_16 (by decide) ?_
    exact ih
  · refine y_iload_n hg dX3_factorial_4 rfl ?_
    refine y_iload_n hg dX3_factorial_5 rfl ?_
    refine y_icmp_gt hg 19 dX3_factorial_6 (by decide) (fun _ => ?_) (fun hF => absurd (nI_lt (by omega) (by omega)) hF)
    refine y_iload_n hg dX3_factorial_19 rfl ?_
    refine y_iret hg hr ⟨_, rfl, ?_⟩ dX3_factorial_20 (Nat.le_refl _) (Nat.le_refl _)
    exact ⟨rfl, rfl⟩
theorem cX_factorial (n : Nat) (hn : n < 100) : MT l B 0 0 0 yX0_factorial cX0_factorial 3 (some .int) [.int (nI n)] σ (pI fun r σ' => r = facF n ∧ σ' = σ) := by
  refine MT.of (by decide) (Nat.le_of_ble_eq_true rfl) (fun g hg hr => ?_)
  refine y_iconst (v := nI 1) hg dX0_factorial_0 rfl ?_
  refine y_istore_n hg dX0_factorial_1 (by decide) (lv1 := [(0, _), (1, _)]) rfl ?_
  refine y_iconst (v := nI 2) hg dX0_factorial_2 rfl ?_
  refine y_istore_n hg dX0_factorial_3 (by decide) (lv1 := [(0, _), (1, _), (2, _)]) rfl ?_
  refine (loop_up (G := fun i => YY g 3 σ 0 0 4 [(0, .int (nI n)), (1, .int (fo (fun k a => a * nI (2 + k)) 1 i)), (2, .int (nI (2 + i)))] []) (n - 1) (fun i hi ih => ?_) ?_ 0 (by omega))
  · refine y_iload_n hg dX0_factorial_4 rfl ?_
    refine y_iload_n hg dX0_factorial_5 rfl ?_
    refine y_icmp_gt hg 19 dX0_factorial_6 (by decide) (fun hT => absurd hT (nI_nlt (by omega) (by omega))) (fun _ => ?_)
    refine y_iload_n hg dX0_factorial_9 rfl ?_
    refine y_iload_n hg dX0_factorial_10 rfl ?_
    refine y_imul hg dX0_factorial_11 ?_
    refine y_istore_n hg dX0_factorial_12 (by decide) (lv1 := [(0, _), (1, _), (2, _)]) rfl ?_
    refine y_iinc hg dX0_factorial_13 rfl (inc1 _) (by decide) (lv1 := [(0, _), (1, _), (2, _)]) rfl ?_
    refine y_goto hg 4 dX0_factorial_16 (by decide) ?_
    exact ih
  · refine y_iload_n hg dX0_factorial_4 rfl ?_
    refine y_iload_n hg dX0_factorial_5 rfl ?_
    refine y_icmp_gt hg 19 dX0_factorial_6 (by decide) (fun _ => ?_) (fun hF => absurd (nI_lt (by omega) (by omega)) hF)
    refine y_iload_n hg dX0_factorial_19 rfl ?_
    refine y_iret hg hr ⟨_, rfl, ?_⟩ dX0_factorial_20 (Nat.le_refl _) (Nat.le_refl _)
    exact ⟨rfl, rfl⟩
def tenF (n : Nat) : Int64 := fo (fun _ a => a * 10000) 1 n
theorem cX_ten (n : Nat) (hn : n < 100) : MT l B 0 0 0 yX0_tenThousandTo cX0_tenThousandTo 4 (some .long) [.int (nI n)] σ (pL fun r σ' => r = tenF n ∧ σ' = σ) := by
  refine MT.of (by decide) (Nat.le_of_ble_eq_true rfl) (fun g hg hr => ?_)
  refine y_lconst (v := 1) hg dX0_tenThousandTo_0 rfl ?_
  refine y_lstore_n hg dX0_tenThousandTo_1 (by decide) (lv1 := [(0, _), (1, _)]) rfl ?_
  refine y_iconst (v := nI 0) hg dX0_tenThousandTo_2 rfl ?_
  refine y_istore_n hg dX0_tenThousandTo_3 (by decide) (lv1 := [(0, _), (1, _), (3, _)]) rfl ?_
  refine (loop_up (G := fun i => YY g 4 σ 0 0 4 [(0, .int (nI n)), (1, .long (tenF i)), (3, .int (nI i))] []) n (fun i hi ih => ?_) ?_ 0 (by omega))
  · refine y_iload_n hg dX0_tenThousandTo_4 rfl ?_
    refine y_iload_n hg dX0_tenThousandTo_5 rfl ?_
    refine y_icmp_ge hg 21 dX0_tenThousandTo_6 (by decide) (fun hT => absurd hT (ge_c hi (by omega))) (fun _ => ?_)
    refine y_lload_n hg dX0_tenThousandTo_9 rfl ?_
    refine y_ldc2 hg dX0_tenThousandTo_10 q821 ?_
    refine y_lmul hg dX0_tenThousandTo_13 ?_
    refine y_lstore_n hg dX0_tenThousandTo_14 (by decide) (lv1 := [(0, _), (1, _), (3, _)]) rfl ?_
    refine y_iinc hg dX0_tenThousandTo_15 rfl (inc1 _) (by decide) (lv1 := [(0, _), (1, _), (3, _)]) rfl ?_
    refine y_goto hg 4 dX0_tenThousandTo_18 (by decide) ?_
    exact ih
  · refine y_iload_n hg dX0_tenThousandTo_4 rfl ?_
    refine y_iload_n hg dX0_tenThousandTo_5 rfl ?_
    refine y_icmp_ge hg 21 dX0_tenThousandTo_6 (by decide) (fun _ => ?_) (fun hF => absurd (le_c (Nat.le_refl n) (by omega)) hF)
    refine y_lload_n hg dX0_tenThousandTo_21 rfl ?_
    refine y_lret hg hr ⟨_, rfl, ?_⟩ dX0_tenThousandTo_22 (Nat.le_refl _) (Nat.le_refl _)
    exact ⟨rfl, rfl⟩
theorem cM_ten (n : Nat) (hn : n < 100) : MT l B 0 0 0 yX3_tenThousands cX3_tenThousands 4 (some .long) [.int (nI n)] σ (pL fun r σ' => r = tenF n ∧ σ' = σ) := by
  refine MT.of (by decide) (Nat.le_of_ble_eq_true rfl) (fun g hg hr => ?_)
  refine y_lconst (v := 1) hg dX3_tenThousands_0 rfl ?_
  refine y_lstore_n hg dX3_tenThousands_1 (by decide) (lv1 := [(0, _), (1, _)]) rfl ?_
  refine y_iconst (v := nI 0) hg dX3_tenThousands_2 rfl ?_
  refine y_istore_n hg dX3_tenThousands_3 (by decide) (lv1 := [(0, _), (1, _), (3, _)]) rfl ?_
  refine (loop_up (G := fun i => YY g 4 σ 0 0 4 [(0, .int (nI n)), (1, .long (tenF i)), (3, .int (nI i))] []) n (fun i hi ih => ?_) ?_ 0 (by omega))
  · refine y_iload_n hg dX3_tenThousands_4 rfl ?_
    refine y_iload_n hg dX3_tenThousands_5 rfl ?_
    refine y_icmp_ge hg 21 dX3_tenThousands_6 (by decide) (fun hT => absurd hT (ge_c hi (by omega))) (fun _ => ?_)
    refine y_lload_n hg dX3_tenThousands_9 rfl ?_
    refine y_ldc2 hg dX3_tenThousands_10 q1309 ?_
    refine y_lmul hg dX3_tenThousands_13 ?_
    refine y_lstore_n hg dX3_tenThousands_14 (by decide) (lv1 := [(0, _), (1, _), (3, _)]) rfl ?_
    refine y_iinc hg dX3_tenThousands_15 rfl (inc1 _) (by decide) (lv1 := [(0, _), (1, _), (3, _)]) rfl ?_
    refine y_goto hg 4 dX3_tenThousands_18 (by decide) ?_
    exact ih
  · refine y_iload_n hg dX3_tenThousands_4 rfl ?_
    refine y_iload_n hg dX3_tenThousands_5 rfl ?_
    refine y_icmp_ge hg 21 dX3_tenThousands_6 (by decide) (fun _ => ?_) (fun hF => absurd (le_c (Nat.le_refl n) (by omega)) hF)
    refine y_lload_n hg dX3_tenThousands_21 rfl ?_
    refine y_lret hg hr ⟨_, rfl, ?_⟩ dX3_tenThousands_22 (Nat.le_refl _) (Nat.le_refl _)
    exact ⟨rfl, rfl⟩
/-- what bitCount computes -/
def bsh (x : Int32) (n : Nat) : Int32 := (x.toUInt32 >>> ((nI n).toUInt32 &&& Int32.toUInt32 31)).toInt32
def bitcF (x : Int32) : Int32 :=
  let a := x - (bsh x 1 &&& 1431655765)
  let b := (a &&& 858993459) + (bsh a 2 &&& 858993459)
  let c := (b + bsh b 4) &&& 252645135
  let d := c + bsh c 8
  let e := d + bsh d 16
  e &&& nI 63
theorem cJ_bitCount (x : Int32) : MT l B 0 0 0 yJ3_bitCount cJ3_bitCount 1 (some .int) [.int x] σ (pI fun r σ' => r = bitcF x ∧ σ' = σ) := by
  refine MT.ofF (by decide +kernel) (Nat.le_of_ble_eq_true rfl) (fun g hg hr => ?_)
  refine y_iload_n hg dJ3_bitCount_0 rfl ?_
  refine y_iload_n hg dJ3_bitCount_1 rfl ?_
  refine y_iconst (v := nI 1) hg dJ3_bitCount_2 rfl ?_
  refine y_iushr hg dJ3_bitCount_3 ?_
  refine y_ldcw hg dJ3_bitCount_4 q858 ?_
  refine y_iand hg dJ3_bitCount_7 ?_
  refine y_isub hg dJ3_bitCount_8 ?_
  refine y_istore_n hg dJ3_bitCount_9 (by decide) (lv1 := [(0, _)]) rfl ?_
  refine y_iload_n hg dJ3_bitCount_10 rfl ?_
  refine y_ldcw hg dJ3_bitCount_11 q859 ?_
  refine y_iand hg dJ3_bitCount_14 ?_
  refine y_iload_n hg dJ3_bitCount_15 rfl ?_
  refine y_iconst (v := nI 2) hg dJ3_bitCount_16 rfl ?_
  refine y_iushr hg dJ3_bitCount_17 ?_
  refine y_ldcw hg dJ3_bitCount_18 q859 ?_
  refine y_iand hg dJ3_bitCount_21 ?_
  refine y_iadd hg dJ3_bitCount_22 ?_
  refine y_istore_n hg dJ3_bitCount_23 (by decide) (lv1 := [(0, _)]) rfl ?_
  refine y_iload_n hg dJ3_bitCount_24 rfl ?_
  refine y_iload_n hg dJ3_bitCount_25 rfl ?_
  refine y_iconst (v := nI 4) hg dJ3_bitCount_26 rfl ?_
  refine y_iushr hg dJ3_bitCount_27 ?_
  refine y_iadd hg dJ3_bitCount_28 ?_
  refine y_ldcw hg dJ3_bitCount_29 q860 ?_
  refine y_iand hg dJ3_bitCount_32 ?_
  refine y_istore_n hg dJ3_bitCount_33 (by decide) (lv1 := [(0, _)]) rfl ?_
  refine y_iload_n hg dJ3_bitCount_34 rfl ?_
  refine y_iload_n hg dJ3_bitCount_35 rfl ?_
  refine y_bipush (v := nI 8) hg dJ3_bitCount_36 rfl ?_
  refine y_iushr hg dJ3_bitCount_38 ?_
  refine y_iadd hg dJ3_bitCount_39 ?_
  refine y_istore_n hg dJ3_bitCount_40 (by decide) (lv1 := [(0, _)]) rfl ?_
  refine y_iload_n hg dJ3_bitCount_41 rfl ?_
  refine y_iload_n hg dJ3_bitCount_42 rfl ?_
  refine y_bipush (v := nI 16) hg dJ3_bitCount_43 rfl ?_
  refine y_iushr hg dJ3_bitCount_45 ?_
  refine y_iadd hg dJ3_bitCount_46 ?_
  refine y_istore_n hg dJ3_bitCount_47 (by decide) (lv1 := [(0, _)]) rfl ?_
  refine y_iload_n hg dJ3_bitCount_48 rfl ?_
  refine y_bipush (v := nI 63) hg dJ3_bitCount_49 rfl ?_
  refine y_iand hg dJ3_bitCount_51 ?_
  refine y_iret hg hr ⟨_, rfl, ?_⟩ dJ3_bitCount_52 (Nat.le_refl _) (Nat.le_refl _)
  exact ⟨rfl, rfl⟩
theorem cX_isWord (hL : LX B σ) (w : Int32) : MT l B 1 0 0 yX0_isWord cX0_isWord 2 (some .boolean) [.ref (B.1 + 0), .int w] σ (pI fun r σ' => r = b2 (inL w.toInt64 0 (σ.2.2.1 0 1 - nI 1).toInt64) ∧ σ' = σ) := by
  refine MT.of (by decide) (Nat.le_of_ble_eq_true rfl) (fun g hg hr => ?_)
  refine y_iload_n hg dX0_isWord_0 rfl ?_
  refine y_i2l hg dX0_isWord_1 ?_
  refine y_lconst (v := 0) hg dX0_isWord_2 rfl ?_
  refine y_aload_n hg dX0_isWord_3 rfl ?_
  refine y_geti (j := 1) hg cf0 (hL.x) (by decide) rfl q173 dX0_isWord_4 ?_
  refine y_iconst (v := nI 1) hg dX0_isWord_7 rfl ?_
  refine y_isub hg dX0_isWord_8 ?_
  refine y_i2l hg dX0_isWord_9 ?_
  refine y_cSi hg (cX_isIn _ _ _) iX0_isIn q286 rfl rfl (by simp [Value.category]) (Nat.le_refl _) (Nat.le_refl _) (by decide) dX0_isWord_10 (fun r σ1 hp => ?_)
  obtain ⟨rfl, rfl⟩ := hp
  refine y_zret hg hr (nz_b2 _) ⟨_, rfl, ?_⟩ dX0_isWord_13 (Nat.le_refl _) (Nat.le_refl _)
  exact ⟨rfl, rfl⟩
theorem cM_isWord (hM : LM B σ) (w : Int32) : MT l B 1 0 0 yX3_isWord cX3_isWord 2 (some .boolean) [.ref (B.1 + 157), .int w] σ (pI fun r σ' => r = b2 (inL w.toInt64 0 (σ.2.2.1 157 2 - nI 1).toInt64) ∧ σ' = σ) := by
  refine MT.of (by decide) (Nat.le_of_ble_eq_true rfl) (fun g hg hr => ?_)
  refine y_iload_n hg dX3_isWord_0 rfl ?_
  refine y_i2l hg dX3_isWord_1 ?_
  refine y_lconst (v := 0) hg dX3_isWord_2 rfl ?_
  refine y_aload_n hg dX3_isWord_3 rfl ?_
  refine y_geti (j := 2) hg cf3 (hM.m) (by decide) rfl q913 dX3_isWord_4 ?_
  refine y_iconst (v := nI 1) hg dX3_isWord_7 rfl ?_
  refine y_isub hg dX3_isWord_8 ?_
  refine y_i2l hg dX3_isWord_9 ?_
  refine y_cSi hg (cM_in _ _ _) iX3_in q1052 rfl rfl (by simp [Value.category]) (Nat.le_refl _) (Nat.le_refl _) (by decide) dX3_isWord_10 (fun r σ1 hp => ?_)
  obtain ⟨rfl, rfl⟩ := hp
  refine y_zret hg hr (nz_b2 _) ⟨_, rfl, ?_⟩ dX3_isWord_13 (Nat.le_refl _) (Nat.le_refl _)
  exact ⟨rfl, rfl⟩
theorem cX_isLetter (w : Int32) : MT l B 1 0 0 yX0_isLetter cX0_isLetter 1 (some .boolean) [.int w] σ (pI fun r σ' => r = b2 (inL w.toInt64 0 7) ∧ σ' = σ) := by
  refine MT.of (by decide) (Nat.le_of_ble_eq_true rfl) (fun g hg hr => ?_)
  refine y_iload_n hg dX0_isLetter_0 rfl ?_
  refine y_i2l hg dX0_isLetter_1 ?_
  refine y_lconst (v := 0) hg dX0_isLetter_2 rfl ?_
  refine y_ldc2 hg dX0_isLetter_3 q470 ?_
  refine y_cSi hg (cX_isIn _ _ _) iX0_isIn q286 rfl rfl (by simp [Value.category]) (Nat.le_refl _) (Nat.le_refl _) (by decide) dX0_isLetter_6 (fun r σ1 hp => ?_)
  obtain ⟨rfl, rfl⟩ := hp
  refine y_zret hg hr (nz_b2 _) ⟨_, rfl, ?_⟩ dX0_isLetter_9 (Nat.le_refl _) (Nat.le_refl _)
  exact ⟨rfl, rfl⟩
theorem cX_isKind (w : Int32) : MT l B 1 0 0 yX0_isKind cX0_isKind 1 (some .boolean) [.int w] σ (pI fun r σ' => r = b2 (inL w.toInt64 0 3) ∧ σ' = σ) := by
  refine MT.of (by decide) (Nat.le_of_ble_eq_true rfl) (fun g hg hr => ?_)
  refine y_iload_n hg dX0_isKind_0 rfl ?_
  refine y_i2l hg dX0_isKind_1 ?_
  refine y_lconst (v := 0) hg dX0_isKind_2 rfl ?_
  refine y_ldc2 hg dX0_isKind_3 q474 ?_
  refine y_cSi hg (cX_isIn _ _ _) iX0_isIn q286 rfl rfl (by simp [Value.category]) (Nat.le_refl _) (Nat.le_refl _) (by decide) dX0_isKind_6 (fun r σ1 hp => ?_)
  obtain ⟨rfl, rfl⟩ := hp
  refine y_zret hg hr (nz_b2 _) ⟨_, rfl, ?_⟩ dX0_isKind_9 (Nat.le_refl _) (Nat.le_refl _)
  exact ⟨rfl, rfl⟩
theorem cM_isLetter (w : Int32) : MT l B 1 0 0 yX3_isLetter cX3_isLetter 1 (some .boolean) [.int w] σ (pI fun r σ' => r = b2 (inL w.toInt64 0 7) ∧ σ' = σ) := by
  refine MT.of (by decide) (Nat.le_of_ble_eq_true rfl) (fun g hg hr => ?_)
  refine y_iload_n hg dX3_isLetter_0 rfl ?_
  refine y_i2l hg dX3_isLetter_1 ?_
  refine y_lconst (v := 0) hg dX3_isLetter_2 rfl ?_
  refine y_ldc2 hg dX3_isLetter_3 q1201 ?_
  refine y_cSi hg (cM_in _ _ _) iX3_in q1052 rfl rfl (by simp [Value.category]) (Nat.le_refl _) (Nat.le_refl _) (by decide) dX3_isLetter_6 (fun r σ1 hp => ?_)
  obtain ⟨rfl, rfl⟩ := hp
  refine y_zret hg hr (nz_b2 _) ⟨_, rfl, ?_⟩ dX3_isLetter_9 (Nat.le_refl _) (Nat.le_refl _)
  exact ⟨rfl, rfl⟩
theorem cM_isKind (w : Int32) : MT l B 1 0 0 yX3_isKind cX3_isKind 1 (some .boolean) [.int w] σ (pI fun r σ' => r = b2 (inL w.toInt64 0 3) ∧ σ' = σ) := by
  refine MT.of (by decide) (Nat.le_of_ble_eq_true rfl) (fun g hg hr => ?_)
  refine y_iload_n hg dX3_isKind_0 rfl ?_
  refine y_i2l hg dX3_isKind_1 ?_
  refine y_lconst (v := 0) hg dX3_isKind_2 rfl ?_
  refine y_ldc2 hg dX3_isKind_3 q1099 ?_
  refine y_cSi hg (cM_in _ _ _) iX3_in q1052 rfl rfl (by simp [Value.category]) (Nat.le_refl _) (Nat.le_refl _) (by decide) dX3_isKind_6 (fun r σ1 hp => ?_)
  obtain ⟨rfl, rfl⟩ := hp
  refine y_zret hg hr (nz_b2 _) ⟨_, rfl, ?_⟩ dX3_isKind_9 (Nat.le_refl _) (Nat.le_refl _)
  exact ⟨rfl, rfl⟩
theorem cX_all (hL : LX B σ) : MT l B 0 0 0 yX0_all cX0_all 1 (some .int) [.ref (B.1 + 0)] σ (pI fun r σ' => r = nI 1 <<< (σ.2.2.1 0 1 &&& 31) - nI 1 ∧ σ' = σ) := by
  refine MT.of (by decide) (Nat.le_of_ble_eq_true rfl) (fun g hg hr => ?_)
  refine y_iconst (v := nI 1) hg dX0_all_0 rfl ?_
  refine y_aload_n hg dX0_all_1 rfl ?_
  refine y_geti (j := 1) hg cf0 (hL.x) (by decide) rfl q173 dX0_all_2 ?_
  refine y_ishl hg dX0_all_5 ?_
  refine y_iconst (v := nI 1) hg dX0_all_6 rfl ?_
  refine y_isub hg dX0_all_7 ?_
  refine y_iret hg hr ⟨_, rfl, ?_⟩ dX0_all_8 (Nat.le_refl _) (Nat.le_refl _)
  exact ⟨rfl, rfl⟩
end Leaf3

