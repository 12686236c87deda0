section Left
variable {ll : Launch} {B : Bs} {σ : Mem} {A : Ab} {sd : Int64}
/-- whether something is so of a row of words -/
def inB (F : Nat → Int32) (v : Int32) (n : Nat) : Bool := fo (fun i b => b || decide (F i = v)) false n
def soB (F : Nat → Int32) (n : Nat) (q v : Int32) : Bool := if q = 0 then inB F v n else if q = nI 1 then decide (nI n = v) else if q = nI 2 then decide (F 0 = v) else decide (F (n - 1) = v)
theorem b2_or (a b : Bool) : b2 a ||| b2 b = b2 (a || b) := by cases a <;> cases b <;> decide
theorem b2_inj {a b : Bool} : b2 a = b2 b ↔ a = b := by cases a <;> cases b <;> decide
theorem cX_isSo (hL : LX B σ) {F : Nat → Int32} {n : Nat} (hn1 : 1 ≤ n) (hn : n ≤ 12) (hf : σ.2.2.1 0 13 = nI n) (hF : ∀ i, i < n → σ.2.2.1 15 i = F i) (q v : Int32) : MT ll B 1 0 0 yX0_isSo cX0_isSo 5 (some .boolean) [.ref (B.1 + 0), .int q, .int v] σ (pI fun r σ' => r = b2 (soB F n q v) ∧ σ' = σ) := by
  refine MT.of (by decide) (Nat.le_of_ble_eq_true rfl) (fun g hg hr => ?_)
  refine y_iconst (v := nI 0) hg dX0_isSo_0 rfl ?_
  refine y_istore_n hg dX0_isSo_1 (by decide) (lv1 := [(0, _), (1, _), (2, _), (3, _)]) rfl ?_
  refine y_iconst (v := nI 0) hg dX0_isSo_2 rfl ?_
  refine y_istore hg dX0_isSo_3 (by decide) (lv1 := [(0, _), (1, _), (2, _), (3, _), (4, _)]) rfl ?_
  refine (loop_up (G := fun i => YY g 5 σ 0 0 5 [(0, .ref (B.1 + 0)), (1, .int q), (2, .int v), (3, .int (b2 (inB F v i))), (4, .int (nI i))] []) n (fun i hi ih => ?_) ?_ 0 (Nat.zero_le _))
  · have J : ∀ w : Int32, w = b2 (decide (F i = v)) → YY g 5 σ 0 0 31 [(0, .ref (B.1 + 0)), (1, .int q), (2, .int v), (3, .int (b2 (inB F v i))), (4, .int (nI i))] [.int w, .int (b2 (inB F v i))] := by
      intro w hw
      subst hw
      refine y_ior hg dX0_isSo_31 ?_
      refine y_ti (b2_or _ _) ?_
      refine y_istore_n hg dX0_isSo_32 (by decide) (lv1 := [(0, _), (1, _), (2, _), (3, _), (4, _)]) rfl ?_
      refine y_iinc hg dX0_isSo_33 rfl (inc1 _) (by decide) (lv1 := [(0, _), (1, _), (2, _), (3, _), (4, _)]) rfl ?_
      refine y_goto hg 5 dX0_isSo_36 (by decide) ?_
      exact ih
    refine y_iload hg dX0_isSo_5 rfl ?_
    refine y_aload_n hg dX0_isSo_7 rfl ?_
    refine y_geti (j := 13) hg cf0 (hL.x) (by decide) rfl q185 dX0_isSo_8 ?_
    refine y_ti (hf) ?_
    refine y_icmp_ge hg 39 dX0_isSo_11 (by decide) (fun hT => absurd hT (ge_c hi (by omega))) (fun _ => ?_)
    refine y_iload_n hg dX0_isSo_14 rfl ?_
    refine y_aload_n hg dX0_isSo_15 rfl ?_
    refine y_getr (j := 12) hg cf0 (hL.x) (by decide) rfl (hL.r_found) q184 dX0_isSo_16 ?_
    refine y_iload hg dX0_isSo_19 rfl ?_
    refine y_iald hg _ (hL.k_found) rfl (by omega) dX0_isSo_21 ?_
    refine y_ti (hF i hi) ?_
    refine y_iload_n hg dX0_isSo_22 rfl ?_
    refine y_icmp_ne hg 30 dX0_isSo_23 (by decide) (fun hc => ?_) (fun hc => ?_)
    · refine y_iconst (v := nI 0) hg dX0_isSo_30 rfl ?_
      exact J _ (by rw [decide_eq_false hc]; rfl)
    · refine y_iconst (v := nI 1) hg dX0_isSo_26 rfl ?_
      refine y_goto hg 31 dX0_isSo_27 (by decide) ?_
      exact J _ (by rw [decide_eq_true hc]; rfl)
  · have E : ∀ w : Int32, w = b2 (soB F n q v) → YY g 5 σ 0 0 97 [(0, .ref (B.1 + 0)), (1, .int q), (2, .int v), (3, .int (b2 (inB F v n))), (4, .int (nI n))] [.int w] := by
      intro w hw
      subst hw
      refine y_zret hg hr (nz_b2 _) ⟨_, rfl, ?_⟩ dX0_isSo_97 (Nat.le_refl _) (Nat.le_refl _)
      exact ⟨rfl, rfl⟩
    have E2 : ∀ w : Int32, ¬ q = 0 → ¬ q = nI 1 → w = (if q = nI 2 then F 0 else F (n - 1)) → YY g 5 σ 0 0 88 [(0, .ref (B.1 + 0)), (1, .int q), (2, .int v), (3, .int (b2 (inB F v n))), (4, .int (nI n))] [.int w] := by
      intro w h0 h1 hw
      have e : soB F n q v = decide (w = v) := by
        unfold soB
        rw [if_neg h0, if_neg h1, hw]
        split <;> rfl
      refine y_iload_n hg dX0_isSo_88 rfl ?_
      refine y_icmp_ne hg 96 dX0_isSo_89 (by decide) (fun hc => ?_) (fun hc => ?_)
      · refine y_iconst (v := nI 0) hg dX0_isSo_96 rfl ?_
        exact E _ (by rw [e, decide_eq_false hc]; rfl)
      · refine y_iconst (v := nI 1) hg dX0_isSo_92 rfl ?_
        refine y_goto hg 97 dX0_isSo_93 (by decide) ?_
        exact E _ (by rw [e, decide_eq_true hc]; rfl)
    refine y_iload hg dX0_isSo_5 rfl ?_
    refine y_aload_n hg dX0_isSo_7 rfl ?_
    refine y_geti (j := 13) hg cf0 (hL.x) (by decide) rfl q185 dX0_isSo_8 ?_
    refine y_ti (hf) ?_
    refine y_icmp_ge hg 39 dX0_isSo_11 (by decide) (fun _ => ?_) (fun hF => absurd (le_c (Nat.le_refl _) (by omega)) hF)
    refine y_iload_n hg dX0_isSo_39 rfl ?_
    refine y_if_ne hg 47 dX0_isSo_40 (by decide) (fun hq0 => ?_) (fun hq0 => ?_)
    · refine y_iload_n hg dX0_isSo_47 rfl ?_
      refine y_iconst (v := nI 1) hg dX0_isSo_48 rfl ?_
      refine y_icmp_ne hg 68 dX0_isSo_49 (by decide) (fun hq1 => ?_) (fun hq1 => ?_)
      · refine y_aload_n hg dX0_isSo_68 rfl ?_
        refine y_getr (j := 12) hg cf0 (hL.x) (by decide) rfl (hL.r_found) q184 dX0_isSo_69 ?_
        refine y_iload_n hg dX0_isSo_72 rfl ?_
        refine y_iconst (v := nI 2) hg dX0_isSo_73 rfl ?_
        refine y_icmp_ne hg 81 dX0_isSo_74 (by decide) (fun hq2 => ?_) (fun hq2 => ?_)
        · refine y_aload_n hg dX0_isSo_81 rfl ?_
          refine y_geti (j := 13) hg cf0 (hL.x) (by decide) rfl q185 dX0_isSo_82 ?_
          refine y_ti (hf) ?_
          refine y_iconst (v := nI 1) hg dX0_isSo_85 rfl ?_
          refine y_isub hg dX0_isSo_86 ?_
          refine y_ti (pk_sub hn1) ?_
          refine y_iald hg _ (hL.k_found) rfl (by omega) dX0_isSo_87 ?_
          refine y_ti (hF (n - 1) (by omega)) ?_
          exact E2 _ hq0 hq1 (by rw [if_neg hq2])
        · refine y_iconst (v := nI 0) hg dX0_isSo_77 rfl ?_
          refine y_goto hg 87 dX0_isSo_78 (by decide) ?_
          refine y_iald hg _ (hL.k_found) rfl (by omega) dX0_isSo_87 ?_
          refine y_ti (hF 0 (by omega)) ?_
          exact E2 _ hq0 hq1 (by rw [if_pos hq2])
      · refine y_aload_n hg dX0_isSo_52 rfl ?_
        refine y_geti (j := 13) hg cf0 (hL.x) (by decide) rfl q185 dX0_isSo_53 ?_
        refine y_ti (hf) ?_
        refine y_iload_n hg dX0_isSo_56 rfl ?_
        refine y_icmp_ne hg 64 dX0_isSo_57 (by decide) (fun hc => ?_) (fun hc => ?_)
        · refine y_iconst (v := nI 0) hg dX0_isSo_64 rfl ?_
          refine y_goto hg 97 dX0_isSo_65 (by decide) ?_
          exact E _ (by unfold soB; rw [if_neg hq0, if_pos hq1, decide_eq_false hc]; rfl)
        · refine y_iconst (v := nI 1) hg dX0_isSo_60 rfl ?_
          refine y_goto hg 97 dX0_isSo_61 (by decide) ?_
          exact E _ (by unfold soB; rw [if_neg hq0, if_pos hq1, decide_eq_true hc]; rfl)
    · refine y_iload_n hg dX0_isSo_43 rfl ?_
      refine y_goto hg 97 dX0_isSo_44 (by decide) ?_
      exact E _ (by unfold soB; rw [if_pos hq0])
theorem cM_isSo (hM : LM B σ) {F : Nat → Int32} {n : Nat} (hn1 : 1 ≤ n) (hn : n ≤ 12) (hF : ∀ i, i < n → σ.2.2.1 184 i = F i) (q v : Int32) : MT ll B 1 0 0 yX3_isSo cX3_isSo 6 (some .boolean) [.ref (B.1 + 157), .int (nI n), .int q, .int v] σ (pI fun r σ' => r = b2 (soB F n q v) ∧ σ' = σ) := by
  refine MT.of (by decide) (Nat.le_of_ble_eq_true rfl) (fun g hg hr => ?_)
  refine y_iconst (v := nI 0) hg dX3_isSo_0 rfl ?_
  refine y_istore hg dX3_isSo_1 (by decide) (lv1 := [(0, _), (1, _), (2, _), (3, _), (4, _)]) rfl ?_
  refine y_iconst (v := nI 0) hg dX3_isSo_3 rfl ?_
  refine y_istore hg dX3_isSo_4 (by decide) (lv1 := [(0, _), (1, _), (2, _), (3, _), (4, _), (5, _)]) rfl ?_
  refine (loop_up (G := fun i => YY g 6 σ 0 0 6 [(0, .ref (B.1 + 157)), (1, .int (nI n)), (2, .int q), (3, .int v), (4, .int (b2 (inB F v i))), (5, .int (nI i))] []) n (fun i hi ih => ?_) ?_ 0 (Nat.zero_le _))
  · have J : ∀ w : Int32, w = b2 (inB F v i || decide (F i = v)) → YY g 6 σ 0 0 33 [(0, .ref (B.1 + 157)), (1, .int (nI n)), (2, .int q), (3, .int v), (4, .int (b2 (inB F v i))), (5, .int (nI i))] [.int w] := by
      intro w hw
      subst hw
      refine y_istore hg dX3_isSo_33 (by decide) (lv1 := [(0, _), (1, _), (2, _), (3, _), (4, _), (5, _)]) rfl ?_
      refine y_iinc hg dX3_isSo_35 rfl (inc1 _) (by decide) (lv1 := [(0, _), (1, _), (2, _), (3, _), (4, _), (5, _)]) rfl ?_
      refine y_goto hg 6 dX3_isSo_38 (by decide) ?_
      exact ih
    refine y_iload hg dX3_isSo_6 rfl ?_
    refine y_iload_n hg dX3_isSo_8 rfl ?_
    refine y_icmp_ge hg 41 dX3_isSo_9 (by decide) (fun hT => absurd hT (ge_c hi (by omega))) (fun _ => ?_)
    refine y_iload hg dX3_isSo_12 rfl ?_
    refine y_if_ne hg 28 dX3_isSo_14 (by decide) (fun hc0 => ?_) (fun hc0 => ?_)
    · refine y_iconst (v := nI 1) hg dX3_isSo_28 rfl ?_
      refine y_goto hg 33 dX3_isSo_29 (by decide) ?_
      exact J _ (by rw [b2T hc0]; rfl)
    refine y_aload_n hg dX3_isSo_17 rfl ?_
    refine y_getr (j := 39) hg cf3 (hM.m) (by decide) rfl (hM.r_found) q950 dX3_isSo_18 ?_
    refine y_iload hg dX3_isSo_21 rfl ?_
    refine y_iald hg _ (hM.k_found) rfl (by omega) dX3_isSo_23 ?_
    refine y_ti (hF i hi) ?_
    refine y_iload_n hg dX3_isSo_24 rfl ?_
    refine y_icmp_ne hg 32 dX3_isSo_25 (by decide) (fun hc => ?_) (fun hc => ?_)
    · refine y_iconst (v := nI 0) hg dX3_isSo_32 rfl ?_
      exact J _ (by rw [(b2_eq _).mp hc0, decide_eq_false hc]; rfl)
    · refine y_iconst (v := nI 1) hg dX3_isSo_28 rfl ?_
      refine y_goto hg 33 dX3_isSo_29 (by decide) ?_
      exact J _ (by rw [decide_eq_true hc, Bool.or_true]; rfl)
  · have E : ∀ w : Int32, w = b2 (soB F n q v) → YY g 6 σ 0 0 108 [(0, .ref (B.1 + 157)), (1, .int (nI n)), (2, .int q), (3, .int v), (4, .int (b2 (inB F v n))), (5, .int (nI n))] [.int w] := by
      intro w hw
      subst hw
      refine y_zret hg hr (nz_b2 _) ⟨_, rfl, ?_⟩ dX3_isSo_108 (Nat.le_refl _) (Nat.le_refl _)
      exact ⟨rfl, rfl⟩
    refine y_iload hg dX3_isSo_6 rfl ?_
    refine y_iload_n hg dX3_isSo_8 rfl ?_
    refine y_icmp_ge hg 41 dX3_isSo_9 (by decide) (fun _ => ?_) (fun hF => absurd (le_c (Nat.le_refl _) (by omega)) hF)
    refine y_iload_n hg dX3_isSo_41 rfl ?_
    refine y_if_ne hg 50 dX3_isSo_42 (by decide) (fun hq0 => ?_) (fun hq0 => ?_)
    · refine y_iload_n hg dX3_isSo_50 rfl ?_
      refine y_iconst (v := nI 1) hg dX3_isSo_51 rfl ?_
      refine y_icmp_ne hg 68 dX3_isSo_52 (by decide) (fun hq1 => ?_) (fun hq1 => ?_)
      · refine y_iload_n hg dX3_isSo_68 rfl ?_
        refine y_iconst (v := nI 2) hg dX3_isSo_69 rfl ?_
        refine y_icmp_ne hg 91 dX3_isSo_70 (by decide) (fun hq2 => ?_) (fun hq2 => ?_)
        · refine y_aload_n hg dX3_isSo_91 rfl ?_
          refine y_getr (j := 39) hg cf3 (hM.m) (by decide) rfl (hM.r_found) q950 dX3_isSo_92 ?_
          refine y_iload_n hg dX3_isSo_95 rfl ?_
          refine y_iconst (v := nI 1) hg dX3_isSo_96 rfl ?_
          refine y_isub hg dX3_isSo_97 ?_
          refine y_ti (pk_sub hn1) ?_
          refine y_iald hg _ (hM.k_found) rfl (by omega) dX3_isSo_98 ?_
          refine y_ti (hF (n - 1) (by omega)) ?_
          refine y_iload_n hg dX3_isSo_99 rfl ?_
          refine y_icmp_ne hg 107 dX3_isSo_100 (by decide) (fun hc => ?_) (fun hc => ?_)
          · refine y_iconst (v := nI 0) hg dX3_isSo_107 rfl ?_
            exact E _ (by unfold soB; rw [if_neg hq0, if_neg hq1, if_neg hq2, decide_eq_false hc]; rfl)
          · refine y_iconst (v := nI 1) hg dX3_isSo_103 rfl ?_
            refine y_goto hg 108 dX3_isSo_104 (by decide) ?_
            exact E _ (by unfold soB; rw [if_neg hq0, if_neg hq1, if_neg hq2, decide_eq_true hc]; rfl)
        · refine y_aload_n hg dX3_isSo_73 rfl ?_
          refine y_getr (j := 39) hg cf3 (hM.m) (by decide) rfl (hM.r_found) q950 dX3_isSo_74 ?_
          refine y_iconst (v := nI 0) hg dX3_isSo_77 rfl ?_
          refine y_iald hg _ (hM.k_found) rfl (by omega) dX3_isSo_78 ?_
          refine y_ti (hF 0 (by omega)) ?_
          refine y_iload_n hg dX3_isSo_79 rfl ?_
          refine y_icmp_ne hg 87 dX3_isSo_80 (by decide) (fun hc => ?_) (fun hc => ?_)
          · refine y_iconst (v := nI 0) hg dX3_isSo_87 rfl ?_
            refine y_goto hg 108 dX3_isSo_88 (by decide) ?_
            exact E _ (by unfold soB; rw [if_neg hq0, if_neg hq1, if_pos hq2, decide_eq_false hc]; rfl)
          · refine y_iconst (v := nI 1) hg dX3_isSo_83 rfl ?_
            refine y_goto hg 108 dX3_isSo_84 (by decide) ?_
            exact E _ (by unfold soB; rw [if_neg hq0, if_neg hq1, if_pos hq2, decide_eq_true hc]; rfl)
      · refine y_iload_n hg dX3_isSo_55 rfl ?_
        refine y_iload_n hg dX3_isSo_56 rfl ?_
        refine y_icmp_ne hg 64 dX3_isSo_57 (by decide) (fun hc => ?_) (fun hc => ?_)
        · refine y_iconst (v := nI 0) hg dX3_isSo_64 rfl ?_
          refine y_goto hg 108 dX3_isSo_65 (by decide) ?_
          exact E _ (by unfold soB; rw [if_neg hq0, if_pos hq1, decide_eq_false hc]; rfl)
        · refine y_iconst (v := nI 1) hg dX3_isSo_60 rfl ?_
          refine y_goto hg 108 dX3_isSo_61 (by decide) ?_
          exact E _ (by unfold soB; rw [if_neg hq0, if_pos hq1, decide_eq_true hc]; rfl)
    · refine y_iload hg dX3_isSo_45 rfl ?_
      refine y_goto hg 108 dX3_isSo_47 (by decide) ?_
      exact E _ (by unfold soB; rw [if_pos hq0])
/-- whether a row of words agrees with all that was seen -/
def nse (A : Ab) : Nat := (A 1 5).toNatClampNeg
def agS (A : Ab) (F : Nat → Int32) (n k : Nat) (b : Bool) : Bool := b && decide (soB F n (A 7 k) (A 8 k) = decide (A 9 k = nI 1))
def agB (A : Ab) (F : Nat → Int32) (n : Nat) : Bool := fo (agS A F n) true (nse A)
theorem WFA.nse_e (hW : WFA A) : A 1 5 = nI (nse A) ∧ nse A ≤ 6 := by
  obtain ⟨n, hn, e⟩ := hW.seen
  unfold nse
  rw [e, nI_clamp (by omega)]
  exact ⟨rfl, hn⟩
theorem cX_agrees (hW : WFA A) (hR : RX B A sd σ) {F : Nat → Int32} {n : Nat} (hn1 : 1 ≤ n) (hn : n ≤ 12) (hf : σ.2.2.1 0 13 = nI n) (hF : ∀ i, i < n → σ.2.2.1 15 i = F i) : MT ll B 2 0 0 yX0_agrees cX0_agrees 3 (some .boolean) [.ref (B.1 + 0)] σ (pI fun r σ' => r = b2 (agB A F n) ∧ σ' = σ) := by
  have hL := hR.1
  obtain ⟨es, hs⟩ := hW.nse_e
  have em := hR.seen.trans es
  refine MT.of (by decide) (Nat.le_of_ble_eq_true rfl) (fun g hg hr => ?_)
  refine y_iconst (v := nI 1) hg dX0_agrees_0 rfl ?_
  refine y_istore_n hg dX0_agrees_1 (by decide) (lv1 := [(0, _), (1, _)]) rfl ?_
  refine y_iconst (v := nI 0) hg dX0_agrees_2 rfl ?_
  refine y_istore_n hg dX0_agrees_3 (by decide) (lv1 := [(0, _), (1, _), (2, _)]) rfl ?_
  refine (loop_up (G := fun i => YY g 3 σ 0 0 4 [(0, .ref (B.1 + 0)), (1, .int (b2 (fo (agS A F n) true i))), (2, .int (nI i))] []) (nse A) (fun i hi ih => ?_) ?_ 0 (Nat.zero_le _))
  · have J : ∀ w : Int32, w = b2 (agS A F n i (fo (agS A F n) true i)) → YY g 3 σ 0 0 55 [(0, .ref (B.1 + 0)), (1, .int (b2 (fo (agS A F n) true i))), (2, .int (nI i))] [.int w] := by
      intro w hw
      subst hw
      refine y_istore_n hg dX0_agrees_55 (by decide) (lv1 := [(0, _), (1, _), (2, _)]) rfl ?_
      refine y_iinc hg dX0_agrees_56 rfl (inc1 _) (by decide) (lv1 := [(0, _), (1, _), (2, _)]) rfl ?_
      refine y_goto hg 4 dX0_agrees_59 (by decide) ?_
      exact ih
    have J2 : ∀ w : Int32, fo (agS A F n) true i = true → w = b2 (decide (A 9 i = nI 1)) → YY g 3 σ 0 0 47 [(0, .ref (B.1 + 0)), (1, .int (b2 (fo (agS A F n) true i))), (2, .int (nI i))] [.int w, .int (b2 (soB F n (A 7 i) (A 8 i)))] := by
      intro w h0 hw
      subst hw
      refine y_icmp_ne hg 54 dX0_agrees_47 (by decide) (fun hc => ?_) (fun hc => ?_)
      · refine y_iconst (v := nI 0) hg dX0_agrees_54 rfl ?_
        exact J _ (by unfold agS; rw [decide_eq_false (fun z => hc (b2_inj.mpr z)), Bool.and_false]; rfl)
      · refine y_iconst (v := nI 1) hg dX0_agrees_50 rfl ?_
        refine y_goto hg 55 dX0_agrees_51 (by decide) ?_
        exact J _ (by rw [h0]; unfold agS; rw [decide_eq_true (b2_inj.mp hc)]; rfl)
    refine y_iload_n hg dX0_agrees_4 rfl ?_
    refine y_aload_n hg dX0_agrees_5 rfl ?_
    refine y_geti (j := 28) hg cf0 (hL.x) (by decide) rfl q200 dX0_agrees_6 ?_
    refine y_ti (em) ?_
    refine y_icmp_ge hg 62 dX0_agrees_9 (by decide) (fun hT => absurd hT (ge_c hi (by omega))) (fun _ => ?_)
    refine y_iload_n hg dX0_agrees_12 rfl ?_
    refine y_if_eq hg 54 dX0_agrees_13 (by decide) (fun hc0 => ?_) (fun hc0 => ?_)
    · refine y_iconst (v := nI 0) hg dX0_agrees_54 rfl ?_
      exact J _ (by rw [(b2_eq _).mp hc0]; rfl)
    refine y_aload_n hg dX0_agrees_16 rfl ?_
    refine y_aload_n hg dX0_agrees_17 rfl ?_
    refine y_getr (j := 29) hg cf0 (hL.x) (by decide) rfl (hL.r_seenWhat) q201 dX0_agrees_18 ?_
    refine y_iload_n hg dX0_agrees_21 rfl ?_
    refine y_iald hg _ (hL.k_seenWhat) rfl (by omega) dX0_agrees_22 ?_
    refine y_ti (hR.sWhat (by omega)) ?_
    refine y_aload_n hg dX0_agrees_23 rfl ?_
    refine y_getr (j := 30) hg cf0 (hL.x) (by decide) rfl (hL.r_seenOf) q202 dX0_agrees_24 ?_
    refine y_iload_n hg dX0_agrees_27 rfl ?_
    refine y_iald hg _ (hL.k_seenOf) rfl (by omega) dX0_agrees_28 ?_
    refine y_ti (hR.sOf (by omega)) ?_
    refine y_cVi hg (cX_isSo hL hn1 hn hf hF _ _) iX0_isSo q847 (hL.x) cf0 rfl rfl (by simp [Value.category]) (Nat.le_refl _) (Nat.le_refl _) (by decide) dX0_agrees_29 (fun r σ1 hp => ?_)
    obtain ⟨rfl, rfl⟩ := hp
    refine y_aload_n hg dX0_agrees_32 rfl ?_
    refine y_getr (j := 31) hg cf0 (hL.x) (by decide) rfl (hL.r_seenWas) q203 dX0_agrees_33 ?_
    refine y_iload_n hg dX0_agrees_36 rfl ?_
    refine y_iald hg _ (hL.k_seenWas) rfl (by omega) dX0_agrees_37 ?_
    refine y_ti (hR.sWas (by omega)) ?_
    refine y_iconst (v := nI 1) hg dX0_agrees_38 rfl ?_
    refine y_icmp_ne hg 46 dX0_agrees_39 (by decide) (fun hc => ?_) (fun hc => ?_)
    · refine y_iconst (v := nI 0) hg dX0_agrees_46 rfl ?_
      exact J2 _ (b2T hc0) (by rw [decide_eq_false hc]; rfl)
    · refine y_iconst (v := nI 1) hg dX0_agrees_42 rfl ?_
      refine y_goto hg 47 dX0_agrees_43 (by decide) ?_
      exact J2 _ (b2T hc0) (by rw [decide_eq_true hc]; rfl)
  · skip
    refine y_iload_n hg dX0_agrees_4 rfl ?_
    refine y_aload_n hg dX0_agrees_5 rfl ?_
    refine y_geti (j := 28) hg cf0 (hL.x) (by decide) rfl q200 dX0_agrees_6 ?_
    refine y_ti (em) ?_
    refine y_icmp_ge hg 62 dX0_agrees_9 (by decide) (fun _ => ?_) (fun hF => absurd (le_c (Nat.le_refl _) (by omega)) hF)
    refine y_iload_n hg dX0_agrees_62 rfl ?_
    refine y_zret hg hr (nz_b2 _) ⟨_, rfl, ?_⟩ dX0_agrees_63 (Nat.le_refl _) (Nat.le_refl _)
    exact ⟨rfl, rfl⟩
end Left

