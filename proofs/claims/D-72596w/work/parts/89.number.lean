section NumberP
variable {A : Ab}
theorem va_top (f : Nat → Int32) : ∀ m, va f (bg f) m + 1 = bs f m
  | 0 => rfl
  | m + 1 => by
    have ih := va_top f m
    show va f (bg f) m + bg f m * bs f m + 1 = bs f m * (bg f m + 1)
    rw [Nat.mul_add, Nat.mul_one, Nat.mul_comm (bs f m)]
    omega
theorem dg_top (P : Pb) {x : Nat} (hx : x < 8) : dg P.2.2.2.1 (nS P - 1) x = bg P.2.2.2.1 x := by
  have h := va_top P.2.2.2.1 8
  have e : nS P - 1 = va P.2.2.2.1 (bg P.2.2.2.1) 8 := by unfold nS; omega
  rw [e]
  exact dg_va _ _ 8 (fun x _ => Nat.le_refl _) hx
/-- what is left, what is ahead, how many rows come before: word by word -/
def nr (A : Ab) : Nat → Nat
  | 0 => nS (pn A) - 1
  | k + 1 => nr A k - stp (pn A) (wtn A k)
def nk (A : Ab) : Nat → Nat
  | 0 => 4
  | k + 1 => kd A (wtn A k)
def nu (A : Ab) : Nat → Nat
  | 0 => 0
  | k + 1 => nu A k + sm (cw (pn A) (nr A k) (nk A k)) (wtn A k)
theorem stW_nz {f : Nat → Int32} {k : Nat} {r : Rs} (h : stW A f k = some r) : ¬ r.1 = nI 0 := by
  unfold stW at h
  split at h
  · cases h; show ¬ nI 1 = nI 0; decide
  · split at h
    · split at h
      · cases h; show ¬ nI 3 = nI 0; decide
      · cases h
    · cases h; show ¬ nI 2 = nI 0; decide
theorem rsL_st : ∀ (n k : Nat), (rsL A n k).1 = nI 0 → ∀ i, i < n → stW A (lfk A (k + i)) (k + i) = none
  | 0, k, _, i, hi => by omega
  | n + 1, k, h, i, hi => by
    have e : rsL A (n + 1) k = match stW A (lfk A k) k with
      | some r => r
      | none => rsL A n (k + 1) := rfl
    cases hs : stW A (lfk A k) k with
    | some r =>
      rw [hs] at e
      rw [e] at h
      exact absurd h (stW_nz hs)
    | none =>
      rw [hs] at e
      have e : rsL A (n + 1) k = rsL A n (k + 1) := e
      rw [e] at h
      cases i with
      | zero => exact hs
      | succ i =>
        have := rsL_st n (k + 1) h i (by omega)
        rw [show k + 1 + i = k + (i + 1) by omega] at this
        exact this
theorem wtF_no {f : Nat → Int32} {w : Nat} : ∀ n j, wtF A f w n j = none → ∀ i, i < n → ¬ f (sp A w (j + i)) < A 4 (8 * w + sp A w (j + i))
  | 0, _, _, i, hi => by omega
  | n + 1, j, h, i, hi => by
    unfold wtF at h
    split at h
    · cases h
    · rename_i hc
      cases i with
      | zero => exact hc
      | succ i =>
        have := wtF_no n (j + 1) h i (by omega)
        rw [show j + 1 + i = j + (i + 1) by omega] at this
        exact this
theorem nr_fit0 (hW : WFA A) (hp : isPh A = true) (k : Nat) (hk : k < tol A) (_ : nr A k < nS (pn A)) (ih2 : ∀ x, x < 8 → lfk A k x = nI (dg (A 11) (nr A k) x)) : fitB (pn A) (wtn A k) (nr A k) = true := by
  obtain ⟨hrow, hwn⟩ := hW.rowW hk
  have hp1 : (rsL A (tol A) 0).1 = nI 0 := of_decide_eq_true hp
  have hst := rsL_st (tol A) 0 hp1 k hk
  rw [Nat.zero_add] at hst
  have hwt : wtF A (lfk A k) (wtn A k) (sz A (wtn A k)) 0 = none := by
    unfold stW at hst
    split at hst
    · cases hst
    · split at hst
      · split at hst
        · cases hst
        · rename_i hx; exact hx
      · cases hst
  rw [fit_iff]
  intro x hx
  show nd A (wtn A k) x ≤ dg (A 11) (nr A k) x
  obtain ⟨e4, h6⟩ := hW.nd_e hwn hx
  rcases Nat.eq_zero_or_pos (nd A (wtn A k) x) with z | z
  · omega
  · obtain ⟨j, hj, e5⟩ := (hW.word hwn).2.2.2.2.2 x hx (by rw [e4]; exact fun q => by have := nI_inj (by omega) (by omega) q; omega)
    have hno := wtF_no _ 0 hwt j hj
    rw [Nat.zero_add] at hno
    have es : sp A (wtn A k) j = x := by unfold sp; rw [e5, nI_clamp (by omega)]
    have hb := dg_le (A 11) (nr A k) x
    have hb2 : bg (A 11) x ≤ 13 := by
      have h1 := hW.now.2.1
      have h2 : ∀ m, x < m → bg (A 11) x ≤ sm (bg (A 11)) m := by
        intro m
        induction m with
        | zero => intro h; omega
        | succ m ihm =>
          intro h
          show _ ≤ sm (bg (A 11)) m + bg (A 11) m
          by_cases q : x = m
          · subst q; omega
          · have := ihm (by omega); omega
      have := h2 8 hx
      omega
    rw [es, ih2 x hx, e4, nI_ltI (by omega) (by omega)] at hno
    omega
/-- of a phrase every word fits -/
theorem nr_ok (hW : WFA A) (hp : isPh A = true) : ∀ k, k ≤ tol A → nr A k < nS (pn A) ∧ ∀ x, x < 8 → lfk A k x = nI (dg (A 11) (nr A k) x)
  | 0, _ => by
    have := nS_pos (pn A)
    refine ⟨by show nS (pn A) - 1 < nS (pn A); omega, fun x hx => ?_⟩
    have e : dg (A 11) (nS (pn A) - 1) x = bg (A 11) x := dg_top (pn A) hx
    show A 11 x = nI (dg (A 11) (nS (pn A) - 1) x)
    rw [e]
    exact hW.now.1 x hx
  | k + 1, hk => by
    obtain ⟨ih1, ih2⟩ := nr_ok hW hp k (by omega)
    obtain ⟨hrow, hwn⟩ := hW.rowW (show k < tol A by omega)
    have hfit := nr_fit0 hW hp k (by omega) ih1 ih2
    refine ⟨by show nr A k - stp (pn A) (wtn A k) < _; omega, fun x hx => ?_⟩
    have e1 := dg_sub hfit ih1 hx
    have e1 : dg (A 11) (nr A k - stp (pn A) (wtn A k)) x = dg (A 11) (nr A k) x - nd A (wtn A k) x := e1
    have h2 : nd A (wtn A k) x ≤ dg (A 11) (nr A k) x := (fit_iff _ _ _).mp hfit x hx
    show lfk A k x - A 4 (8 * wtn A k + x) = nI (dg (A 11) (nr A k - stp (pn A) (wtn A k)) x)
    rw [e1, ih2 x hx, (hW.nd_e hwn hx).1, pk_sub h2]
theorem nr_fits (hW : WFA A) (hp : isPh A = true) {k : Nat} (hk : k < tol A) : fitB (pn A) (wtn A k) (nr A k) = true := nr_fit0 hW hp k hk (nr_ok hW hp k (by omega)).1 (nr_ok hW hp k (by omega)).2
theorem nk_lt (hW : WFA A) : ∀ k, k ≤ tol A → nk A k < 5
  | 0, _ => by show 4 < 5; omega
  | k + 1, hk => by
    obtain ⟨hrow, hwn⟩ := hW.rowW (show k < tol A by omega)
    have := (hW.kd_e hwn).2
    show kd A (wtn A k) < 5
    omega
def rNum (A : Ab) : Int64 := if isPh A = true then lN (nu A (tol A)) else -9
end NumberP
section NumberW
variable {ll : Launch} {B : Bs} {σ : Mem} {A : Ab} {sd : Int64}
set_option maxHeartbeats 1000000 in
theorem cX_number (htr : ll.stackTraces = false) (hW : WFA A) (hR : RX B A sd σ) : MT ll B 24 30 300 yX0_number cX0_number 7 (some .long) [.ref (B.1 + 0)] σ (oXl B A sd σ (rNum A)) := by
  have hL := hR.1
  have hm := hW.nmle
  obtain ⟨htl, ht12⟩ := hW.toldN
  have hP : WFP (pn A) := pb_wr hW hW.now
  have hnS := nS_le hP
  refine MT.of (by decide) (Nat.le_of_ble_eq_true rfl) (fun g hg hr => ?_)
  refine y_aload_n hg dX0_number_0 rfl ?_
  refine y_callXW hg (cX_isPhrase htr hW hR) iX0_isPhrase q805 hL.x cf0 rfl rfl (by simp [Value.category]) (by decide) (by decide) (by decide) dX0_number_1 (fun v s1 h => ?_) (fun E q s1 h => h.elim)
  obtain ⟨r, rfl, rfl, hw1⟩ := h
  show YY g 7 s1 30 300 4 [(0, .ref (B.1 + 0))] [.int (b2 (isPh A))]
  have hL := hw1.1.1
  refine y_if_ne hg 11 dX0_number_4 (by decide) (fun hc => ?_) (fun hc => ?_)
  · have hp := b2T hc
    have eo : rNum A = lN (nu A (tol A)) := by unfold rNum; rw [if_pos hp]
    rw [eo] at hr
    refine y_aload_n hg dX0_number_11 rfl ?_
    refine y_cVv hg (cX_look0 hW hw1) iX0_look q368 (hL.x) cf0 rfl rfl (by simp [Value.category]) (Nat.le_refl _) (Nat.le_refl _) (by decide) dX0_number_12 (fun σ2 hp => ?_)
    obtain ⟨hX, hC, hC2, hw2⟩ := hp
    have hX : PX B σ2 (pn A) 2 := hX
    have hC : MC σ2 (pn A) := hC
    have hL := hw2.1.1
    have hpos := nS_pos (pn A)
    refine y_lconst (v := 0) hg dX0_number_15 rfl ?_
    refine y_lstore_n hg dX0_number_16 (by decide) (lv1 := [(0, _), (1, _)]) rfl ?_
    refine y_aload_n hg dX0_number_17 rfl ?_
    refine y_geti (j := 11) hg cf0 (hL.x) (by decide) rfl q183 dX0_number_18 ?_
    refine y_ti (hX.2.2.2.2.2.2.2.1) ?_
    refine y_iconst (v := nI 1) hg dX0_number_21 rfl ?_
    refine y_isub hg dX0_number_22 ?_
    refine y_ti (pk_sub (by omega)) ?_
    refine y_istore_n hg dX0_number_23 (by decide) (lv1 := [(0, _), (1, _), (3, _)]) rfl ?_
    refine y_iconst (v := nI 4) hg dX0_number_24 rfl ?_
    refine y_istore hg dX0_number_25 (by decide) (lv1 := [(0, _), (1, _), (3, _), (4, _)]) rfl ?_
    refine y_iconst (v := nI 0) hg dX0_number_27 rfl ?_
    refine y_istore hg dX0_number_28 (by decide) (lv1 := [(0, _), (1, _), (3, _), (4, _), (5, _)]) rfl ?_
    have LOOP := loop_st (S := Mem) (G := fun i s => YY g 7 s 30 300 30 [(0, .ref (B.1 + 0)), (1, .long (lN (nu A i))), (3, .int (nI (nr A i))), (4, .int (nI (nk A i))), (5, .int (nI i))] []) (I := fun i s => WX B A sd σ s ∧ PX B s (pn A) 2 ∧ MC s (pn A)) (tol A) ?_ ?_ 0 σ2 (Nat.zero_le _) ⟨hw2, hX, hC⟩
    · exact LOOP
    · intro i s hi hI ih
      obtain ⟨hws, hXs, hCs⟩ := hI
      obtain ⟨hrow, hwn⟩ := hW.rowW hi
      obtain ⟨hr1, -⟩ := nr_ok hW hp i (by omega)
      have hk5 := nk_lt hW i (by omega)
      have hfit := nr_fits hW hp hi
      have hle := stp_le hfit
      have hL := hws.1.1
      refine y_iload hg dX0_number_30 rfl ?_
      refine y_aload_n hg dX0_number_32 rfl ?_
      refine y_geti (j := 26) hg cf0 (hL.x) (by decide) rfl q198 dX0_number_33 ?_
      refine y_ti (hws.1.told.trans htl) ?_
      refine y_icmp_ge hg 140 dX0_number_36 (by decide) (fun hT => absurd hT (ge_c hi (by omega))) (fun _ => ?_)
      refine y_iconst (v := nI 0) hg dX0_number_39 rfl ?_
      refine y_istore hg dX0_number_40 (by decide) (lv1 := [(0, _), (1, _), (3, _), (4, _), (5, _), (6, _)]) rfl ?_
      have K := loop_st (S := Mem) (G := fun w s => YY g 7 s 30 300 42 [(0, .ref (B.1 + 0)), (1, .long (lN (nu A i + sm (cw (pn A) (nr A i) (nk A i)) w))), (3, .int (nI (nr A i))), (4, .int (nI (nk A i))), (5, .int (nI i)), (6, .int (nI w))] []) (I := fun w s => WX B A sd σ s ∧ PX B s (pn A) 2 ∧ MC s (pn A)) (wtn A i) ?_ ?_ 0 s (Nat.zero_le _) ⟨hws, hXs, hCs⟩
      · exact K
      · intro w s hwlt hI ih2
        obtain ⟨hws, hXs, hCs⟩ := hI
        have hL := hws.1.1
        have hw1 : w < (pn A).1 := by show w < nm A; omega
        have hst := hXs.2.2.2.2.2.2.2.2.1
        have hWx := hXs.2.2.2.1
        have hWw := hL.w_words (i := w) (by omega)
        have hkd4 := (hP.2.1 w hw1).1
        have es : sm (cw (pn A) (nr A i) (nk A i)) (w + 1) = sm (cw (pn A) (nr A i) (nk A i)) w + cw (pn A) (nr A i) (nk A i) w := rfl
        rw [es] at ih2
        have J : ∀ (t : Mem) (v : Nat), v = cw (pn A) (nr A i) (nk A i) w → WX B A sd σ t → PX B t (pn A) 2 → MC t (pn A) → YY g 7 t 30 300 94 [(0, .ref (B.1 + 0)), (1, .long (lN (nu A i + sm (cw (pn A) (nr A i) (nk A i)) w))), (3, .int (nI (nr A i))), (4, .int (nI (nk A i))), (5, .int (nI i)), (6, .int (nI w))] [.long (lN v), .long (lN (nu A i + sm (cw (pn A) (nr A i) (nk A i)) w))] := by
          intro t v hv a1 a2 a3
          subst hv
          refine y_ladd hg dX0_number_94 ?_
          refine y_tl ((lN_add _ _).trans (by rw [Nat.add_assoc])) ?_
          refine y_lstore_n hg dX0_number_95 (by decide) (lv1 := [(0, _), (1, _), (3, _), (4, _), (5, _), (6, _)]) rfl ?_
          refine y_iinc hg dX0_number_96 rfl (inc1 _) (by decide) (lv1 := [(0, _), (1, _), (3, _), (4, _), (5, _), (6, _)]) rfl ?_
          refine y_goto hg 42 dX0_number_99 (by decide) ?_
          exact ih2 _ ⟨a1, a2, a3⟩
        refine y_iload hg dX0_number_42 rfl ?_
        refine y_aload_n hg dX0_number_44 rfl ?_
        refine y_getr (j := 25) hg cf0 (hL.x) (by decide) rfl (hL.r_row) q197 dX0_number_45 ?_
        refine y_iload hg dX0_number_48 rfl ?_
        refine y_iald hg _ (hL.k_row) rfl (by omega) dX0_number_50 ?_
        refine y_ti ((hws.1.row6 (by omega)).trans hrow) ?_
        refine y_icmp_ge hg 102 dX0_number_51 (by decide) (fun hT => absurd hT (ge_c hwlt (by omega))) (fun _ => ?_)
        refine y_lload_n hg dX0_number_54 rfl ?_
        refine y_aload_n hg dX0_number_55 rfl ?_
        refine y_iload hg dX0_number_56 rfl ?_
        refine y_iload_n hg dX0_number_58 rfl ?_
        refine y_iload hg dX0_number_59 rfl ?_
        refine y_cVi hg (cX_mayCome hP hXs hw1 hr1 hk5) iX0_mayCome q416 (hL.x) cf0 rfl rfl (by simp [Value.category]) (Nat.le_refl _) (Nat.le_refl _) (by decide) dX0_number_61 (fun r s2 hp => ?_)
        obtain ⟨rfl, rfl⟩ := hp
        refine y_if_eq hg 93 dX0_number_64 (by decide) (fun hc3 => ?_) (fun hc3 => ?_)
        · refine y_lconst (v := 0) hg dX0_number_93 rfl ?_
          exact J _ 0 (by rw [cw, if_neg (b2F hc3)]) hws hXs hCs
        · have hmay := b2T hc3
          have hft := may_fit hmay
          have hle2 := stp_le hft
          have hds := ds_sub hP hw1 hft hr1
          have hdl := ds_le hP (nr A i)
          refine y_aload_n hg dX0_number_67 rfl ?_
          refine y_iload_n hg dX0_number_68 rfl ?_
          refine y_aload_n hg dX0_number_69 rfl ?_
          refine y_getr (j := 10) hg cf0 (hL.x) (by decide) rfl (hL.r_steps) q182 dX0_number_70 ?_
          refine y_iload hg dX0_number_73 rfl ?_
          refine y_iald hg _ (hL.k_steps) rfl (by omega) dX0_number_75 ?_
          refine y_ti (hst _ hw1) ?_
          refine y_isub hg dX0_number_76 ?_
          refine y_ti (pk_sub hle2) ?_
          refine y_aload_n hg dX0_number_77 rfl ?_
          refine y_getr (j := 0) hg cf0 (hL.x) (by decide) rfl (hL.r_words) q172 dX0_number_78 ?_
          refine y_iload hg dX0_number_81 rfl ?_
          refine y_aald3 hg _ (hL.k_words) rfl (by omega) (hL.e_words (i := w) (by omega)) dX0_number_83 ?_
          refine y_getiN (j := 2) hg cf2 (hWw.o) (by decide) rfl nf8 dX0_number_84 ?_
          refine y_ti ((hWx.2 _ hw1).1) ?_
          refine y_cVl hg (cX_countFrom hP (nr A i - stp (pn A) w) ((pn A).2.2.1 w) _ hXs hCs (by omega) (by omega)) iX0_countFrom q408 (hL.x) cf0 rfl rfl (by simp [Value.category]) (Nat.le_refl _) (Nat.le_refl _) (by omega) dX0_number_87 (fun r s3 hp => ?_)
          obtain ⟨rfl, hf1, hm1⟩ := hp
          refine y_goto hg 94 dX0_number_90 (by decide) ?_
          exact J _ _ (by rw [cw, if_pos hmay]) (hws.goR hW hf1 (fun a j q => by unfold XE; omega)) (hXs.fr12 hP hf1 (fun a j q => by unfold EP; omega)) hm1
      · intro s hI
        obtain ⟨hws, hXs, hCs⟩ := hI
        have hL := hws.1.1
        have hst := hXs.2.2.2.2.2.2.2.2.1
        obtain ⟨hkd, hkd4⟩ := hW.kd_e hwn
        refine y_iload hg dX0_number_42 rfl ?_
        refine y_aload_n hg dX0_number_44 rfl ?_
        refine y_getr (j := 25) hg cf0 (hL.x) (by decide) rfl (hL.r_row) q197 dX0_number_45 ?_
        refine y_iload hg dX0_number_48 rfl ?_
        refine y_iald hg _ (hL.k_row) rfl (by omega) dX0_number_50 ?_
        refine y_ti ((hws.1.row6 (by omega)).trans hrow) ?_
        refine y_icmp_ge hg 102 dX0_number_51 (by decide) (fun _ => ?_) (fun hF => absurd (le_c (Nat.le_refl _) (by omega)) hF)
        refine y_iload_n hg dX0_number_102 rfl ?_
        refine y_aload_n hg dX0_number_103 rfl ?_
        refine y_getr (j := 10) hg cf0 (hL.x) (by decide) rfl (hL.r_steps) q182 dX0_number_104 ?_
        refine y_aload_n hg dX0_number_107 rfl ?_
        refine y_getr (j := 25) hg cf0 (hL.x) (by decide) rfl (hL.r_row) q197 dX0_number_108 ?_
        refine y_iload hg dX0_number_111 rfl ?_
        refine y_iald hg _ (hL.k_row) rfl (by omega) dX0_number_113 ?_
        refine y_ti ((hws.1.row6 (by omega)).trans hrow) ?_
        refine y_iald hg _ (hL.k_steps) rfl (by omega) dX0_number_114 ?_
        refine y_ti (hst _ hwn) ?_
        refine y_isub hg dX0_number_115 ?_
        refine y_ti (pk_sub hle) ?_
        refine y_istore_n hg dX0_number_116 (by decide) (lv1 := [(0, _), (1, _), (3, _), (4, _), (5, _), (6, _)]) rfl ?_
        refine y_aload_n hg dX0_number_117 rfl ?_
        refine y_getr (j := 0) hg cf0 (hL.x) (by decide) rfl (hL.r_words) q172 dX0_number_118 ?_
        refine y_aload_n hg dX0_number_121 rfl ?_
        refine y_getr (j := 25) hg cf0 (hL.x) (by decide) rfl (hL.r_row) q197 dX0_number_122 ?_
        refine y_iload hg dX0_number_125 rfl ?_
        refine y_iald hg _ (hL.k_row) rfl (by omega) dX0_number_127 ?_
        refine y_ti ((hws.1.row6 (by omega)).trans hrow) ?_
        refine y_aald3 hg _ (hL.k_words) rfl (by omega) (hL.e_words (by omega)) dX0_number_128 ?_
        refine y_getiN (j := 2) hg cf2 ((hL.w_words (by omega)).o) (by decide) rfl nf8 dX0_number_129 ?_
        refine y_ti ((hws.1.kind hwn).trans hkd) ?_
        refine y_istore hg dX0_number_132 (by decide) (lv1 := [(0, _), (1, _), (3, _), (4, _), (5, _), (6, _)]) rfl ?_
        refine y_iinc hg dX0_number_134 rfl (inc1 _) (by decide) (lv1 := [(0, _), (1, _), (3, _), (4, _), (5, _), (6, _)]) rfl ?_
        refine y_goto hg 30 dX0_number_137 (by decide) ?_
        exact y_sub [0, 1, 2, 3, 4] rfl (ih _ ⟨hws, hXs, hCs⟩)
    · intro s hI
      obtain ⟨hws, hXs, hCs⟩ := hI
      have hL := hws.1.1
      refine y_iload hg dX0_number_30 rfl ?_
      refine y_aload_n hg dX0_number_32 rfl ?_
      refine y_geti (j := 26) hg cf0 (hL.x) (by decide) rfl q198 dX0_number_33 ?_
      refine y_ti (hws.1.told.trans htl) ?_
      refine y_icmp_ge hg 140 dX0_number_36 (by decide) (fun _ => ?_) (fun hF => absurd (le_c (Nat.le_refl _) (by omega)) hF)
      refine y_lload_n hg dX0_number_140 rfl ?_
      refine y_lret hg hr ⟨_, rfl, ?_⟩ dX0_number_141 (Nat.le_refl _) (Nat.le_refl _)
      exact ⟨rfl, hws.fin⟩
  · refine y_ldc2 hg dX0_number_7 q380 ?_
    refine y_lret hg hr ⟨_, rfl, ?_⟩ dX0_number_10 (Nat.le_refl _) (Nat.le_refl _)
    have eo : rNum A = -9 := by unfold rNum; rw [if_neg (b2F hc)]
    exact ⟨eo.symm, hw1.fin⟩
set_option maxHeartbeats 1000000 in
theorem cM_number (hW : WFA A) (hR : RMm B A sd σ) : MT ll B 24 0 0 yX3_number cX3_number 7 (some .long) [.ref (B.1 + 157)] σ (oMl B A sd σ (rNum A)) := by
  have hM := hR.1
  have hm := hW.nmle
  obtain ⟨htl, ht12⟩ := hW.toldN
  have hP : WFP (pn A) := pb_wr hW hW.now
  have hnS := nS_le hP
  refine MT.of (by decide) (Nat.le_of_ble_eq_true rfl) (fun g hg hr => ?_)
  refine y_aload_n hg dX3_number_0 rfl ?_
  refine y_cVi hg (cM_reason hW hR) iX3_reason q1284 (hM.m) cf3 rfl rfl (by simp [Value.category]) (Nat.le_refl _) (Nat.le_refl _) (by decide) dX3_number_1 (fun r σ1 hp => ?_)
  obtain ⟨rfl, -, hw1⟩ := hp
  refine y_if_eq hg 11 dX3_number_4 (by decide) (fun hc => ?_) (fun hc => ?_)
  · have hp : isPh A = true := decide_eq_true hc
    have eo : rNum A = lN (nu A (tol A)) := by unfold rNum; rw [if_pos hp]
    rw [eo] at hr
    have hM := hw1.1.1
    refine y_aload_n hg dX3_number_11 rfl ?_
    refine y_aload_n hg dX3_number_12 rfl ?_
    refine y_getr (j := 7) hg cf3 (hM.m) (by decide) rfl (hM.r_now) q918 dX3_number_13 ?_
    refine y_cVl hg (cM_manyOf (P := pn A) hM (Or.inl rfl) hP (hw1.1.wm hW) (fun j hj => hw1.1.now hj) RMm.hu0) iX3_manyOf q1142 (hM.m) cf3 rfl rfl (by simp [Value.category]) (Nat.le_refl _) (Nat.le_refl _) (by decide) dX3_number_16 (fun r σ2 hp => ?_)
    obtain ⟨rfl, hX, hC, hf2⟩ := hp
    refine y_pop2 hg dX3_number_19 rfl ?_
    have hw2 := hw1.go hf2 (fun a j q => by unfold MyP MkP at q; unfold ME; omega)
    have hM := hw2.1.1
    have hpos := nS_pos (pn A)
    refine y_lconst (v := 0) hg dX3_number_20 rfl ?_
    refine y_lstore_n hg dX3_number_21 (by decide) (lv1 := [(0, _), (1, _)]) rfl ?_
    refine y_aload_n hg dX3_number_22 rfl ?_
    refine y_geti (j := 31) hg cf3 (hM.m) (by decide) rfl q942 dX3_number_23 ?_
    refine y_ti (hX.2.2.2.2.1) ?_
    refine y_istore_n hg dX3_number_26 (by decide) (lv1 := [(0, _), (1, _), (3, _)]) rfl ?_
    refine y_iconst (v := nI 4) hg dX3_number_27 rfl ?_
    refine y_istore hg dX3_number_28 (by decide) (lv1 := [(0, _), (1, _), (3, _), (4, _)]) rfl ?_
    refine y_iconst (v := nI 0) hg dX3_number_30 rfl ?_
    refine y_istore hg dX3_number_31 (by decide) (lv1 := [(0, _), (1, _), (3, _), (4, _), (5, _)]) rfl ?_
    have LOOP := loop_up (G := fun i => YY g 7 σ2 0 0 33 [(0, .ref (B.1 + 157)), (1, .long (lN (nu A i))), (3, .int (nI (nr A i))), (4, .int (nI (nk A i))), (5, .int (nI i))] []) (tol A) ?_ ?_ 0 (Nat.zero_le _)
    · exact LOOP
    · intro i hi ih
      obtain ⟨hrow, hwn⟩ := hW.rowW hi
      obtain ⟨hr1, -⟩ := nr_ok hW hp i (by omega)
      have hk5 := nk_lt hW i (by omega)
      have hfit := nr_fits hW hp hi
      have hle := stp_le hfit
      have hpr := hX.2.2.2.2.2.2.1
      refine y_iload hg dX3_number_33 rfl ?_
      refine y_aload_n hg dX3_number_35 rfl ?_
      refine y_geti (j := 15) hg cf3 (hM.m) (by decide) rfl q926 dX3_number_36 ?_
      refine y_ti (hw2.1.told.trans htl) ?_
      refine y_icmp_ge hg 128 dX3_number_39 (by decide) (fun hT => absurd hT (ge_c hi (by omega))) (fun _ => ?_)
      refine y_iconst (v := nI 0) hg dX3_number_42 rfl ?_
      refine y_istore hg dX3_number_43 (by decide) (lv1 := [(0, _), (1, _), (3, _), (4, _), (5, _), (6, _)]) rfl ?_
      have K := loop_up (G := fun w => YY g 7 σ2 0 0 45 [(0, .ref (B.1 + 157)), (1, .long (lN (nu A i + sm (cw (pn A) (nr A i) (nk A i)) w))), (3, .int (nI (nr A i))), (4, .int (nI (nk A i))), (5, .int (nI i)), (6, .int (nI w))] []) (wtn A i) ?_ ?_ 0 (Nat.zero_le _)
      · exact K
      · intro w hwlt ih2
        have hw1 : w < (pn A).1 := by show w < nm A; omega
        have es : sm (cw (pn A) (nr A i) (nk A i)) (w + 1) = sm (cw (pn A) (nr A i) (nk A i)) w + cw (pn A) (nr A i) (nk A i) w := rfl
        rw [es] at ih2
        have J : ∀ (v : Nat), v = cw (pn A) (nr A i) (nk A i) w → YY g 7 σ2 0 0 85 [(0, .ref (B.1 + 157)), (1, .long (lN (nu A i + sm (cw (pn A) (nr A i) (nk A i)) w))), (3, .int (nI (nr A i))), (4, .int (nI (nk A i))), (5, .int (nI i)), (6, .int (nI w))] [.long (lN v), .long (lN (nu A i + sm (cw (pn A) (nr A i) (nk A i)) w))] := by
          intro v hv
          subst hv
          refine y_ladd hg dX3_number_85 ?_
          refine y_tl ((lN_add _ _).trans (by rw [Nat.add_assoc])) ?_
          refine y_lstore_n hg dX3_number_86 (by decide) (lv1 := [(0, _), (1, _), (3, _), (4, _), (5, _), (6, _)]) rfl ?_
          refine y_iinc hg dX3_number_87 rfl (inc1 _) (by decide) (lv1 := [(0, _), (1, _), (3, _), (4, _), (5, _), (6, _)]) rfl ?_
          refine y_goto hg 45 dX3_number_90 (by decide) ?_
          exact ih2
        refine y_iload hg dX3_number_45 rfl ?_
        refine y_aload_n hg dX3_number_47 rfl ?_
        refine y_getr (j := 14) hg cf3 (hM.m) (by decide) rfl (hM.r_told) q925 dX3_number_48 ?_
        refine y_iload hg dX3_number_51 rfl ?_
        refine y_iald hg _ (hM.k_told) rfl (by omega) dX3_number_53 ?_
        refine y_ti ((hw2.1.row6 (by omega)).trans hrow) ?_
        refine y_icmp_ge hg 93 dX3_number_54 (by decide) (fun hT => absurd hT (ge_c hwlt (by omega))) (fun _ => ?_)
        refine y_lload_n hg dX3_number_57 rfl ?_
        refine y_aload_n hg dX3_number_58 rfl ?_
        refine y_iload_n hg dX3_number_59 rfl ?_
        refine y_iload hg dX3_number_60 rfl ?_
        refine y_iload hg dX3_number_62 rfl ?_
        refine y_cVi hg (cM_mayCome hP hX hw1 hr1 hk5) iX3_mayCome q1150 (hM.m) cf3 rfl rfl (by simp [Value.category]) (Nat.le_refl _) (Nat.le_refl _) (by decide) dX3_number_64 (fun r s2 hp => ?_)
        obtain ⟨rfl, rfl⟩ := hp
        refine y_if_eq hg 84 dX3_number_67 (by decide) (fun hc3 => ?_) (fun hc3 => ?_)
        · refine y_lconst (v := 0) hg dX3_number_84 rfl ?_
          exact J 0 (by rw [cw, if_neg (b2F hc3)])
        · have hmay := b2T hc3
          have hft := may_fit hmay
          have hkd4 := (hP.2.1 w hw1).1
          have hstp := stp_pos hP hw1
          have hv : 0 < nr A i - stp (pn A) w → s2.2.2.2.1 179 (5 * (nr A i - stp (pn A) w) + (pn A).2.2.1 w) = lN (cnt (pn A) (nr A i - stp (pn A) w) ((pn A).2.2.1 w)) := fun h0 => by
            rw [hC _ _ (by omega) (by omega)]
            unfold wy
            rw [if_neg (by omega)]
          refine y_aload_n hg dX3_number_70 rfl ?_
          refine y_aload_n hg dX3_number_71 rfl ?_
          refine y_getr (j := 34) hg cf3 (hM.m) (by decide) rfl (hM.r_ways) q945 dX3_number_72 ?_
          refine y_iload_n hg dX3_number_75 rfl ?_
          refine y_iload hg dX3_number_76 rfl ?_
          refine y_cVl hg (cM_endsAs hP hX hw1 hr1 hft hv) iX3_endsAs q1154 (hM.m) cf3 rfl rfl (by simp [Value.category]) (Nat.le_refl _) (Nat.le_refl _) (by decide) dX3_number_78 (fun r s3 hp => ?_)
          obtain ⟨rfl, rfl⟩ := hp
          refine y_goto hg 85 dX3_number_81 (by decide) ?_
          exact J _ (by rw [cw, if_pos hmay])
      · obtain ⟨hkd, hkd4⟩ := hW.kd_e hwn
        refine y_iload hg dX3_number_45 rfl ?_
        refine y_aload_n hg dX3_number_47 rfl ?_
        refine y_getr (j := 14) hg cf3 (hM.m) (by decide) rfl (hM.r_told) q925 dX3_number_48 ?_
        refine y_iload hg dX3_number_51 rfl ?_
        refine y_iald hg _ (hM.k_told) rfl (by omega) dX3_number_53 ?_
        refine y_ti ((hw2.1.row6 (by omega)).trans hrow) ?_
        refine y_icmp_ge hg 93 dX3_number_54 (by decide) (fun _ => ?_) (fun hF => absurd (le_c (Nat.le_refl _) (by omega)) hF)
        refine y_iload_n hg dX3_number_93 rfl ?_
        refine y_aload_n hg dX3_number_94 rfl ?_
        refine y_getr (j := 33) hg cf3 (hM.m) (by decide) rfl (hM.r_price) q944 dX3_number_95 ?_
        refine y_aload_n hg dX3_number_98 rfl ?_
        refine y_getr (j := 14) hg cf3 (hM.m) (by decide) rfl (hM.r_told) q925 dX3_number_99 ?_
        refine y_iload hg dX3_number_102 rfl ?_
        refine y_iald hg _ (hM.k_told) rfl (by omega) dX3_number_104 ?_
        refine y_ti ((hw2.1.row6 (by omega)).trans hrow) ?_
        refine y_iald hg _ (hM.k_price) rfl (by omega) dX3_number_105 ?_
        refine y_ti (hpr _ hwn) ?_
        refine y_isub hg dX3_number_106 ?_
        refine y_ti (pk_sub hle) ?_
        refine y_istore_n hg dX3_number_107 (by decide) (lv1 := [(0, _), (1, _), (3, _), (4, _), (5, _), (6, _)]) rfl ?_
        refine y_aload_n hg dX3_number_108 rfl ?_
        refine y_getr (j := 5) hg cf3 (hM.m) (by decide) rfl (hM.r_kind) q916 dX3_number_109 ?_
        refine y_aload_n hg dX3_number_112 rfl ?_
        refine y_getr (j := 14) hg cf3 (hM.m) (by decide) rfl (hM.r_told) q925 dX3_number_113 ?_
        refine y_iload hg dX3_number_116 rfl ?_
        refine y_iald hg _ (hM.k_told) rfl (by omega) dX3_number_118 ?_
        refine y_ti ((hw2.1.row6 (by omega)).trans hrow) ?_
        refine y_iald hg _ (hM.k_kind) rfl (by omega) dX3_number_119 ?_
        refine y_ti ((hw2.1.kind hwn).trans hkd) ?_
        refine y_istore hg dX3_number_120 (by decide) (lv1 := [(0, _), (1, _), (3, _), (4, _), (5, _), (6, _)]) rfl ?_
        refine y_iinc hg dX3_number_122 rfl (inc1 _) (by decide) (lv1 := [(0, _), (1, _), (3, _), (4, _), (5, _), (6, _)]) rfl ?_
        refine y_goto hg 33 dX3_number_125 (by decide) ?_
        exact y_sub [0, 1, 2, 3, 4] rfl ih
    · skip
      refine y_iload hg dX3_number_33 rfl ?_
      refine y_aload_n hg dX3_number_35 rfl ?_
      refine y_geti (j := 15) hg cf3 (hM.m) (by decide) rfl q926 dX3_number_36 ?_
      refine y_ti (hw2.1.told.trans htl) ?_
      refine y_icmp_ge hg 128 dX3_number_39 (by decide) (fun _ => ?_) (fun hF => absurd (le_c (Nat.le_refl _) (by omega)) hF)
      refine y_lload_n hg dX3_number_128 rfl ?_
      refine y_lret hg hr ⟨_, rfl, ?_⟩ dX3_number_129 (Nat.le_refl _) (Nat.le_refl _)
      exact ⟨rfl, hw2.fin⟩
  · refine y_ldc2 hg dX3_number_7 q1296 ?_
    refine y_lret hg hr ⟨_, rfl, ?_⟩ dX3_number_10 (Nat.le_refl _) (Nat.le_refl _)
    have eo : rNum A = -9 := by unfold rNum; rw [if_neg (fun z : isPh A = true => hc (of_decide_eq_true z))]
    exact ⟨eo.symm, hw1.fin⟩
end NumberW

