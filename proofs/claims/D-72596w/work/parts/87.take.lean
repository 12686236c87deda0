/-! ===== X: why a row is no phrase ===== -/
section TakeX
variable {ll : Launch} {B : Bs} {σ : Mem} {A : Ab} {sd : Int64} {σ0 : Mem}
theorem y_xr2 {g : Cx} {l0 : Launch} {own : String} {cc : ByteArray} {L d mc ms cu su pc : Nat} {lv : List (Nat × Value)} {st : List Value} {nm : String} {ret : Option FieldType} {post : Option Value → Mem → Prop} {px : String → Nat → Mem → Prop} {tb : List ExceptionTableEntry} (hg : Gd g l0 B own cc L d mc ms) (hr : GrX g nm ret mc ms post px tb) (k : ∀ g', Gd g' l0 B own cc L d mc ms → Gr g' nm ret mc ms post → YY g' L σ cu su pc lv st) : YY g L σ cu su pc lv st := y_xr hr (k _ (gQ_d hg) (gQ_r hr))
/-- nothing that was there has changed -/
def Nw (σ σ' : Mem) : Prop := σ.2.1 ≤ σ'.2.1 ∧ ∀ q, q < σ.2.1 → σ'.1 q = σ.1 q ∧ σ'.2.2.1 q = σ.2.2.1 q ∧ σ'.2.2.2.1 q = σ.2.2.2.1 q ∧ σ'.2.2.2.2 q = σ.2.2.2.2 q
theorem Nw.tr {σ1 σ2 : Mem} (h : Nw σ σ1) (h2 : Nw σ1 σ2) : Nw σ σ2 := ⟨Nat.le_trans h.1 h2.1, fun q hq => by
  obtain ⟨a1, a2, a3, a4⟩ := h.2 q hq
  obtain ⟨b1, b2, b3, b4⟩ := h2.2 q (Nat.lt_of_lt_of_le hq h.1)
  exact ⟨b1.trans a1, b2.trans a2, b3.trans a3, b4.trans a4⟩⟩
theorem Nw.fr {P : Nat → Nat → Prop} {σ' : Mem} (h : Nw σ σ') : Fr P σ σ' := ⟨h.1, fun k hk => (h.2 k hk).1, fun k j hk _ => ⟨by rw [(h.2 k hk).2.1], by rw [(h.2 k hk).2.2.1]⟩, fun k j hk _ => by rw [(h.2 k hk).2.2.2]⟩
theorem Nw.new {kd : Nat × Nat} : Nw σ (newK σ kd) := ⟨Nat.le_succ _, fun q hq => ⟨up1_n (by omega), up1_n (by omega), up1_n (by omega), up1_n (by omega)⟩⟩
theorem Nw.ko {σ' : Mem} {k c : Nat} (h : Nw σ σ') (hk : KO σ k c) : KO σ' k c := ⟨(h.2 k hk.2).1.trans hk.1, Nat.lt_of_lt_of_le hk.2 h.1⟩
theorem WX.nw {σ' σ'' : Mem} (hW : WFA A) (h : WX B A sd σ σ') (hn : Nw σ' σ'') : WX B A sd σ σ'' := by
  have := h.1.1.n
  exact h.go hW hn.fr (by rw [(hn.2 0 (by omega)).2.2.2]) (by rw [(hn.2 0 (by omega)).2.2.2])
theorem KO.new {c : Nat} : KO (newK σ (10 + c, 0)) σ.2.1 c := ⟨up1_s, Nat.lt_succ_self _⟩
theorem new_r0 {c j : Nat} : (newK σ (10 + c, 0)).2.2.2.2 σ.2.1 j = none := by show up1 σ.2.2.2.2 σ.2.1 (fun _ => none) σ.2.1 j = none; rw [up1_s]
/-- an Amiss is thrown -/
def AmX (x n : Int32) (σ : Mem) (E : String) (k : Nat) (σ' : Mem) : Prop := E = RX7 ∧ KO σ' k 6 ∧ σ'.2.2.1 k 6 = x ∧ σ'.2.2.1 k 7 = n ∧ Nw σ σ'
theorem AmP.amx {x n : Int32} {σ' : Mem} (h : AmP σ.2.1 x n (newK σ (10 + 6, 0)) σ') : AmX x n σ RX7 σ.2.1 σ' := by
  obtain ⟨h1, h2, h3, h4, h5⟩ := h
  refine ⟨rfl, ⟨by rw [h1]; exact up1_s, by rw [h2]; exact Nat.lt_succ_self _⟩, by rw [h3, up2_n (by omega), up2_s], by rw [h3, up2_s], by rw [h2]; exact Nat.le_succ _, fun q hq => ?_⟩
  have hne : q ≠ σ.2.1 := by omega
  rw [h1, h3, h4, h5 q hne, up2_row hne, up2_row hne]
  exact (Nw.new (σ := σ)).2 q hq
theorem MfP.nw {c : Nat} {p : Int32} {co : Option Nat} {σ' : Mem} (h : MfP σ.2.1 p co (newK σ (10 + c, 0)) σ') : Nw σ σ' ∧ KO σ' σ.2.1 c ∧ σ'.2.2.1 σ.2.1 0 = p ∧ σ'.2.2.2.2 σ.2.1 1 = co := by
  obtain ⟨⟨h1, h2, h3, h4, h5⟩, h6⟩ := h
  refine ⟨⟨by rw [h2]; exact Nat.le_succ _, fun q hq => ?_⟩, ⟨by rw [h1]; exact up1_s, by rw [h2]; exact Nat.lt_succ_self _⟩, by rw [h3, up2_s], h6⟩
  have hne : q ≠ σ.2.1 := by omega
  rw [h1, h3, h4, h5 q hne, up2_row hne]
  exact (Nw.new (σ := σ)).2 q hq
def MisC (c : Nat) (E : String) (n : Int32) : Prop := (c = 4 ∧ E = RX5 ∧ n = nI 1) ∨ (c = 5 ∧ E = RX6 ∧ n = nI 2) ∨ (c = 7 ∧ E = RX8 ∧ n = nI 3) ∨ (c = 8 ∧ E = RX9 ∧ n = nI 6) ∨ (c = 9 ∧ E = RX10 ∧ n = nI 4) ∨ (c = 10 ∧ E = RX11 ∧ n = nI 5)
/-- a misfit that tells r -/
def MisOK (B : Bs) (E : String) (q : Nat) (σ' : Mem) (r : Rs) : Prop := ∃ c, MisC c E r.1 ∧ KO σ' q c ∧ σ'.2.2.1 q 0 = r.2.1 ∧ Cau B σ' q r.2.2.1 r.2.2.2
theorem WX.setX {σ' : Mem} {k j : Nat} {v : Int32} (hW : WFA A) (h : WX B A sd σ σ') (hq : XE k j) : WX B A sd σ (setI σ' k j v) := h.goR hW (Q := XE) ((FrR.rf).stI hq) (fun a j z => z)
theorem cX_takeLetters (htr : ll.stackTraces = false) (hW : WFA A) (hw0 : WX B A sd σ0 σ) {f : Nat → Int32} (hf : ∀ x, x < 8 → σ.2.2.1 82 x = f x) {w : Nat} (hw : w < nm A) : MX ll B 8 1 8 yX0_takeLetters (ws_ yX0_takeLetters cX0_takeLetters 4 none) [.ref (B.1 + 0), .ref (B.1 + (97 + 6 * w))] σ (pV fun σ' => wtF A f w (sz A w) 0 = none ∧ (∀ x, x < 8 → σ'.2.2.1 82 x = f x - A 4 (8 * w + x)) ∧ WX B A sd σ0 σ') (fun E k σ' => ∃ x, wtF A f w (sz A w) 0 = some x ∧ AmX (nI x) (A 4 (8 * w + x) - f x) σ E k σ') := by
  have hL := hw0.1.1
  have hm := hW.nmle
  obtain ⟨es, hs6⟩ := hW.szW hw
  have hwo := hL.w_words (show w < 10 by omega)
  refine MX.of (by decide) (Nat.le_of_ble_eq_true rfl) (fun g hg hr => ?_)
  refine y_iconst (v := nI 0) hg dX0_takeLetters_0 rfl ?_
  refine y_istore_n hg dX0_takeLetters_1 (by decide) (lv1 := [(0, _), (1, _), (2, _)]) rfl ?_
  refine (loop_up (G := fun j => wtF A f w (sz A w - j) j = wtF A f w (sz A w) 0 → YY g 4 σ 0 0 2 [(0, .ref (B.1 + 0)), (1, .ref (B.1 + (97 + 6 * w))), (2, .int (nI j))] []) (sz A w) (fun j hj ih => ?_) ?_ 0 (Nat.zero_le _)) rfl
  · intro hl
    rw [wtF_s hj] at hl
    obtain ⟨hsp, hx⟩ := hW.spW hw hj
    refine y_iload_n hg dX0_takeLetters_2 rfl ?_
    refine y_aload_n hg dX0_takeLetters_3 rfl ?_
    refine y_getiN (j := 1) hg cf2 (hwo.o) (by decide) rfl nf7 dX0_takeLetters_4 ?_
    refine y_ti ((hw0.1.size hw).trans es) ?_
    refine y_icmp_ge hg 60 dX0_takeLetters_7 (by decide) (fun hT => absurd hT (ge_c hj (by omega))) (fun _ => ?_)
    refine y_aload_n hg dX0_takeLetters_10 rfl ?_
    refine y_getrN (j := 0) hg cf2 (hwo.o) (by decide) rfl (hwo.r_spelt) nf6 dX0_takeLetters_11 ?_
    refine y_iload_n hg dX0_takeLetters_14 rfl ?_
    refine y_iald hg _ (hwo.k_spelt) rfl (by omega) dX0_takeLetters_15 ?_
    refine y_ti ((hw0.1.spelt hw hj (by omega)).trans hsp) ?_
    refine y_istore_n hg dX0_takeLetters_16 (by decide) (lv1 := [(0, _), (1, _), (2, _), (3, _)]) rfl ?_
    refine y_aload_n hg dX0_takeLetters_17 rfl ?_
    refine y_getr (j := 27) hg cf0 (hL.x) (by decide) rfl (hL.r_left) q199 dX0_takeLetters_18 ?_
    refine y_iload_n hg dX0_takeLetters_21 rfl ?_
    refine y_iald hg _ (hL.k_left) rfl (by omega) dX0_takeLetters_22 ?_
    refine y_ti (hf _ hx) ?_
    refine y_aload_n hg dX0_takeLetters_23 rfl ?_
    refine y_getrN (j := 3) hg cf2 (hwo.o) (by decide) rfl (hwo.r_has) nf9 dX0_takeLetters_24 ?_
    refine y_iload_n hg dX0_takeLetters_27 rfl ?_
    refine y_iald hg _ (hwo.k_has) rfl (by omega) dX0_takeLetters_28 ?_
    refine y_ti (hw0.1.need hw hx) ?_
    refine y_icmp_ge hg 54 dX0_takeLetters_29 (by decide) (fun hc => ?_) (fun hc => ?_)
    · rw [if_neg (Int32.not_lt.mpr hc)] at hl
      refine y_iinc hg dX0_takeLetters_54 rfl (inc1 _) (by decide) (lv1 := [(0, _), (1, _), (2, _), (3, _)]) rfl ?_
      refine y_goto hg 2 dX0_takeLetters_57 (by decide) ?_
      exact y_sub [0, 1, 2] rfl (ih hl)
    · rw [if_pos (Int32.not_le.mp hc)] at hl
      refine y_new hg cf6 df6 q569 q664 q96 (by decide) (by decide) dX0_takeLetters_32 ?_
      have hn := hL.n
      have hwN : WX B A sd σ0 (newK σ (10 + 6, 0)) := hw0.nw hW Nw.new
      have hL := hwN.1.1
      have hwo := hL.w_words (show w < 10 by omega)
      have hfN : (newK σ (10 + 6, 0)).2.2.1 82 (sp A w j) = f (sp A w j) := by rw [((Nw.new (σ := σ) (kd := (10 + 6, 0))).2 82 (by omega)).2.1]; exact hf _ hx
      refine y_dup hg dX0_takeLetters_35 rfl ?_
      refine y_iload_n hg dX0_takeLetters_36 rfl ?_
      refine y_aload_n hg dX0_takeLetters_37 rfl ?_
      refine y_getrN (j := 3) hg cf2 (hwo.o) (by decide) rfl (hwo.r_has) nf9 dX0_takeLetters_38 ?_
      refine y_iload_n hg dX0_takeLetters_41 rfl ?_
      refine y_iald hg _ (hwo.k_has) rfl (by omega) dX0_takeLetters_42 ?_
      refine y_ti (hwN.1.need hw hx) ?_
      refine y_aload_n hg dX0_takeLetters_43 rfl ?_
      refine y_getr (j := 27) hg cf0 (hL.x) (by decide) rfl (hL.r_left) q199 dX0_takeLetters_44 ?_
      refine y_iload_n hg dX0_takeLetters_47 rfl ?_
      refine y_iald hg _ (hL.k_left) rfl (by omega) dX0_takeLetters_48 ?_
      refine y_ti (hfN) ?_
      refine y_isub hg dX0_takeLetters_49 ?_
      refine y_callI (ret := none) hg (cAmiss htr KO.new new_r0 _ _) iX7_init q672 rfl rfl (by simp [Value.category]) (by decide) (by decide) (by decide) dX0_takeLetters_50 (fun v σ1 h => ?_)
      obtain ⟨rfl, h⟩ := h
      refine y_athrow hg cf6 (h.amx).2.1 dX0_takeLetters_53 ?_
      exact yx_out hg hr (fun x hx => by cases hx) ⟨sp A w j, hl.symm, h.amx⟩ (by decide) (by decide)
  · intro hl
    rw [Nat.sub_self] at hl
    have hl : wtF A f w (sz A w) 0 = none := hl.symm
    refine y_iload_n hg dX0_takeLetters_2 rfl ?_
    refine y_aload_n hg dX0_takeLetters_3 rfl ?_
    refine y_getiN (j := 1) hg cf2 (hwo.o) (by decide) rfl nf7 dX0_takeLetters_4 ?_
    refine y_ti ((hw0.1.size hw).trans es) ?_
    refine y_icmp_ge hg 60 dX0_takeLetters_7 (by decide) (fun _ => ?_) (fun hF => absurd (le_c (Nat.le_refl _) (by omega)) hF)
    refine y_iconst (v := nI 0) hg dX0_takeLetters_60 rfl ?_
    refine y_istore_n hg dX0_takeLetters_61 (by decide) (lv1 := [(0, _), (1, _), (2, _)]) rfl ?_
    have LOOP := loop_st (S := Mem) (G := fun e s => YY g 4 s 0 0 62 [(0, .ref (B.1 + 0)), (1, .ref (B.1 + (97 + 6 * w))), (2, .int (nI e))] []) (I := fun e s => WX B A sd σ0 s ∧ (∀ x, x < 8 → s.2.2.1 82 x = if x < e then f x - A 4 (8 * w + x) else f x)) 8 ?_ ?_ 0 σ (Nat.zero_le _) ⟨hw0, fun x hx => by rw [if_neg (by omega)]; exact hf x hx⟩
    · exact LOOP
    · intro e s he hI ih
      obtain ⟨hws, hls⟩ := hI
      have hL := hws.1.1
      have hn := hL.n
      have hwo := hL.w_words (show w < 10 by omega)
      refine y_iload_n hg dX0_takeLetters_62 rfl ?_
      refine y_bipush (v := nI 8) hg dX0_takeLetters_63 rfl ?_
      refine y_icmp_ge hg 89 dX0_takeLetters_65 (by decide) (fun hT => absurd hT (ge_c he (by omega))) (fun _ => ?_)
      refine y_aload_n hg dX0_takeLetters_68 rfl ?_
      refine y_getr (j := 27) hg cf0 (hL.x) (by decide) rfl (hL.r_left) q199 dX0_takeLetters_69 ?_
      refine y_iload_n hg dX0_takeLetters_72 rfl ?_
      refine y_dup2 hg dX0_takeLetters_73 rfl rfl ?_
      refine y_iald hg _ (hL.k_left) rfl (by omega) dX0_takeLetters_74 ?_
      refine y_ti ((hls _ he).trans (if_neg (Nat.lt_irrefl _))) ?_
      refine y_aload_n hg dX0_takeLetters_75 rfl ?_
      refine y_getrN (j := 3) hg cf2 (hwo.o) (by decide) rfl (hwo.r_has) nf9 dX0_takeLetters_76 ?_
      refine y_iload_n hg dX0_takeLetters_79 rfl ?_
      refine y_iald hg _ (hwo.k_has) rfl (by omega) dX0_takeLetters_80 ?_
      refine y_ti (hws.1.need hw he) ?_
      refine y_isub hg dX0_takeLetters_81 ?_
      refine y_iast hg _ (hL.k_left) rfl (by omega) dX0_takeLetters_82 ?_
      refine y_iinc hg dX0_takeLetters_83 rfl (inc1 _) (by decide) (lv1 := [(0, _), (1, _), (2, _)]) rfl ?_
      refine y_goto hg 62 dX0_takeLetters_86 (by decide) ?_
      refine ih _ ⟨hws.setX hW (by unfold XE; omega), fun x hx => ?_⟩
      by_cases e1 : x = e
      · subst e1
        rw [gI_s, if_pos (by omega)]
      · rw [gI_n (by omega), hls x hx]
        by_cases e2 : x < e
        · rw [if_pos e2, if_pos (by omega)]
        · rw [if_neg e2, if_neg (by omega)]
    · intro s hI
      obtain ⟨hws, hls⟩ := hI
      refine y_iload_n hg dX0_takeLetters_62 rfl ?_
      refine y_bipush (v := nI 8) hg dX0_takeLetters_63 rfl ?_
      refine y_icmp_ge hg 89 dX0_takeLetters_65 (by decide) (fun _ => ?_) (fun hF => absurd (le_c (Nat.le_refl _) (by omega)) hF)
      refine y_xr2 hg hr (fun g hg hr => ?_)
      refine y_vret hg hr ⟨rfl, ?_⟩ dX0_takeLetters_89 (by decide) (by decide)
      exact ⟨hl, fun x hx => by rw [hls x hx, if_pos hx], hws⟩
theorem cX_seeLeft (htr : ll.stackTraces = false) (hW : WFA A) (hw0 : WX B A sd σ0 σ) {f : Nat → Int32} (hf : ∀ x, x < 8 → σ.2.2.1 82 x = f x) : MX ll B 8 1 8 yX0_seeLeft (ws_ yX0_seeLeft cX0_seeLeft 2 none) [.ref (B.1 + 0)] σ (pV fun σ' => lvF f 8 0 = none ∧ σ' = σ) (fun E k σ' => ∃ x, lvF f 8 0 = some x ∧ AmX (nI x) (f x) σ E k σ') := by
  have hL := hw0.1.1
  refine MX.of (by decide) (Nat.le_of_ble_eq_true rfl) (fun g hg hr => ?_)
  refine y_iconst (v := nI 0) hg dX0_seeLeft_0 rfl ?_
  refine y_istore_n hg dX0_seeLeft_1 (by decide) (lv1 := [(0, _), (1, _)]) rfl ?_
  refine (loop_up (G := fun x => lvF f (8 - x) x = lvF f 8 0 → YY g 2 σ 0 0 2 [(0, .ref (B.1 + 0)), (1, .int (nI x))] []) 8 (fun x hx ih => ?_) ?_ 0 (Nat.zero_le _)) rfl
  · intro hl
    rw [lvF_s hx] at hl
    refine y_iload_n hg dX0_seeLeft_2 rfl ?_
    refine y_bipush (v := nI 8) hg dX0_seeLeft_3 rfl ?_
    refine y_icmp_ge hg 38 dX0_seeLeft_5 (by decide) (fun hT => absurd hT (ge_c hx (by omega))) (fun _ => ?_)
    refine y_aload_n hg dX0_seeLeft_8 rfl ?_
    refine y_getr (j := 27) hg cf0 (hL.x) (by decide) rfl (hL.r_left) q199 dX0_seeLeft_9 ?_
    refine y_iload_n hg dX0_seeLeft_12 rfl ?_
    refine y_iald hg _ (hL.k_left) rfl (by omega) dX0_seeLeft_13 ?_
    refine y_ti (hf _ hx) ?_
    refine y_if_le hg 32 dX0_seeLeft_14 (by decide) (fun hc => ?_) (fun hc => ?_)
    · rw [if_neg (Int32.not_lt.mpr hc)] at hl
      refine y_iinc hg dX0_seeLeft_32 rfl (inc1 _) (by decide) (lv1 := [(0, _), (1, _)]) rfl ?_
      refine y_goto hg 2 dX0_seeLeft_35 (by decide) ?_
      exact ih hl
    · rw [if_pos (Int32.not_le.mp hc)] at hl
      refine y_new hg cf6 df6 q569 q664 q96 (by decide) (by decide) dX0_seeLeft_17 ?_
      have hn := hL.n
      have hwN : WX B A sd σ0 (newK σ (10 + 6, 0)) := hw0.nw hW Nw.new
      have hL := hwN.1.1
      have hfN : (newK σ (10 + 6, 0)).2.2.1 82 x = f x := by rw [((Nw.new (σ := σ) (kd := (10 + 6, 0))).2 82 (by omega)).2.1]; exact hf _ hx
      refine y_dup hg dX0_seeLeft_20 rfl ?_
      refine y_iload_n hg dX0_seeLeft_21 rfl ?_
      refine y_aload_n hg dX0_seeLeft_22 rfl ?_
      refine y_getr (j := 27) hg cf0 (hL.x) (by decide) rfl (hL.r_left) q199 dX0_seeLeft_23 ?_
      refine y_iload_n hg dX0_seeLeft_26 rfl ?_
      refine y_iald hg _ (hL.k_left) rfl (by omega) dX0_seeLeft_27 ?_
      refine y_ti (hfN) ?_
      refine y_callI (ret := none) hg (cAmiss htr KO.new new_r0 _ _) iX7_init q672 rfl rfl (by simp [Value.category]) (by decide) (by decide) (by decide) dX0_seeLeft_28 (fun v σ1 h => ?_)
      obtain ⟨rfl, h⟩ := h
      refine y_athrow hg cf6 (h.amx).2.1 dX0_seeLeft_31 ?_
      exact yx_out hg hr (fun x hx => by cases hx) ⟨x, hl.symm, h.amx⟩ (by decide) (by decide)
  · intro hl
    have hl : lvF f 8 0 = none := hl.symm
    refine y_iload_n hg dX0_seeLeft_2 rfl ?_
    refine y_bipush (v := nI 8) hg dX0_seeLeft_3 rfl ?_
    refine y_icmp_ge hg 38 dX0_seeLeft_5 (by decide) (fun _ => ?_) (fun hF => absurd (le_c (Nat.le_refl _) (by omega)) hF)
    refine y_xr2 hg hr (fun g hg hr => ?_)
    refine y_vret hg hr ⟨rfl, ?_⟩ dX0_seeLeft_38 (by decide) (by decide)
    exact ⟨hl, rfl⟩
set_option maxHeartbeats 1000000 in
theorem cX_takeWord (htr : ll.stackTraces = false) (hW : WFA A) (hw0 : WX B A sd σ0 σ) {i : Nat} (hi : i < tol A) (hf : ∀ x, x < 8 → σ.2.2.1 82 x = lfk A i x) : MX ll B 10 2 15 yX0_takeWord (wsW_ yX0_takeWord cX0_takeWord 4 none [(92, 102, 105, 343)]) [.ref (B.1 + 0), .int (nI i)] σ (pV fun σ' => stW A (lfk A i) i = none ∧ (∀ x, x < 8 → σ'.2.2.1 82 x = lfk A (i + 1) x) ∧ WX B A sd σ0 σ') (fun E q σ' => ∃ r, stW A (lfk A i) i = some r ∧ MisOK B E q σ' r ∧ WX B A sd σ0 σ') := by
  have hL := hw0.1.1
  have hn := hL.n
  have hm := hW.nmle
  obtain ⟨htl, ht12⟩ := hW.toldN
  obtain ⟨hrow, hwn⟩ := hW.rowW hi
  refine MX.ofH (by decide) (Nat.le_of_ble_eq_true rfl) (fun g hg hr => ?_)
  refine y_aload_n hg dX0_takeWord_0 rfl ?_
  refine y_getr (j := 25) hg cf0 (hL.x) (by decide) rfl (hL.r_row) q197 dX0_takeWord_1 ?_
  refine y_iload_n hg dX0_takeWord_4 rfl ?_
  refine y_iald hg _ (hL.k_row) rfl (by omega) dX0_takeWord_5 ?_
  refine y_ti ((hw0.1.row6 (by omega)).trans hrow) ?_
  refine y_istore_n hg dX0_takeWord_6 (by decide) (lv1 := [(0, _), (1, _), (2, _)]) rfl ?_
  refine y_aload_n hg dX0_takeWord_7 rfl ?_
  refine y_getr (j := 2) hg cf0 (hL.x) (by decide) rfl (hL.r_now) q174 dX0_takeWord_8 ?_
  refine y_getiN (j := 1) hg cf1 (hL.s_now.o) (by decide) rfl nf1 dX0_takeWord_11 ?_
  refine y_ti (hw0.1.barred) ?_
  refine y_iload_n hg dX0_takeWord_14 rfl ?_
  refine y_cSi hg (cX_has _ _) iX0_has q344 rfl rfl (by simp [Value.category]) (Nat.zero_le _) (Nat.zero_le _) (by decide) dX0_takeWord_15 (fun r σ1 hp => ?_)
  obtain ⟨rfl, rfl⟩ := hp
  refine y_ti (show b2 (hasB (A 11 8) (nI (wtn A i))) = b2 (hasB (A 11 8) (A 6 i)) by rw [hrow]) ?_
  refine y_if_eq hg 30 dX0_takeWord_18 (by decide) (fun hc => ?_) (fun hc => ?_)
  · have hb1 : ¬ hasB (A 11 8) (A 6 i) = true := b2F hc
    have J : ∀ v, v = alw A i → YY g 4 σ1 0 0 68 [(0, .ref (B.1 + 0)), (1, .int (nI i)), (2, .int (nI (wtn A i)))] [.int v] := by
      intro v hv
      subst hv
      refine y_aload_n hg dX0_takeWord_68 rfl ?_
      refine y_getr (j := 0) hg cf0 (hL.x) (by decide) rfl (hL.r_words) q172 dX0_takeWord_69 ?_
      refine y_iload_n hg dX0_takeWord_72 rfl ?_
      refine y_aald3 hg _ (hL.k_words) rfl (by omega) (hL.e_words (by omega)) dX0_takeWord_73 ?_
      refine y_getiN (j := 2) hg cf2 ((hL.w_words (by omega)).o) (by decide) rfl nf8 dX0_takeWord_74 ?_
      refine y_ti (hw0.1.kind hwn) ?_
      refine y_cSi hg (cX_has _ _) iX0_has q344 rfl rfl (by simp [Value.category]) (Nat.zero_le _) (Nat.zero_le _) (by decide) dX0_takeWord_77 (fun r σ2 hp => ?_)
      obtain ⟨rfl, rfl⟩ := hp
      refine y_if_ne hg 92 dX0_takeWord_80 (by decide) (fun hc2 => ?_) (fun hc2 => ?_)
      · have hb2 := b2T hc2
        have hst : stW A (lfk A i) i = match wtF A (lfk A i) (wtn A i) (sz A (wtn A i)) 0 with
            | some x => some (nI 3, nI i, nI x, A 4 (8 * wtn A i + x) - lfk A i x)
            | none => none := by unfold stW; rw [if_neg hb1, if_pos hb2]; rfl
        refine y_aload_n hg dX0_takeWord_92 rfl ?_
        refine y_aload_n hg dX0_takeWord_93 rfl ?_
        refine y_getr (j := 0) hg cf0 (hL.x) (by decide) rfl (hL.r_words) q172 dX0_takeWord_94 ?_
        refine y_iload_n hg dX0_takeWord_97 rfl ?_
        refine y_aald3 hg _ (hL.k_words) rfl (by omega) (hL.e_words (by omega)) dX0_takeWord_98 ?_
        refine y_callX hg (cX_takeLetters htr hW hw0 hf hwn) iX0_takeLetters q660 hL.x cf0 rfl rfl (by simp [Value.category]) (by decide) (by decide) (by decide) dX0_takeWord_99 (fun v σ3 h => ?_) (fun E q σ3 h => ?_)
        · obtain ⟨rfl, hwt, hl3, hw3⟩ := h
          rw [hwt] at hst
          refine y_goto hg 116 dX0_takeWord_102 (by decide) ?_
          refine y_xr2 hg hr (fun g hg hr => ?_)
          refine y_vret hg hr ⟨rfl, ?_⟩ dX0_takeWord_116 (by decide) (by decide)
          exact ⟨hst, hl3, hw3⟩
        · obtain ⟨x, hwt, rfl, hk, h6, h7, hnw⟩ := h
          rw [hwt] at hst
          refine yx_catch hg hr (name := "BagPhrases$Amiss") [] ⟨92, 102, 105, 343⟩ [] rfl (fun z hz => by cases hz) (by decide) (by decide) q569 (List.mem_of_getElem? (i := 0) rfl) ?_
          refine y_astore_n hg dX0_takeWord_105 (by decide) (lv1 := [(0, _), (1, _), (2, _), (3, _)]) rfl ?_
          refine y_new hg cf7 df7 q689 q690 q97 (by decide) (by decide) dX0_takeWord_106 ?_
          refine y_dup hg dX0_takeWord_109 rfl ?_
          refine y_iload_n hg dX0_takeWord_110 rfl ?_
          refine y_aload_n hg dX0_takeWord_111 rfl ?_
          refine y_callI (ret := none) hg (cShort htr KO.new new_r0 _ _) iX8_init q698 rfl rfl (by simp [Value.category]) (by decide) (by decide) (by decide) dX0_takeWord_112 (fun v σ4 h => ?_)
          obtain ⟨rfl, h⟩ := h
          obtain ⟨n1, n2, n3, n4⟩ := h.nw
          refine y_athrow hg cf7 n2 dX0_takeWord_115 ?_
          refine yx_out hg hr (by decide) ⟨_, hst, ⟨7, Or.inr (Or.inr (Or.inl ⟨rfl, rfl, rfl⟩)), n2, n3, Or.inr ⟨q, n4, ?_, n1.ko hk, ?_, ?_⟩⟩, (hw0.nw hW hnw).nw hW n1⟩ (by decide) (by decide)
          · have := hk.2
            omega
          · rw [(n1.2 q hk.2).2.1]; exact h6
          · rw [(n1.2 q hk.2).2.1]; exact h7
      · have hst : stW A (lfk A i) i = some (nI 2, nI i, -9, nI 0) := by unfold stW; rw [if_neg hb1, if_neg (b2F hc2)]
        refine y_new hg cf5 df5 q562 q645 q95 (by decide) (by decide) dX0_takeWord_83 ?_
        refine y_dup hg dX0_takeWord_86 rfl ?_
        refine y_iload_n hg dX0_takeWord_87 rfl ?_
        refine y_callI (ret := none) hg (cUnlet htr KO.new new_r0 _) iX6_init q653 rfl rfl (by simp [Value.category]) (by decide) (by decide) (by decide) dX0_takeWord_88 (fun v σ4 h => ?_)
        obtain ⟨rfl, h⟩ := h
        obtain ⟨n1, n2, n3, n4⟩ := h.nw
        refine y_athrow hg cf5 n2 dX0_takeWord_91 ?_
        exact yx_out hg hr (by decide) ⟨_, hst, ⟨5, Or.inr (Or.inl ⟨rfl, rfl, rfl⟩), n2, n3, Or.inl ⟨n4, rfl, rfl⟩⟩, hw0.nw hW n1⟩ (by decide) (by decide)
    refine y_iload_n hg dX0_takeWord_30 rfl ?_
    refine y_if_ne hg 44 dX0_takeWord_31 (by decide) (fun hc3 => ?_) (fun hc3 => ?_)
    · have hi0 : i ≠ 0 := fun z => hc3 (by rw [z]; rfl)
      obtain ⟨hrow1, hwn1⟩ := hW.rowW (show i - 1 < tol A by omega)
      obtain ⟨hkd, hkd4⟩ := hW.kd_e hwn1
      refine y_aload_n hg dX0_takeWord_44 rfl ?_
      refine y_getr (j := 2) hg cf0 (hL.x) (by decide) rfl (hL.r_now) q174 dX0_takeWord_45 ?_
      refine y_getrN (j := 5) hg cf1 (hL.s_now.o) (by decide) rfl (hL.s_now.r_follows) nf5 dX0_takeWord_48 ?_
      refine y_aload_n hg dX0_takeWord_51 rfl ?_
      refine y_getr (j := 0) hg cf0 (hL.x) (by decide) rfl (hL.r_words) q172 dX0_takeWord_52 ?_
      refine y_aload_n hg dX0_takeWord_55 rfl ?_
      refine y_getr (j := 25) hg cf0 (hL.x) (by decide) rfl (hL.r_row) q197 dX0_takeWord_56 ?_
      refine y_iload_n hg dX0_takeWord_59 rfl ?_
      refine y_iconst (v := nI 1) hg dX0_takeWord_60 rfl ?_
      refine y_isub hg dX0_takeWord_61 ?_
      refine y_ti (pk_sub (by omega)) ?_
      refine y_iald hg _ (hL.k_row) rfl (by omega) dX0_takeWord_62 ?_
      refine y_ti ((hw0.1.row6 (by omega)).trans hrow1) ?_
      refine y_aald3 hg _ (hL.k_words) rfl (by omega) (hL.e_words (by omega)) dX0_takeWord_63 ?_
      refine y_getiN (j := 2) hg cf2 ((hL.w_words (by omega)).o) (by decide) rfl nf8 dX0_takeWord_64 ?_
      refine y_ti ((hw0.1.kind hwn1).trans hkd) ?_
      refine y_iald hg _ (hL.s_now.k_follows) rfl (by omega) dX0_takeWord_67 ?_
      refine y_ti (hw0.1.follows hkd4) ?_
      exact J _ (by unfold alw; rw [if_neg hi0])
    · have hi0 : i = 0 := nI_inj (by omega) (by omega) hc3
      refine y_aload_n hg dX0_takeWord_34 rfl ?_
      refine y_getr (j := 2) hg cf0 (hL.x) (by decide) rfl (hL.r_now) q174 dX0_takeWord_35 ?_
      refine y_getiN (j := 3) hg cf1 (hL.s_now.o) (by decide) rfl nf3 dX0_takeWord_38 ?_
      refine y_ti (hw0.1.begins) ?_
      refine y_goto hg 68 dX0_takeWord_41 (by decide) ?_
      exact J _ (by unfold alw; rw [if_pos hi0])
  · have hst : stW A (lfk A i) i = some (nI 1, nI i, -9, nI 0) := by unfold stW; rw [if_pos (b2T hc)]
    refine y_new hg cf4 df4 q561 q575 q94 (by decide) (by decide) dX0_takeWord_21 ?_
    refine y_dup hg dX0_takeWord_24 rfl ?_
    refine y_iload_n hg dX0_takeWord_25 rfl ?_
    refine y_callI (ret := none) hg (cBanned htr KO.new new_r0 _) iX5_init q617 rfl rfl (by simp [Value.category]) (by decide) (by decide) (by decide) dX0_takeWord_26 (fun v σ4 h => ?_)
    obtain ⟨rfl, h⟩ := h
    obtain ⟨n1, n2, n3, n4⟩ := h.nw
    refine y_athrow hg cf4 n2 dX0_takeWord_29 ?_
    exact yx_out hg hr (by decide) ⟨_, hst, ⟨4, Or.inl ⟨rfl, rfl, rfl⟩, n2, n3, Or.inl ⟨n4, rfl, rfl⟩⟩, hw0.nw hW n1⟩ (by decide) (by decide)
end TakeX

