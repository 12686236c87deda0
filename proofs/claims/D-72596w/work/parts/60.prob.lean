section Prob
variable {ll : Launch} {B : Bs} {σ : Mem} {A : Ab} {sd : Int64}
/-- the problem that a row makes of the words -/
def nd (A : Ab) (w x : Nat) : Nat := (A 4 (8 * w + x)).toNatClampNeg
def kd (A : Ab) (w : Nat) : Nat := (A 3 w).toNatClampNeg
def pb (A : Ab) (f : Nat → Int32) (u : Nat → Bool) : Pb := (nm A, nd A, kd A, f, u)
def uN (f : Nat → Int32) (w : Nat) : Bool := !hasB (f 8) (nI w)
def uWo (f : Nat → Int32) (v w : Nat) : Bool := !hasB (f 8) (nI w) && !decide (w = v)
theorem WFA.nd_e (hW : WFA A) {w x : Nat} (hw : w < nm A) (hx : x < 8) : A 4 (8 * w + x) = nI (nd A w x) ∧ nd A w x ≤ 6 := by
  obtain ⟨d, hd, e⟩ := (hW.word hw).2.2.1 x hx
  unfold nd
  rw [e, nI_clamp (by omega)]
  exact ⟨rfl, hd⟩
theorem WFA.kd_e (hW : WFA A) {w : Nat} (hw : w < nm A) : A 3 w = nI (kd A w) ∧ kd A w < 4 := by
  obtain ⟨d, hd, e⟩ := (hW.word hw).2.1
  unfold kd
  rw [e, nI_clamp (by omega)]
  exact ⟨rfl, hd⟩
theorem pb_wf (hW : WFA A) {f : Nat → Int32} {u : Nat → Bool} (hf : ∀ x, x < 8 → f x = nI (bg f x)) (hs : sm (bg f) 8 ≤ 13) : WFP (pb A f u) := by
  refine ⟨hW.nmle, fun w hw => ⟨(hW.kd_e hw).2, fun x hx => (hW.nd_e hw hx).2, ?_⟩, hf, hs⟩
  obtain ⟨x, hx, hn⟩ := (hW.word hw).2.2.2.1
  refine ⟨x, hx, ?_⟩
  show 1 ≤ nd A w x
  rcases Nat.eq_zero_or_pos (nd A w x) with z | z
  · exact absurd (by rw [(hW.nd_e hw hx).1, z]) hn
  · exact z
theorem pb_r (hW : WFA A) {n : Nat} {f : Nat → Int32} {u : Nat → Bool} (hf : WFr n f) : WFR (pb A f u) := fun w hw => hf.2.2.2.1 w (Nat.lt_of_lt_of_le hw hW.nmle)
theorem pb_wr (hW : WFA A) {n : Nat} {f : Nat → Int32} {u : Nat → Bool} (hf : WFr n f) : WFP (pb A f u) := pb_wf hW hf.1 (Nat.le_trans hf.2.1 (by decide))
theorem RX.wx (hR : RX B A sd σ) (hW : WFA A) {f : Nat → Int32} {u : Nat → Bool} : WXm σ (pb A f u) :=
  ⟨hR.many.trans hW.1.1, fun w hw => ⟨(hR.kind hw).trans (hW.kd_e hw).1, fun x hx => (hR.need hw hx).trans (hW.nd_e hw hx).1⟩⟩
theorem RMm.wm (hR : RMm B A sd σ) (hW : WFA A) {f : Nat → Int32} {u : Nat → Bool} : WMm σ (pb A f u) :=
  ⟨hR.many.trans hW.1.1, fun w hw => ⟨(hR.kind hw).trans (hW.kd_e hw).1, fun x hx => (hR.need hw hx).trans (hW.nd_e hw hx).1⟩⟩
/-- X's engine's places -/
def XE : Nat → Nat → Prop := fun a j => (a = 0 ∧ (j = 5 ∨ j = 11 ∨ j = 13)) ∨ (6 ≤ a ∧ a ≤ 17) ∨ a = 82 ∨ a = 86
theorem XE.s {a j : Nat} (h : XE a j) : XS a j := by unfold XE at h; unfold XS; omega
theorem XE.l {a j : Nat} (h : XE a j) : a < 157 := by unfold XE at h; omega
/-- X's engine at work: the state is as it was -/
def WX (B : Bs) (A : Ab) (sd : Int64) (σ σ' : Mem) : Prop := RX B A sd σ' ∧ Fr XE σ σ'
theorem WX.rf (hR : RX B A sd σ) : WX B A sd σ σ := ⟨hR, Fr.rf⟩
theorem WX.go {σ' σ'' : Mem} (hW : WFA A) (h : WX B A sd σ σ') (hf : Fr XE σ' σ'') (h14 : σ''.2.2.2.2 0 14 = σ'.2.2.2.2 0 14) (h15 : σ''.2.2.2.2 0 15 = σ'.2.2.2.2 0 15) : WX B A sd σ σ'' := by
  refine ⟨h.1.scr hW.nmle (hf.mono (fun a j q => q.s)) ?_, h.2.tr hf⟩
  obtain ⟨ka, kb, h1, h2, h3⟩ := h.1.2.1
  exact ⟨ka, kb, h1, h14.trans h2, h15.trans h3⟩
theorem WX.goR {σ' σ'' : Mem} {Q : Nat → Nat → Prop} (hW : WFA A) (h : WX B A sd σ σ') (hf : FrR Q σ' σ'') (hq : ∀ a j, Q a j → XE a j) : WX B A sd σ σ'' :=
  h.go hW (hf.1.mono hq) (by rw [hf.2]) (by rw [hf.2])
theorem WX.goL {σ' σ'' : Mem} (hW : WFA A) (h : WX B A sd σ σ') (hf : Fr YP σ' σ'') (hy : ∃ ka kb, LyR B σ'' ka kb) : WX B A sd σ σ'' :=
  ⟨h.1.scr hW.nmle (hf.mono (fun a j q => by unfold YP at q; unfold XS; omega)) hy, h.2.tr (hf.mono (fun a j q => by unfold YP at q; unfold XE; omega))⟩
theorem WX.fin {σ' : Mem} (h : WX B A sd σ σ') : RX B A sd σ' ∧ Fr (fun a _ => a < 157) σ σ' := ⟨h.1, h.2.mono (fun a j q => q.l)⟩
/-- M's engine's places -/
def ME : Nat → Nat → Prop := fun a j => (a = 157 ∧ (j = 31 ∨ j = 32 ∨ j = 41 ∨ j = 42 ∨ j = 43)) ∨ a = 164 ∨ 176 ≤ a
def WM (B : Bs) (A : Ab) (sd : Int64) (σ σ' : Mem) : Prop := RMm B A sd σ' ∧ FrR ME σ σ'
theorem WM.rf (hR : RMm B A sd σ) : WM B A sd σ σ := ⟨hR, FrR.rf⟩
theorem WM.go {σ' σ'' : Mem} {Q : Nat → Nat → Prop} (h : WM B A sd σ σ') (hf : FrR Q σ' σ'') (hq : ∀ a j, Q a j → ME a j) : WM B A sd σ σ'' :=
  ⟨h.1.scr (hf.mono (fun a j q => by have := hq a j q; unfold ME at this; unfold MS; omega)), h.2.tr (hf.mono hq)⟩
theorem WM.fin {σ' : Mem} (h : WM B A sd σ σ') : RMm B A sd σ' ∧ FrR (fun a _ => 157 ≤ a) σ σ' := ⟨h.1, h.2.mono (fun a j q => by unfold ME at q; omega)⟩
/-- what look() of X says of the words that may be used -/
theorem u_all {b : Int32} {n w : Nat} (hn : n ≤ 10) (hw : w < n) : hasB ((nI 1 <<< (nI n &&& 31) - nI 1) &&& (b ^^^ -1)) (nI w) = !hasB b (nI w) := by
  rw [hb_and (by omega), hb_all hn (by omega), hb_not (by omega), decide_eq_true hw, Bool.true_and]
theorem u_but {b : Int32} {n w v : Nat} (hn : n ≤ 10) (hw : w < n) (hv : v < n) : hasB (((nI 1 <<< (nI n &&& 31) - nI 1) &&& (b ^^^ -1)) &&& (nI 1 <<< (nI v &&& 31) ^^^ -1)) (nI w) = (!hasB b (nI w) && !decide (w = v)) := by
  rw [hb_and (by omega), u_all hn hw, hb_not (by omega), hb_sh (by omega) (by omega)]
/-- look at now -/
theorem cX_look0 (hW : WFA A) {σ0 : Mem} (hR : WX B A sd σ0 σ) : MT ll B 1 0 0 yX0_look cX0_look 1 none [.ref (B.1 + 0)] σ (pV fun σ' => PX B σ' (pb A (A 11) (uN (A 11))) 2 ∧ MC σ' (pb A (A 11) (uN (A 11))) ∧ MW0 σ' (pb A (A 11) (uN (A 11))) ∧ WX B A sd σ0 σ') := by
  have hL := hR.1.1
  have em := hR.1.many.trans hW.1.1
  refine MT.of (by decide) (Nat.le_of_ble_eq_true rfl) (fun g hg hr => ?_)
  refine y_aload_n hg dX0_look_0 rfl ?_
  refine y_aload_n hg dX0_look_1 rfl ?_
  refine y_getr (j := 2) hg cf0 (hL.x) (by decide) rfl (hL.r_now) q174 dX0_look_2 ?_
  refine y_aload_n hg dX0_look_5 rfl ?_
  refine y_cVi hg (cX_all hL) iX0_all q372 (hL.x) cf0 rfl rfl (by simp [Value.category]) (Nat.le_refl _) (Nat.le_refl _) (by decide) dX0_look_6 (fun r σ1 hp => ?_)
  obtain ⟨rfl, rfl⟩ := hp
  refine y_aload_n hg dX0_look_9 rfl ?_
  refine y_getr (j := 2) hg cf0 (hL.x) (by decide) rfl (hL.r_now) q174 dX0_look_10 ?_
  refine y_getiN (j := 1) hg cf1 (hL.s_now.o) (by decide) rfl nf1 dX0_look_13 ?_
  refine y_ti (hR.1.barred) ?_
  refine y_iconst (v := -1) hg dX0_look_16 rfl ?_
  refine y_ixor hg dX0_look_17 ?_
  refine y_iand hg dX0_look_18 ?_
  refine y_cVv hg (cX_look (P := pb A (A 11) (uN (A 11))) hL hL.s_now (Or.inl rfl) (pb_wr hW hW.now) (hR.1.wx hW) (fun j hj => hR.1.now hj) (fun w hw => by rw [em]; exact u_all hW.nmle hw)) iX0_look_2 q376 (hL.x) cf0 rfl rfl (by simp [Value.category]) (Nat.le_refl _) (Nat.le_refl _) (by decide) dX0_look_19 (fun σ2 hp => ?_)
  obtain ⟨q1, q2, q3, q4, q5, q6⟩ := hp
  refine y_vret hg hr ⟨rfl, ?_⟩ dX0_look_22 (Nat.le_refl _) (Nat.le_refl _)
  exact ⟨q1, q2, q3, hR.go hW (q4.mono (fun a j q => by unfold LkP at q; unfold XE; omega)) q5 q6⟩
end Prob

