/-! ===== exceptions' constructors ===== -/
section ExcRows
variable {g : Cx} {l0 : Launch} {B : Bs} {own : String} {cc : ByteArray} {L d mc ms cu su pc : Nat} {σ : Mem} {lv : List (Nat × Value)} {st : List Value}
theorem y_aloadN (hg : Gd g l0 B own cc L d mc ms) {q : Fin 4} (hd : decode cc pc = .ok (.aload_n q, 1)) (hl : lgt lv (q : Nat) = some .null) (k : YY g L σ cu su (pc + 1) lv (.null :: st)) : YY g L σ cu su pc lv st := by
  obtain ⟨p, l, e, R, s, m, args, below, meth, c, Q, B'⟩ := g
  obtain ⟨rfl, rfl, hx, hb, hml, hown, hts, hK, hfr, hlo, hce, hsl, hlk, hba⟩ := hg
  intro H locs ls hR hS hv T hT X
  obtain ⟨t, a, b⟩ := k H locs ls hR hS hv T hT X
  have hl' := lgt_at hv hl
  refine ⟨t, ?_, b⟩
  jvm_step X.here [X.here.top, hx, hb, hd, hl', Value.isRef]
  exact a
theorem y_aloadq (hg : Gd g l0 B own cc L d mc ms) {q : Fin 4} (o : Option Nat) (hd : decode cc pc = .ok (.aload_n q, 1)) (hl : lgt lv (q : Nat) = some (va_rf o)) (k : YY g L σ cu su (pc + 1) lv (va_rf o :: st)) : YY g L σ cu su pc lv st := by
  cases o with
  | none => exact y_aloadN hg hd hl k
  | some a => exact y_aload_n hg hd hl k
theorem y_astoreN (hg : Gd g l0 B own cc L d mc ms) {q : Fin 4} {lv1 : List (Nat × Value)} (hd : decode cc pc = .ok (.astore_n q, 1)) (hn : (q : Nat) < L) (hl : lst lv (q : Nat) .null = lv1) (k : YY g L σ cu su (pc + 1) lv1 st) : YY g L σ cu su pc lv (.null :: st) := by
  obtain ⟨p, l, e, R, s, m, args, below, meth, c, Q, B'⟩ := g
  obtain ⟨rfl, rfl, hx, hb, hml, hown, hts, hK, hfr, hlo, hce, hsl, hlk, hba⟩ := hg
  intro H locs ls hR hS hv T hT X
  subst hl
  obtain ⟨ls', e', h'⟩ := lv_store1 (v := .null) hv hn rfl
  obtain ⟨t, a, b⟩ := k H locs ls' hR hS (lst_has h') T hT X
  refine ⟨t, ?_, b⟩
  jvm_step X.here [X.here.top, ↓top_set X.here.top, hx, hb, hd, e', Value.isRef]
  exact a
theorem y_instN (hg : Gd g l0 B own cc L d mc ms) {idx : Nat} (hd : decode cc pc = .ok (.instanceof idx, 3)) (k : YY g L σ cu su (pc + 3) lv (.int 0 :: st)) : YY g L σ cu su pc lv (.null :: st) := by
  obtain ⟨p, l, e, R, s, m, args, below, meth, c, Q, B'⟩ := g
  obtain ⟨rfl, rfl, hx, hb, hml, hown, hts, hK, hfr, hlo, hce, hsl, hlk, hba⟩ := hg
  intro H locs ls hR hS hv
  exact lv_instN hx hb hd (k H locs ls hR hS hv)
theorem y_instY (hg : Gd g l0 B own cc L d mc ms) {idx k c N : Nat} {C name : String} {T : u_T} (hc : CF c C T N) (hk : KO σ k c) (hl : Cond.classLink own idx name ∈ lw_all) (hca : (C, name) ∈ caL) (hd : decode cc pc = .ok (.instanceof idx, 3)) (kk : YY g L σ cu su (pc + 3) lv (.int 1 :: st)) : YY g L σ cu su pc lv (.ref (B.1 + k) :: st) := by
  obtain ⟨p, l, e, R, s, m, args, below, meth, cD, Q, B'⟩ := g
  obtain ⟨rfl, rfl, hx, hb, hml, hown, hts, hK, hfr, hlo, hce, hsl, hlk, hba⟩ := hg
  intro H locs ls hR hS hv
  obtain ⟨cell, q1, q2, q3, q4⟩ := hR.obj hk hc
  exact va_instY hx hb hown (hts _ hl) (hK.2.2.2.2.2.2.2.2.1 _ hca) ⟨cell, q1, by rw [q3]; rfl, by rw [q2]; exact (hK.1.1 c _ hc.1).2.1⟩ hd (kk H locs ls hR hS hv)
theorem y_castY (hg : Gd g l0 B own cc L d mc ms) {idx k c N : Nat} {C name : String} {T : u_T} (hc : CF c C T N) (hk : KO σ k c) (hl : Cond.classLink own idx name ∈ lw_all) (hca : (C, name) ∈ caL) (hd : decode cc pc = .ok (.checkcast idx, 3)) (kk : YY g L σ cu su (pc + 3) lv (.ref (B.1 + k) :: st)) : YY g L σ cu su pc lv (.ref (B.1 + k) :: st) := by
  obtain ⟨p, l, e, R, s, m, args, below, meth, cD, Q, B'⟩ := g
  obtain ⟨rfl, rfl, hx, hb, hml, hown, hts, hK, hfr, hlo, hce, hsl, hlk, hba⟩ := hg
  intro H locs ls hR hS hv
  obtain ⟨cell, q1, q2, q3, q4⟩ := hR.obj hk hc
  exact va_castY hx hb hown (hts _ hl) (hK.2.2.2.2.2.2.2.2.1 _ hca) ⟨cell, q1, by rw [q3]; rfl, by rw [q2]; exact (hK.1.1 c _ hc.1).2.1⟩ hd (kk H locs ls hR hS hv)
end ExcRows
/-- only references of cell k have changed -/
def OnlyR (k : Nat) (σ σ' : Mem) : Prop := σ'.1 = σ.1 ∧ σ'.2.1 = σ.2.1 ∧ σ'.2.2.1 = σ.2.2.1 ∧ σ'.2.2.2.1 = σ.2.2.2.1 ∧ ∀ q, q ≠ k → σ'.2.2.2.2 q = σ.2.2.2.2 q
def AmP (k : Nat) (x n : Int32) (σ σ' : Mem) : Prop := σ'.1 = σ.1 ∧ σ'.2.1 = σ.2.1 ∧ σ'.2.2.1 = up2 (up2 σ.2.2.1 k 6 x) k 7 n ∧ σ'.2.2.2.1 = σ.2.2.2.1 ∧ ∀ q, q ≠ k → σ'.2.2.2.2 q = σ.2.2.2.2 q
def MfP (k : Nat) (p : Int32) (co : Option Nat) (σ σ' : Mem) : Prop := (σ'.1 = σ.1 ∧ σ'.2.1 = σ.2.1 ∧ σ'.2.2.1 = up2 σ.2.2.1 k 0 p ∧ σ'.2.2.2.1 = σ.2.2.2.1 ∧ ∀ q, q ≠ k → σ'.2.2.2.2 q = σ.2.2.2.2 q) ∧ σ'.2.2.2.2 k 1 = co
theorem df4 (j : Nat) : defaultValue (clY 4 j) = fv (clY 4 j) 0 0 none := by show defaultValue (tyX5 j) = fv (tyX5 j) 0 0 none; unfold tyX5; split <;> rfl
theorem df5 (j : Nat) : defaultValue (clY 5 j) = fv (clY 5 j) 0 0 none := by show defaultValue (tyX6 j) = fv (tyX6 j) 0 0 none; unfold tyX6; split <;> rfl
theorem df6 (j : Nat) : defaultValue (clY 6 j) = fv (clY 6 j) 0 0 none := by show defaultValue (tyX7 j) = fv (tyX7 j) 0 0 none; unfold tyX7; split <;> rfl
theorem df7 (j : Nat) : defaultValue (clY 7 j) = fv (clY 7 j) 0 0 none := by show defaultValue (tyX8 j) = fv (tyX8 j) 0 0 none; unfold tyX8; split <;> rfl
theorem df8 (j : Nat) : defaultValue (clY 8 j) = fv (clY 8 j) 0 0 none := by show defaultValue (tyX9 j) = fv (tyX9 j) 0 0 none; unfold tyX9; split <;> rfl
theorem df9 (j : Nat) : defaultValue (clY 9 j) = fv (clY 9 j) 0 0 none := by show defaultValue (tyX10 j) = fv (tyX10 j) 0 0 none; unfold tyX10; split <;> rfl
theorem df10 (j : Nat) : defaultValue (clY 10 j) = fv (clY 10 j) 0 0 none := by show defaultValue (tyX11 j) = fv (tyX11 j) 0 0 none; unfold tyX11; split <;> rfl
section ExcCtors
variable {l : Launch} {B : Bs} {σ : Mem} {k : Nat}
theorem cT2_4 (htr : l.stackTraces = false) (hk : KO σ k 4) (hbk : σ.2.2.2.2 k 5 = none) (co : Option Nat) : MT l B 5 0 0 yJ1_init_2 cJ1_init_2 3 none [.ref (B.1 + k), .null, va_rf co] σ (pV fun σ' => OnlyR k σ σ' ∧ σ'.2.2.2.2 k 1 = co) := by
  refine MT.ofF (by decide +kernel) (by cases co <;> exact Nat.le_of_ble_eq_true rfl) (fun g hg hr => ?_)
  rw [show lv_args 0 [.ref (B.1 + k), .null, va_rf co] = [(0, .ref (B.1 + k)), (1, .null), (2, va_rf co)] by cases co <;> rfl]
  refine y_aload_n hg dJ1_init_2_0 rfl ?_
  refine y_objInit hg q597 dJ1_init_2_1 (by decide) (by decide) ?_
  refine y_aload_n hg dJ1_init_2_4 rfl ?_
  refine y_aload_n hg dJ1_init_2_5 rfl ?_
  refine y_putr (j := 1) hg cf4 hk (by decide) rfl rfl q632 dJ1_init_2_6 ?_
  refine y_aload_n hg dJ1_init_2_9 rfl ?_
  refine y_gets1 hg q598 dJ1_init_2_10 (fun u hZ => ?_)
  refine y_putq (j := 2) hg cf4 hk (by decide) rfl rfl q633 dJ1_init_2_13 ?_
  refine y_aload_n hg dJ1_init_2_16 rfl ?_
  refine y_gets2 hg q600 dJ1_init_2_17 (fun u2 => ?_)
  refine y_putq (j := 3) hg cf4 hk (by decide) rfl rfl q634 dJ1_init_2_20 ?_
  refine y_aload_n hg dJ1_init_2_23 rfl ?_
  refine y_fill (jS := 2) (jB := 5) hg htr cf4 hk (by decide) rfl rfl (by decide) rfl rfl hZ (by simp [setR, up2]) (by simpa [setR, up2] using hbk) q582 q581 dJ1_init_2_24 (by decide) (by decide) ?_
  refine y_pop hg dJ1_init_2_27 rfl ?_
  refine y_aload_n hg dJ1_init_2_28 rfl ?_
  refine y_aloadN hg dJ1_init_2_29 rfl ?_
  refine y_putq (o := none) (j := 4) hg cf4 hk (by decide) rfl rfl q631 dJ1_init_2_30 ?_
  refine y_aload_n hg dJ1_init_2_33 rfl ?_
  refine y_aloadq hg co dJ1_init_2_34 rfl ?_
  refine y_putq (j := 1) hg cf4 hk (by decide) rfl rfl q632 dJ1_init_2_35 ?_
  refine y_vret hg hr ⟨rfl, ?_⟩ dJ1_init_2_38 (Nat.le_refl _) (Nat.le_refl _)
  exact ⟨⟨rfl, rfl, rfl, rfl, fun q hq => by simp [setR, up2_row hq]⟩, by simp [setR, up2]⟩
theorem cE2_4 (htr : l.stackTraces = false) (hk : KO σ k 4) (hbk : σ.2.2.2.2 k 5 = none) (co : Option Nat) : MT l B 6 0 0 yJ2_init cJ2_init 3 none [.ref (B.1 + k), .null, va_rf co] σ (pV fun σ' => OnlyR k σ σ' ∧ σ'.2.2.2.2 k 1 = co) := by
  refine MT.ofF (by decide +kernel) (by cases co <;> exact Nat.le_of_ble_eq_true rfl) (fun g hg hr => ?_)
  rw [show lv_args 0 [.ref (B.1 + k), .null, va_rf co] = [(0, .ref (B.1 + k)), (1, .null), (2, va_rf co)] by cases co <;> rfl]
  refine y_aload_n hg dJ2_init_0 rfl ?_
  refine y_aloadN hg dJ2_init_1 rfl ?_
  refine y_aloadq hg co dJ2_init_2 rfl ?_
  refine y_callI (ret := none) (As := [.null, va_rf co]) (rest := []) hg (cT2_4 htr hk hbk co) iJ1_init_2 q626 rfl rfl (by decide) (Nat.le_refl _) (Nat.le_refl _) (by decide) dJ2_init_3 (fun v σ1 h => ?_)
  obtain ⟨rfl, h⟩ := h
  exact y_vret hg hr ⟨rfl, h⟩ dJ2_init_6 (Nat.le_refl _) (Nat.le_refl _)
theorem cM2_4 (htr : l.stackTraces = false) (hk : KO σ k 4) (hbk : σ.2.2.2.2 k 5 = none) (p : Int32) (co : Option Nat) : MT l B 7 0 0 yX4_init cX4_init 3 none [.ref (B.1 + k), .int p, va_rf co] σ (pV fun σ' => MfP k p co σ σ') := by
  refine MT.of (by decide) (by cases co <;> exact Nat.le_of_ble_eq_true rfl) (fun g hg hr => ?_)
  rw [show lv_args 0 [.ref (B.1 + k), .int p, va_rf co] = [(0, .ref (B.1 + k)), (1, .int p), (2, va_rf co)] by cases co <;> rfl]
  refine y_aload_n hg dX4_init_0 rfl ?_
  refine y_null hg dX4_init_1 ?_
  refine y_aloadq hg co dX4_init_2 rfl ?_
  refine y_callI (ret := none) (As := [.null, va_rf co]) (rest := []) hg (cE2_4 htr hk hbk co) iJ2_init q623 rfl rfl (by decide) (Nat.le_refl _) (Nat.le_refl _) (by decide) dX4_init_3 (fun v σ1 h => ?_)
  obtain ⟨rfl, ⟨h1, h2, h3, h4, h5⟩, h6⟩ := h
  have hk1 : KO σ1 k 4 := ⟨by rw [h1]; exact hk.1, by rw [h2]; exact hk.2⟩
  refine y_aload_n hg dX4_init_6 rfl ?_
  refine y_iload_n hg dX4_init_7 rfl ?_
  refine y_putiF (j := 0) hg cf4 hk1 (by decide) rfl rfl hr rfl q629 dX4_init_8 ?_
  refine y_vret hg hr ⟨rfl, ?_⟩ dX4_init_11 (Nat.le_refl _) (Nat.le_refl _)
  exact ⟨⟨h1, h2, by show up2 σ1.2.2.1 k 0 p = _; rw [h3], h4, h5⟩, h6⟩
theorem cBanned (htr : l.stackTraces = false) (hk : KO σ k 4) (hbk : σ.2.2.2.2 k 5 = none) (p : Int32) : MT l B 8 0 0 yX5_init cX5_init 2 none [.ref (B.1 + k), .int p] σ (pV fun σ' => MfP k p none σ σ') := by
  refine MT.of (by decide) (Nat.le_of_ble_eq_true rfl) (fun g hg hr => ?_)
  refine y_aload_n hg dX5_init_0 rfl ?_
  refine y_iload_n hg dX5_init_1 rfl ?_
  refine y_null hg dX5_init_2 ?_
  refine y_callI (ret := none) (As := [.int p, va_rf none]) (rest := []) hg (cM2_4 htr hk hbk p none) iX4_init q620 rfl rfl (by decide) (Nat.le_refl _) (Nat.le_refl _) (by decide) dX5_init_3 (fun v σ1 h => ?_)
  obtain ⟨rfl, h⟩ := h
  exact y_vret hg hr ⟨rfl, h⟩ dX5_init_6 (Nat.le_refl _) (Nat.le_refl _)
theorem cT2_5 (htr : l.stackTraces = false) (hk : KO σ k 5) (hbk : σ.2.2.2.2 k 5 = none) (co : Option Nat) : MT l B 5 0 0 yJ1_init_2 cJ1_init_2 3 none [.ref (B.1 + k), .null, va_rf co] σ (pV fun σ' => OnlyR k σ σ' ∧ σ'.2.2.2.2 k 1 = co) := by
  refine MT.ofF (by decide +kernel) (by cases co <;> exact Nat.le_of_ble_eq_true rfl) (fun g hg hr => ?_)
  rw [show lv_args 0 [.ref (B.1 + k), .null, va_rf co] = [(0, .ref (B.1 + k)), (1, .null), (2, va_rf co)] by cases co <;> rfl]
  refine y_aload_n hg dJ1_init_2_0 rfl ?_
  refine y_objInit hg q597 dJ1_init_2_1 (by decide) (by decide) ?_
  refine y_aload_n hg dJ1_init_2_4 rfl ?_
  refine y_aload_n hg dJ1_init_2_5 rfl ?_
  refine y_putr (j := 1) hg cf5 hk (by decide) rfl rfl q632 dJ1_init_2_6 ?_
  refine y_aload_n hg dJ1_init_2_9 rfl ?_
  refine y_gets1 hg q598 dJ1_init_2_10 (fun u hZ => ?_)
  refine y_putq (j := 2) hg cf5 hk (by decide) rfl rfl q633 dJ1_init_2_13 ?_
  refine y_aload_n hg dJ1_init_2_16 rfl ?_
  refine y_gets2 hg q600 dJ1_init_2_17 (fun u2 => ?_)
  refine y_putq (j := 3) hg cf5 hk (by decide) rfl rfl q634 dJ1_init_2_20 ?_
  refine y_aload_n hg dJ1_init_2_23 rfl ?_
  refine y_fill (jS := 2) (jB := 5) hg htr cf5 hk (by decide) rfl rfl (by decide) rfl rfl hZ (by simp [setR, up2]) (by simpa [setR, up2] using hbk) q609 q647 dJ1_init_2_24 (by decide) (by decide) ?_
  refine y_pop hg dJ1_init_2_27 rfl ?_
  refine y_aload_n hg dJ1_init_2_28 rfl ?_
  refine y_aloadN hg dJ1_init_2_29 rfl ?_
  refine y_putq (o := none) (j := 4) hg cf5 hk (by decide) rfl rfl q631 dJ1_init_2_30 ?_
  refine y_aload_n hg dJ1_init_2_33 rfl ?_
  refine y_aloadq hg co dJ1_init_2_34 rfl ?_
  refine y_putq (j := 1) hg cf5 hk (by decide) rfl rfl q632 dJ1_init_2_35 ?_
  refine y_vret hg hr ⟨rfl, ?_⟩ dJ1_init_2_38 (Nat.le_refl _) (Nat.le_refl _)
  exact ⟨⟨rfl, rfl, rfl, rfl, fun q hq => by simp [setR, up2_row hq]⟩, by simp [setR, up2]⟩
theorem cE2_5 (htr : l.stackTraces = false) (hk : KO σ k 5) (hbk : σ.2.2.2.2 k 5 = none) (co : Option Nat) : MT l B 6 0 0 yJ2_init cJ2_init 3 none [.ref (B.1 + k), .null, va_rf co] σ (pV fun σ' => OnlyR k σ σ' ∧ σ'.2.2.2.2 k 1 = co) := by
  refine MT.ofF (by decide +kernel) (by cases co <;> exact Nat.le_of_ble_eq_true rfl) (fun g hg hr => ?_)
  rw [show lv_args 0 [.ref (B.1 + k), .null, va_rf co] = [(0, .ref (B.1 + k)), (1, .null), (2, va_rf co)] by cases co <;> rfl]
  refine y_aload_n hg dJ2_init_0 rfl ?_
  refine y_aloadN hg dJ2_init_1 rfl ?_
  refine y_aloadq hg co dJ2_init_2 rfl ?_
  refine y_callI (ret := none) (As := [.null, va_rf co]) (rest := []) hg (cT2_5 htr hk hbk co) iJ1_init_2 q626 rfl rfl (by decide) (Nat.le_refl _) (Nat.le_refl _) (by decide) dJ2_init_3 (fun v σ1 h => ?_)
  obtain ⟨rfl, h⟩ := h
  exact y_vret hg hr ⟨rfl, h⟩ dJ2_init_6 (Nat.le_refl _) (Nat.le_refl _)
theorem cM2_5 (htr : l.stackTraces = false) (hk : KO σ k 5) (hbk : σ.2.2.2.2 k 5 = none) (p : Int32) (co : Option Nat) : MT l B 7 0 0 yX4_init cX4_init 3 none [.ref (B.1 + k), .int p, va_rf co] σ (pV fun σ' => MfP k p co σ σ') := by
  refine MT.of (by decide) (by cases co <;> exact Nat.le_of_ble_eq_true rfl) (fun g hg hr => ?_)
  rw [show lv_args 0 [.ref (B.1 + k), .int p, va_rf co] = [(0, .ref (B.1 + k)), (1, .int p), (2, va_rf co)] by cases co <;> rfl]
  refine y_aload_n hg dX4_init_0 rfl ?_
  refine y_null hg dX4_init_1 ?_
  refine y_aloadq hg co dX4_init_2 rfl ?_
  refine y_callI (ret := none) (As := [.null, va_rf co]) (rest := []) hg (cE2_5 htr hk hbk co) iJ2_init q623 rfl rfl (by decide) (Nat.le_refl _) (Nat.le_refl _) (by decide) dX4_init_3 (fun v σ1 h => ?_)
  obtain ⟨rfl, ⟨h1, h2, h3, h4, h5⟩, h6⟩ := h
  have hk1 : KO σ1 k 5 := ⟨by rw [h1]; exact hk.1, by rw [h2]; exact hk.2⟩
  refine y_aload_n hg dX4_init_6 rfl ?_
  refine y_iload_n hg dX4_init_7 rfl ?_
  refine y_putiF (j := 0) hg cf5 hk1 (by decide) rfl rfl hr rfl q629 dX4_init_8 ?_
  refine y_vret hg hr ⟨rfl, ?_⟩ dX4_init_11 (Nat.le_refl _) (Nat.le_refl _)
  exact ⟨⟨h1, h2, by show up2 σ1.2.2.1 k 0 p = _; rw [h3], h4, h5⟩, h6⟩
theorem cUnlet (htr : l.stackTraces = false) (hk : KO σ k 5) (hbk : σ.2.2.2.2 k 5 = none) (p : Int32) : MT l B 8 0 0 yX6_init cX6_init 2 none [.ref (B.1 + k), .int p] σ (pV fun σ' => MfP k p none σ σ') := by
  refine MT.of (by decide) (Nat.le_of_ble_eq_true rfl) (fun g hg hr => ?_)
  refine y_aload_n hg dX6_init_0 rfl ?_
  refine y_iload_n hg dX6_init_1 rfl ?_
  refine y_null hg dX6_init_2 ?_
  refine y_callI (ret := none) (As := [.int p, va_rf none]) (rest := []) hg (cM2_5 htr hk hbk p none) iX4_init q656 rfl rfl (by decide) (Nat.le_refl _) (Nat.le_refl _) (by decide) dX6_init_3 (fun v σ1 h => ?_)
  obtain ⟨rfl, h⟩ := h
  exact y_vret hg hr ⟨rfl, h⟩ dX6_init_6 (Nat.le_refl _) (Nat.le_refl _)
theorem cT0 (htr : l.stackTraces = false) (hk : KO σ k 6) (hbk : σ.2.2.2.2 k 4 = none) : MT l B 5 0 0 yJ1_init cJ1_init 1 none [.ref (B.1 + k)] σ (pV fun σ' => OnlyR k σ σ') := by
  refine MT.ofF (by decide +kernel) (Nat.le_of_ble_eq_true rfl) (fun g hg hr => ?_)
  refine y_aload_n hg dJ1_init_0 rfl ?_
  refine y_objInit hg q597 dJ1_init_1 (by decide) (by decide) ?_
  refine y_aload_n hg dJ1_init_4 rfl ?_
  refine y_aload_n hg dJ1_init_5 rfl ?_
  refine y_putr (j := 0) hg cf6 hk (by decide) rfl rfl q632 dJ1_init_6 ?_
  refine y_aload_n hg dJ1_init_9 rfl ?_
  refine y_gets1 hg q598 dJ1_init_10 (fun u hZ => ?_)
  refine y_putq (j := 1) hg cf6 hk (by decide) rfl rfl q633 dJ1_init_13 ?_
  refine y_aload_n hg dJ1_init_16 rfl ?_
  refine y_gets2 hg q600 dJ1_init_17 (fun u2 => ?_)
  refine y_putq (j := 2) hg cf6 hk (by decide) rfl rfl q634 dJ1_init_20 ?_
  refine y_aload_n hg dJ1_init_23 rfl ?_
  refine y_fill (jS := 1) (jB := 4) hg htr cf6 hk (by decide) rfl rfl (by decide) rfl rfl hZ (by simp [setR, up2]) (by simpa [setR, up2] using hbk) q605 q666 dJ1_init_24 (by decide) (by decide) ?_
  refine y_pop hg dJ1_init_27 rfl ?_
  refine y_vret hg hr ⟨rfl, ?_⟩ dJ1_init_28 (Nat.le_refl _) (Nat.le_refl _)
  exact ⟨rfl, rfl, rfl, rfl, fun q hq => by simp [setR, up2_row hq]⟩
theorem cE0 (htr : l.stackTraces = false) (hk : KO σ k 6) (hbk : σ.2.2.2.2 k 4 = none) : MT l B 6 0 0 yJ2_init_2 cJ2_init_2 1 none [.ref (B.1 + k)] σ (pV fun σ' => OnlyR k σ σ') := by
  refine MT.ofF (by decide +kernel) (Nat.le_of_ble_eq_true rfl) (fun g hg hr => ?_)
  refine y_aload_n hg dJ2_init_2_0 rfl ?_
  refine y_callI (ret := none) (As := []) (rest := []) hg (cT0 htr hk hbk) iJ1_init q678 rfl rfl (by decide) (Nat.le_refl _) (Nat.le_refl _) (by decide) dJ2_init_2_1 (fun v σ1 h => ?_)
  obtain ⟨rfl, h⟩ := h
  exact y_vret hg hr ⟨rfl, h⟩ dJ2_init_2_4 (Nat.le_refl _) (Nat.le_refl _)
theorem cAmiss (htr : l.stackTraces = false) (hk : KO σ k 6) (hbk : σ.2.2.2.2 k 4 = none) (x n : Int32) : MT l B 7 0 0 yX7_init cX7_init 3 none [.ref (B.1 + k), .int x, .int n] σ (pV fun σ' => AmP k x n σ σ') := by
  refine MT.of (by decide) (Nat.le_of_ble_eq_true rfl) (fun g hg hr => ?_)
  refine y_aload_n hg dX7_init_0 rfl ?_
  refine y_callI (ret := none) (As := []) (rest := []) hg (cE0 htr hk hbk) iJ2_init_2 q675 rfl rfl (by decide) (Nat.le_refl _) (Nat.le_refl _) (by decide) dX7_init_1 (fun v σ1 h => ?_)
  obtain ⟨rfl, h1, h2, h3, h4, h5⟩ := h
  have hk1 : KO σ1 k 6 := ⟨by rw [h1]; exact hk.1, by rw [h2]; exact hk.2⟩
  refine y_aload_n hg dX7_init_4 rfl ?_
  refine y_iload_n hg dX7_init_5 rfl ?_
  refine y_putiF (j := 6) hg cf6 hk1 (by decide) rfl rfl hr rfl q679 dX7_init_6 ?_
  refine y_aload_n hg dX7_init_9 rfl ?_
  refine y_iload_n hg dX7_init_10 rfl ?_
  refine y_putiF (j := 7) hg cf6 hk1 (by decide) rfl rfl hr rfl q681 dX7_init_11 ?_
  refine y_vret hg hr ⟨rfl, ?_⟩ dX7_init_14 (Nat.le_refl _) (Nat.le_refl _)
  exact ⟨h1, h2, by show up2 (up2 σ1.2.2.1 k 6 x) k 7 n = _; rw [h3], h4, h5⟩
theorem cT2_7 (htr : l.stackTraces = false) (hk : KO σ k 7) (hbk : σ.2.2.2.2 k 5 = none) (co : Option Nat) : MT l B 5 0 0 yJ1_init_2 cJ1_init_2 3 none [.ref (B.1 + k), .null, va_rf co] σ (pV fun σ' => OnlyR k σ σ' ∧ σ'.2.2.2.2 k 1 = co) := by
  refine MT.ofF (by decide +kernel) (by cases co <;> exact Nat.le_of_ble_eq_true rfl) (fun g hg hr => ?_)
  rw [show lv_args 0 [.ref (B.1 + k), .null, va_rf co] = [(0, .ref (B.1 + k)), (1, .null), (2, va_rf co)] by cases co <;> rfl]
  refine y_aload_n hg dJ1_init_2_0 rfl ?_
  refine y_objInit hg q597 dJ1_init_2_1 (by decide) (by decide) ?_
  refine y_aload_n hg dJ1_init_2_4 rfl ?_
  refine y_aload_n hg dJ1_init_2_5 rfl ?_
  refine y_putr (j := 1) hg cf7 hk (by decide) rfl rfl q632 dJ1_init_2_6 ?_
  refine y_aload_n hg dJ1_init_2_9 rfl ?_
  refine y_gets1 hg q598 dJ1_init_2_10 (fun u hZ => ?_)
  refine y_putq (j := 2) hg cf7 hk (by decide) rfl rfl q633 dJ1_init_2_13 ?_
  refine y_aload_n hg dJ1_init_2_16 rfl ?_
  refine y_gets2 hg q600 dJ1_init_2_17 (fun u2 => ?_)
  refine y_putq (j := 3) hg cf7 hk (by decide) rfl rfl q634 dJ1_init_2_20 ?_
  refine y_aload_n hg dJ1_init_2_23 rfl ?_
  refine y_fill (jS := 2) (jB := 5) hg htr cf7 hk (by decide) rfl rfl (by decide) rfl rfl hZ (by simp [setR, up2]) (by simpa [setR, up2] using hbk) q607 q692 dJ1_init_2_24 (by decide) (by decide) ?_
  refine y_pop hg dJ1_init_2_27 rfl ?_
  refine y_aload_n hg dJ1_init_2_28 rfl ?_
  refine y_aloadN hg dJ1_init_2_29 rfl ?_
  refine y_putq (o := none) (j := 4) hg cf7 hk (by decide) rfl rfl q631 dJ1_init_2_30 ?_
  refine y_aload_n hg dJ1_init_2_33 rfl ?_
  refine y_aloadq hg co dJ1_init_2_34 rfl ?_
  refine y_putq (j := 1) hg cf7 hk (by decide) rfl rfl q632 dJ1_init_2_35 ?_
  refine y_vret hg hr ⟨rfl, ?_⟩ dJ1_init_2_38 (Nat.le_refl _) (Nat.le_refl _)
  exact ⟨⟨rfl, rfl, rfl, rfl, fun q hq => by simp [setR, up2_row hq]⟩, by simp [setR, up2]⟩
theorem cE2_7 (htr : l.stackTraces = false) (hk : KO σ k 7) (hbk : σ.2.2.2.2 k 5 = none) (co : Option Nat) : MT l B 6 0 0 yJ2_init cJ2_init 3 none [.ref (B.1 + k), .null, va_rf co] σ (pV fun σ' => OnlyR k σ σ' ∧ σ'.2.2.2.2 k 1 = co) := by
  refine MT.ofF (by decide +kernel) (by cases co <;> exact Nat.le_of_ble_eq_true rfl) (fun g hg hr => ?_)
  rw [show lv_args 0 [.ref (B.1 + k), .null, va_rf co] = [(0, .ref (B.1 + k)), (1, .null), (2, va_rf co)] by cases co <;> rfl]
  refine y_aload_n hg dJ2_init_0 rfl ?_
  refine y_aloadN hg dJ2_init_1 rfl ?_
  refine y_aloadq hg co dJ2_init_2 rfl ?_
  refine y_callI (ret := none) (As := [.null, va_rf co]) (rest := []) hg (cT2_7 htr hk hbk co) iJ1_init_2 q626 rfl rfl (by decide) (Nat.le_refl _) (Nat.le_refl _) (by decide) dJ2_init_3 (fun v σ1 h => ?_)
  obtain ⟨rfl, h⟩ := h
  exact y_vret hg hr ⟨rfl, h⟩ dJ2_init_6 (Nat.le_refl _) (Nat.le_refl _)
theorem cM2_7 (htr : l.stackTraces = false) (hk : KO σ k 7) (hbk : σ.2.2.2.2 k 5 = none) (p : Int32) (co : Option Nat) : MT l B 7 0 0 yX4_init cX4_init 3 none [.ref (B.1 + k), .int p, va_rf co] σ (pV fun σ' => MfP k p co σ σ') := by
  refine MT.of (by decide) (by cases co <;> exact Nat.le_of_ble_eq_true rfl) (fun g hg hr => ?_)
  rw [show lv_args 0 [.ref (B.1 + k), .int p, va_rf co] = [(0, .ref (B.1 + k)), (1, .int p), (2, va_rf co)] by cases co <;> rfl]
  refine y_aload_n hg dX4_init_0 rfl ?_
  refine y_null hg dX4_init_1 ?_
  refine y_aloadq hg co dX4_init_2 rfl ?_
  refine y_callI (ret := none) (As := [.null, va_rf co]) (rest := []) hg (cE2_7 htr hk hbk co) iJ2_init q623 rfl rfl (by decide) (Nat.le_refl _) (Nat.le_refl _) (by decide) dX4_init_3 (fun v σ1 h => ?_)
  obtain ⟨rfl, ⟨h1, h2, h3, h4, h5⟩, h6⟩ := h
  have hk1 : KO σ1 k 7 := ⟨by rw [h1]; exact hk.1, by rw [h2]; exact hk.2⟩
  refine y_aload_n hg dX4_init_6 rfl ?_
  refine y_iload_n hg dX4_init_7 rfl ?_
  refine y_putiF (j := 0) hg cf7 hk1 (by decide) rfl rfl hr rfl q629 dX4_init_8 ?_
  refine y_vret hg hr ⟨rfl, ?_⟩ dX4_init_11 (Nat.le_refl _) (Nat.le_refl _)
  exact ⟨⟨h1, h2, by show up2 σ1.2.2.1 k 0 p = _; rw [h3], h4, h5⟩, h6⟩
theorem cShort (htr : l.stackTraces = false) (hk : KO σ k 7) (hbk : σ.2.2.2.2 k 5 = none) (p : Int32) (q : Nat) : MT l B 8 0 0 yX8_init cX8_init 3 none [.ref (B.1 + k), .int p, .ref q] σ (pV fun σ' => MfP k p (some q) σ σ') := by
  refine MT.of (by decide) (Nat.le_of_ble_eq_true rfl) (fun g hg hr => ?_)
  refine y_aload_n hg dX8_init_0 rfl ?_
  refine y_iload_n hg dX8_init_1 rfl ?_
  refine y_aload_n hg dX8_init_2 rfl ?_
  refine y_callI (ret := none) (As := [.int p, va_rf (some q)]) (rest := []) hg (cM2_7 htr hk hbk p (some q)) iX4_init q701 rfl rfl (by decide) (Nat.le_refl _) (Nat.le_refl _) (by decide) dX8_init_3 (fun v σ1 h => ?_)
  obtain ⟨rfl, h⟩ := h
  exact y_vret hg hr ⟨rfl, h⟩ dX8_init_6 (Nat.le_refl _) (Nat.le_refl _)
theorem cT2_8 (htr : l.stackTraces = false) (hk : KO σ k 8) (hbk : σ.2.2.2.2 k 5 = none) (co : Option Nat) : MT l B 5 0 0 yJ1_init_2 cJ1_init_2 3 none [.ref (B.1 + k), .null, va_rf co] σ (pV fun σ' => OnlyR k σ σ' ∧ σ'.2.2.2.2 k 1 = co) := by
  refine MT.ofF (by decide +kernel) (by cases co <;> exact Nat.le_of_ble_eq_true rfl) (fun g hg hr => ?_)
  rw [show lv_args 0 [.ref (B.1 + k), .null, va_rf co] = [(0, .ref (B.1 + k)), (1, .null), (2, va_rf co)] by cases co <;> rfl]
  refine y_aload_n hg dJ1_init_2_0 rfl ?_
  refine y_objInit hg q597 dJ1_init_2_1 (by decide) (by decide) ?_
  refine y_aload_n hg dJ1_init_2_4 rfl ?_
  refine y_aload_n hg dJ1_init_2_5 rfl ?_
  refine y_putr (j := 1) hg cf8 hk (by decide) rfl rfl q632 dJ1_init_2_6 ?_
  refine y_aload_n hg dJ1_init_2_9 rfl ?_
  refine y_gets1 hg q598 dJ1_init_2_10 (fun u hZ => ?_)
  refine y_putq (j := 2) hg cf8 hk (by decide) rfl rfl q633 dJ1_init_2_13 ?_
  refine y_aload_n hg dJ1_init_2_16 rfl ?_
  refine y_gets2 hg q600 dJ1_init_2_17 (fun u2 => ?_)
  refine y_putq (j := 3) hg cf8 hk (by decide) rfl rfl q634 dJ1_init_2_20 ?_
  refine y_aload_n hg dJ1_init_2_23 rfl ?_
  refine y_fill (jS := 2) (jB := 5) hg htr cf8 hk (by decide) rfl rfl (by decide) rfl rfl hZ (by simp [setR, up2]) (by simpa [setR, up2] using hbk) q610 q707 dJ1_init_2_24 (by decide) (by decide) ?_
  refine y_pop hg dJ1_init_2_27 rfl ?_
  refine y_aload_n hg dJ1_init_2_28 rfl ?_
  refine y_aloadN hg dJ1_init_2_29 rfl ?_
  refine y_putq (o := none) (j := 4) hg cf8 hk (by decide) rfl rfl q631 dJ1_init_2_30 ?_
  refine y_aload_n hg dJ1_init_2_33 rfl ?_
  refine y_aloadq hg co dJ1_init_2_34 rfl ?_
  refine y_putq (j := 1) hg cf8 hk (by decide) rfl rfl q632 dJ1_init_2_35 ?_
  refine y_vret hg hr ⟨rfl, ?_⟩ dJ1_init_2_38 (Nat.le_refl _) (Nat.le_refl _)
  exact ⟨⟨rfl, rfl, rfl, rfl, fun q hq => by simp [setR, up2_row hq]⟩, by simp [setR, up2]⟩
theorem cE2_8 (htr : l.stackTraces = false) (hk : KO σ k 8) (hbk : σ.2.2.2.2 k 5 = none) (co : Option Nat) : MT l B 6 0 0 yJ2_init cJ2_init 3 none [.ref (B.1 + k), .null, va_rf co] σ (pV fun σ' => OnlyR k σ σ' ∧ σ'.2.2.2.2 k 1 = co) := by
  refine MT.ofF (by decide +kernel) (by cases co <;> exact Nat.le_of_ble_eq_true rfl) (fun g hg hr => ?_)
  rw [show lv_args 0 [.ref (B.1 + k), .null, va_rf co] = [(0, .ref (B.1 + k)), (1, .null), (2, va_rf co)] by cases co <;> rfl]
  refine y_aload_n hg dJ2_init_0 rfl ?_
  refine y_aloadN hg dJ2_init_1 rfl ?_
  refine y_aloadq hg co dJ2_init_2 rfl ?_
  refine y_callI (ret := none) (As := [.null, va_rf co]) (rest := []) hg (cT2_8 htr hk hbk co) iJ1_init_2 q626 rfl rfl (by decide) (Nat.le_refl _) (Nat.le_refl _) (by decide) dJ2_init_3 (fun v σ1 h => ?_)
  obtain ⟨rfl, h⟩ := h
  exact y_vret hg hr ⟨rfl, h⟩ dJ2_init_6 (Nat.le_refl _) (Nat.le_refl _)
theorem cM2_8 (htr : l.stackTraces = false) (hk : KO σ k 8) (hbk : σ.2.2.2.2 k 5 = none) (p : Int32) (co : Option Nat) : MT l B 7 0 0 yX4_init cX4_init 3 none [.ref (B.1 + k), .int p, va_rf co] σ (pV fun σ' => MfP k p co σ σ') := by
  refine MT.of (by decide) (by cases co <;> exact Nat.le_of_ble_eq_true rfl) (fun g hg hr => ?_)
  rw [show lv_args 0 [.ref (B.1 + k), .int p, va_rf co] = [(0, .ref (B.1 + k)), (1, .int p), (2, va_rf co)] by cases co <;> rfl]
  refine y_aload_n hg dX4_init_0 rfl ?_
  refine y_null hg dX4_init_1 ?_
  refine y_aloadq hg co dX4_init_2 rfl ?_
  refine y_callI (ret := none) (As := [.null, va_rf co]) (rest := []) hg (cE2_8 htr hk hbk co) iJ2_init q623 rfl rfl (by decide) (Nat.le_refl _) (Nat.le_refl _) (by decide) dX4_init_3 (fun v σ1 h => ?_)
  obtain ⟨rfl, ⟨h1, h2, h3, h4, h5⟩, h6⟩ := h
  have hk1 : KO σ1 k 8 := ⟨by rw [h1]; exact hk.1, by rw [h2]; exact hk.2⟩
  refine y_aload_n hg dX4_init_6 rfl ?_
  refine y_iload_n hg dX4_init_7 rfl ?_
  refine y_putiF (j := 0) hg cf8 hk1 (by decide) rfl rfl hr rfl q629 dX4_init_8 ?_
  refine y_vret hg hr ⟨rfl, ?_⟩ dX4_init_11 (Nat.le_refl _) (Nat.le_refl _)
  exact ⟨⟨h1, h2, by show up2 σ1.2.2.1 k 0 p = _; rw [h3], h4, h5⟩, h6⟩
theorem cWordless (htr : l.stackTraces = false) (hk : KO σ k 8) (hbk : σ.2.2.2.2 k 5 = none) : MT l B 8 0 0 yX9_init cX9_init 1 none [.ref (B.1 + k)] σ (pV fun σ' => MfP k (nI 0) none σ σ') := by
  refine MT.of (by decide) (Nat.le_of_ble_eq_true rfl) (fun g hg hr => ?_)
  refine y_aload_n hg dX9_init_0 rfl ?_
  refine y_iconst (v := nI 0) hg dX9_init_1 rfl ?_
  refine y_null hg dX9_init_2 ?_
  refine y_callI (ret := none) (As := [.int (nI 0), va_rf none]) (rest := []) hg (cM2_8 htr hk hbk (nI 0) none) iX4_init q716 rfl rfl (by decide) (Nat.le_refl _) (Nat.le_refl _) (by decide) dX9_init_3 (fun v σ1 h => ?_)
  obtain ⟨rfl, h⟩ := h
  exact y_vret hg hr ⟨rfl, h⟩ dX9_init_6 (Nat.le_refl _) (Nat.le_refl _)
theorem cT2_9 (htr : l.stackTraces = false) (hk : KO σ k 9) (hbk : σ.2.2.2.2 k 5 = none) (co : Option Nat) : MT l B 5 0 0 yJ1_init_2 cJ1_init_2 3 none [.ref (B.1 + k), .null, va_rf co] σ (pV fun σ' => OnlyR k σ σ' ∧ σ'.2.2.2.2 k 1 = co) := by
  refine MT.ofF (by decide +kernel) (by cases co <;> exact Nat.le_of_ble_eq_true rfl) (fun g hg hr => ?_)
  rw [show lv_args 0 [.ref (B.1 + k), .null, va_rf co] = [(0, .ref (B.1 + k)), (1, .null), (2, va_rf co)] by cases co <;> rfl]
  refine y_aload_n hg dJ1_init_2_0 rfl ?_
  refine y_objInit hg q597 dJ1_init_2_1 (by decide) (by decide) ?_
  refine y_aload_n hg dJ1_init_2_4 rfl ?_
  refine y_aload_n hg dJ1_init_2_5 rfl ?_
  refine y_putr (j := 1) hg cf9 hk (by decide) rfl rfl q632 dJ1_init_2_6 ?_
  refine y_aload_n hg dJ1_init_2_9 rfl ?_
  refine y_gets1 hg q598 dJ1_init_2_10 (fun u hZ => ?_)
  refine y_putq (j := 2) hg cf9 hk (by decide) rfl rfl q633 dJ1_init_2_13 ?_
  refine y_aload_n hg dJ1_init_2_16 rfl ?_
  refine y_gets2 hg q600 dJ1_init_2_17 (fun u2 => ?_)
  refine y_putq (j := 3) hg cf9 hk (by decide) rfl rfl q634 dJ1_init_2_20 ?_
  refine y_aload_n hg dJ1_init_2_23 rfl ?_
  refine y_fill (jS := 2) (jB := 5) hg htr cf9 hk (by decide) rfl rfl (by decide) rfl rfl hZ (by simp [setR, up2]) (by simpa [setR, up2] using hbk) q606 q727 dJ1_init_2_24 (by decide) (by decide) ?_
  refine y_pop hg dJ1_init_2_27 rfl ?_
  refine y_aload_n hg dJ1_init_2_28 rfl ?_
  refine y_aloadN hg dJ1_init_2_29 rfl ?_
  refine y_putq (o := none) (j := 4) hg cf9 hk (by decide) rfl rfl q631 dJ1_init_2_30 ?_
  refine y_aload_n hg dJ1_init_2_33 rfl ?_
  refine y_aloadq hg co dJ1_init_2_34 rfl ?_
  refine y_putq (j := 1) hg cf9 hk (by decide) rfl rfl q632 dJ1_init_2_35 ?_
  refine y_vret hg hr ⟨rfl, ?_⟩ dJ1_init_2_38 (Nat.le_refl _) (Nat.le_refl _)
  exact ⟨⟨rfl, rfl, rfl, rfl, fun q hq => by simp [setR, up2_row hq]⟩, by simp [setR, up2]⟩
theorem cE2_9 (htr : l.stackTraces = false) (hk : KO σ k 9) (hbk : σ.2.2.2.2 k 5 = none) (co : Option Nat) : MT l B 6 0 0 yJ2_init cJ2_init 3 none [.ref (B.1 + k), .null, va_rf co] σ (pV fun σ' => OnlyR k σ σ' ∧ σ'.2.2.2.2 k 1 = co) := by
  refine MT.ofF (by decide +kernel) (by cases co <;> exact Nat.le_of_ble_eq_true rfl) (fun g hg hr => ?_)
  rw [show lv_args 0 [.ref (B.1 + k), .null, va_rf co] = [(0, .ref (B.1 + k)), (1, .null), (2, va_rf co)] by cases co <;> rfl]
  refine y_aload_n hg dJ2_init_0 rfl ?_
  refine y_aloadN hg dJ2_init_1 rfl ?_
  refine y_aloadq hg co dJ2_init_2 rfl ?_
  refine y_callI (ret := none) (As := [.null, va_rf co]) (rest := []) hg (cT2_9 htr hk hbk co) iJ1_init_2 q626 rfl rfl (by decide) (Nat.le_refl _) (Nat.le_refl _) (by decide) dJ2_init_3 (fun v σ1 h => ?_)
  obtain ⟨rfl, h⟩ := h
  exact y_vret hg hr ⟨rfl, h⟩ dJ2_init_6 (Nat.le_refl _) (Nat.le_refl _)
theorem cM2_9 (htr : l.stackTraces = false) (hk : KO σ k 9) (hbk : σ.2.2.2.2 k 5 = none) (p : Int32) (co : Option Nat) : MT l B 7 0 0 yX4_init cX4_init 3 none [.ref (B.1 + k), .int p, va_rf co] σ (pV fun σ' => MfP k p co σ σ') := by
  refine MT.of (by decide) (by cases co <;> exact Nat.le_of_ble_eq_true rfl) (fun g hg hr => ?_)
  rw [show lv_args 0 [.ref (B.1 + k), .int p, va_rf co] = [(0, .ref (B.1 + k)), (1, .int p), (2, va_rf co)] by cases co <;> rfl]
  refine y_aload_n hg dX4_init_0 rfl ?_
  refine y_null hg dX4_init_1 ?_
  refine y_aloadq hg co dX4_init_2 rfl ?_
  refine y_callI (ret := none) (As := [.null, va_rf co]) (rest := []) hg (cE2_9 htr hk hbk co) iJ2_init q623 rfl rfl (by decide) (Nat.le_refl _) (Nat.le_refl _) (by decide) dX4_init_3 (fun v σ1 h => ?_)
  obtain ⟨rfl, ⟨h1, h2, h3, h4, h5⟩, h6⟩ := h
  have hk1 : KO σ1 k 9 := ⟨by rw [h1]; exact hk.1, by rw [h2]; exact hk.2⟩
  refine y_aload_n hg dX4_init_6 rfl ?_
  refine y_iload_n hg dX4_init_7 rfl ?_
  refine y_putiF (j := 0) hg cf9 hk1 (by decide) rfl rfl hr rfl q629 dX4_init_8 ?_
  refine y_vret hg hr ⟨rfl, ?_⟩ dX4_init_11 (Nat.le_refl _) (Nat.le_refl _)
  exact ⟨⟨h1, h2, by show up2 σ1.2.2.1 k 0 p = _; rw [h3], h4, h5⟩, h6⟩
theorem cOver (htr : l.stackTraces = false) (hk : KO σ k 9) (hbk : σ.2.2.2.2 k 5 = none) (p : Int32) (q : Nat) : MT l B 8 0 0 yX10_init cX10_init 3 none [.ref (B.1 + k), .int p, .ref q] σ (pV fun σ' => MfP k p (some q) σ σ') := by
  refine MT.of (by decide) (Nat.le_of_ble_eq_true rfl) (fun g hg hr => ?_)
  refine y_aload_n hg dX10_init_0 rfl ?_
  refine y_iload_n hg dX10_init_1 rfl ?_
  refine y_aload_n hg dX10_init_2 rfl ?_
  refine y_callI (ret := none) (As := [.int p, va_rf (some q)]) (rest := []) hg (cM2_9 htr hk hbk p (some q)) iX4_init q736 rfl rfl (by decide) (Nat.le_refl _) (Nat.le_refl _) (by decide) dX10_init_3 (fun v σ1 h => ?_)
  obtain ⟨rfl, h⟩ := h
  exact y_vret hg hr ⟨rfl, h⟩ dX10_init_6 (Nat.le_refl _) (Nat.le_refl _)
theorem cT2_10 (htr : l.stackTraces = false) (hk : KO σ k 10) (hbk : σ.2.2.2.2 k 5 = none) (co : Option Nat) : MT l B 5 0 0 yJ1_init_2 cJ1_init_2 3 none [.ref (B.1 + k), .null, va_rf co] σ (pV fun σ' => OnlyR k σ σ' ∧ σ'.2.2.2.2 k 1 = co) := by
  refine MT.ofF (by decide +kernel) (by cases co <;> exact Nat.le_of_ble_eq_true rfl) (fun g hg hr => ?_)
  rw [show lv_args 0 [.ref (B.1 + k), .null, va_rf co] = [(0, .ref (B.1 + k)), (1, .null), (2, va_rf co)] by cases co <;> rfl]
  refine y_aload_n hg dJ1_init_2_0 rfl ?_
  refine y_objInit hg q597 dJ1_init_2_1 (by decide) (by decide) ?_
  refine y_aload_n hg dJ1_init_2_4 rfl ?_
  refine y_aload_n hg dJ1_init_2_5 rfl ?_
  refine y_putr (j := 1) hg cf10 hk (by decide) rfl rfl q632 dJ1_init_2_6 ?_
  refine y_aload_n hg dJ1_init_2_9 rfl ?_
  refine y_gets1 hg q598 dJ1_init_2_10 (fun u hZ => ?_)
  refine y_putq (j := 2) hg cf10 hk (by decide) rfl rfl q633 dJ1_init_2_13 ?_
  refine y_aload_n hg dJ1_init_2_16 rfl ?_
  refine y_gets2 hg q600 dJ1_init_2_17 (fun u2 => ?_)
  refine y_putq (j := 3) hg cf10 hk (by decide) rfl rfl q634 dJ1_init_2_20 ?_
  refine y_aload_n hg dJ1_init_2_23 rfl ?_
  refine y_fill (jS := 2) (jB := 5) hg htr cf10 hk (by decide) rfl rfl (by decide) rfl rfl hZ (by simp [setR, up2]) (by simpa [setR, up2] using hbk) q608 q743 dJ1_init_2_24 (by decide) (by decide) ?_
  refine y_pop hg dJ1_init_2_27 rfl ?_
  refine y_aload_n hg dJ1_init_2_28 rfl ?_
  refine y_aloadN hg dJ1_init_2_29 rfl ?_
  refine y_putq (o := none) (j := 4) hg cf10 hk (by decide) rfl rfl q631 dJ1_init_2_30 ?_
  refine y_aload_n hg dJ1_init_2_33 rfl ?_
  refine y_aloadq hg co dJ1_init_2_34 rfl ?_
  refine y_putq (j := 1) hg cf10 hk (by decide) rfl rfl q632 dJ1_init_2_35 ?_
  refine y_vret hg hr ⟨rfl, ?_⟩ dJ1_init_2_38 (Nat.le_refl _) (Nat.le_refl _)
  exact ⟨⟨rfl, rfl, rfl, rfl, fun q hq => by simp [setR, up2_row hq]⟩, by simp [setR, up2]⟩
theorem cE2_10 (htr : l.stackTraces = false) (hk : KO σ k 10) (hbk : σ.2.2.2.2 k 5 = none) (co : Option Nat) : MT l B 6 0 0 yJ2_init cJ2_init 3 none [.ref (B.1 + k), .null, va_rf co] σ (pV fun σ' => OnlyR k σ σ' ∧ σ'.2.2.2.2 k 1 = co) := by
  refine MT.ofF (by decide +kernel) (by cases co <;> exact Nat.le_of_ble_eq_true rfl) (fun g hg hr => ?_)
  rw [show lv_args 0 [.ref (B.1 + k), .null, va_rf co] = [(0, .ref (B.1 + k)), (1, .null), (2, va_rf co)] by cases co <;> rfl]
  refine y_aload_n hg dJ2_init_0 rfl ?_
  refine y_aloadN hg dJ2_init_1 rfl ?_
  refine y_aloadq hg co dJ2_init_2 rfl ?_
  refine y_callI (ret := none) (As := [.null, va_rf co]) (rest := []) hg (cT2_10 htr hk hbk co) iJ1_init_2 q626 rfl rfl (by decide) (Nat.le_refl _) (Nat.le_refl _) (by decide) dJ2_init_3 (fun v σ1 h => ?_)
  obtain ⟨rfl, h⟩ := h
  exact y_vret hg hr ⟨rfl, h⟩ dJ2_init_6 (Nat.le_refl _) (Nat.le_refl _)
theorem cM2_10 (htr : l.stackTraces = false) (hk : KO σ k 10) (hbk : σ.2.2.2.2 k 5 = none) (p : Int32) (co : Option Nat) : MT l B 7 0 0 yX4_init cX4_init 3 none [.ref (B.1 + k), .int p, va_rf co] σ (pV fun σ' => MfP k p co σ σ') := by
  refine MT.of (by decide) (by cases co <;> exact Nat.le_of_ble_eq_true rfl) (fun g hg hr => ?_)
  rw [show lv_args 0 [.ref (B.1 + k), .int p, va_rf co] = [(0, .ref (B.1 + k)), (1, .int p), (2, va_rf co)] by cases co <;> rfl]
  refine y_aload_n hg dX4_init_0 rfl ?_
  refine y_null hg dX4_init_1 ?_
  refine y_aloadq hg co dX4_init_2 rfl ?_
  refine y_callI (ret := none) (As := [.null, va_rf co]) (rest := []) hg (cE2_10 htr hk hbk co) iJ2_init q623 rfl rfl (by decide) (Nat.le_refl _) (Nat.le_refl _) (by decide) dX4_init_3 (fun v σ1 h => ?_)
  obtain ⟨rfl, ⟨h1, h2, h3, h4, h5⟩, h6⟩ := h
  have hk1 : KO σ1 k 10 := ⟨by rw [h1]; exact hk.1, by rw [h2]; exact hk.2⟩
  refine y_aload_n hg dX4_init_6 rfl ?_
  refine y_iload_n hg dX4_init_7 rfl ?_
  refine y_putiF (j := 0) hg cf10 hk1 (by decide) rfl rfl hr rfl q629 dX4_init_8 ?_
  refine y_vret hg hr ⟨rfl, ?_⟩ dX4_init_11 (Nat.le_refl _) (Nat.le_refl _)
  exact ⟨⟨h1, h2, by show up2 σ1.2.2.1 k 0 p = _; rw [h3], h4, h5⟩, h6⟩
theorem cUnended (htr : l.stackTraces = false) (hk : KO σ k 10) (hbk : σ.2.2.2.2 k 5 = none) (p : Int32) : MT l B 8 0 0 yX11_init cX11_init 2 none [.ref (B.1 + k), .int p] σ (pV fun σ' => MfP k p none σ σ') := by
  refine MT.of (by decide) (Nat.le_of_ble_eq_true rfl) (fun g hg hr => ?_)
  refine y_aload_n hg dX11_init_0 rfl ?_
  refine y_iload_n hg dX11_init_1 rfl ?_
  refine y_null hg dX11_init_2 ?_
  refine y_callI (ret := none) (As := [.int p, va_rf none]) (rest := []) hg (cM2_10 htr hk hbk p none) iX4_init q752 rfl rfl (by decide) (Nat.le_refl _) (Nat.le_refl _) (by decide) dX11_init_3 (fun v σ1 h => ?_)
  obtain ⟨rfl, h⟩ := h
  exact y_vret hg hr ⟨rfl, h⟩ dX11_init_6 (Nat.le_refl _) (Nat.le_refl _)
end ExcCtors
