section Ctor
variable {l : Launch} {B : Bs} {σ : Mem}
theorem KO.nk {k c : Nat} {kd : Nat × Nat} (h : KO σ k c) : KO (newK σ kd) k c := ⟨(up1_n (by have := h.2; omega)).trans h.1, Nat.lt_succ_of_lt h.2⟩
theorem KO.sR {k c q j : Nat} {v : Option Nat} (h : KO σ k c) : KO (setR σ q j v) k c := ⟨h.1, h.2⟩
def iS (B : Bs) (σ : Mem) (k : Nat) : Mem := setR (newK (setR (newK (setR (newK σ (0, 8)) k 0 (some (B.1 + σ.2.1))) (0, 10)) k 2 (some (B.1 + (σ.2.1 + 1)))) (0, 4)) k 5 (some (B.1 + (σ.2.1 + 1 + 1)))
def iW (B : Bs) (σ : Mem) (k : Nat) : Mem := setR (newK (setR (newK σ (0, 6)) k 0 (some (B.1 + σ.2.1))) (0, 8)) k 3 (some (B.1 + (σ.2.1 + 1)))
theorem cS_init {k : Nat} (hk : KO σ k 1) : MT l B 1 3 22 yX1_init cX1_init 1 none [.ref (B.1 + k)] σ (pV fun σ' => σ' = iS B σ k) := by
  refine MT.of (by decide) (Nat.le_of_ble_eq_true rfl) (fun g hg hr => ?_)
  refine y_aload_n hg dX1_init_0 rfl ?_
  refine y_objInit hg q117 dX1_init_1 (by decide) (by decide) ?_
  refine y_aload_n hg dX1_init_4 rfl ?_
  refine y_bipush (v := nI 8) hg dX1_init_5 (by decide) ?_
  refine y_newa0 hg 8 rfl (by decide) (by decide) (by decide) dX1_init_7 ?_
  refine y_putrF (j := 0) hg cf1 hk.nk (by decide) rfl rfl hr rfl q118 dX1_init_9 ?_
  refine y_aload_n hg dX1_init_12 rfl ?_
  refine y_bipush (v := nI 10) hg dX1_init_13 (by decide) ?_
  refine y_newa0 hg 10 rfl (by decide) (by decide) (by decide) dX1_init_15 ?_
  refine y_putrF (j := 2) hg cf1 hk.nk.sR.nk (by decide) rfl rfl hr rfl q122 dX1_init_17 ?_
  refine y_aload_n hg dX1_init_20 rfl ?_
  refine y_iconst (v := nI 4) hg dX1_init_21 (by decide) ?_
  refine y_newa0 hg 4 rfl (by decide) (by decide) (by decide) dX1_init_22 ?_
  refine y_putrF (j := 5) hg cf1 hk.nk.sR.nk.sR.nk (by decide) rfl rfl hr rfl q128 dX1_init_24 ?_
  refine y_vret hg hr ⟨rfl, rfl⟩ dX1_init_27 (by decide) (by decide)
theorem cW_init {k : Nat} (hk : KO σ k 2) : MT l B 1 2 14 yX2_init cX2_init 1 none [.ref (B.1 + k)] σ (pV fun σ' => σ' = iW B σ k) := by
  refine MT.of (by decide) (Nat.le_of_ble_eq_true rfl) (fun g hg hr => ?_)
  refine y_aload_n hg dX2_init_0 rfl ?_
  refine y_objInit hg q152 dX2_init_1 (by decide) (by decide) ?_
  refine y_aload_n hg dX2_init_4 rfl ?_
  refine y_bipush (v := nI 6) hg dX2_init_5 (by decide) ?_
  refine y_newa0 hg 6 rfl (by decide) (by decide) (by decide) dX2_init_7 ?_
  refine y_putrF (j := 0) hg cf2 hk.nk (by decide) rfl rfl hr rfl q153 dX2_init_9 ?_
  refine y_aload_n hg dX2_init_12 rfl ?_
  refine y_bipush (v := nI 8) hg dX2_init_13 (by decide) ?_
  refine y_newa0 hg 8 rfl (by decide) (by decide) (by decide) dX2_init_15 ?_
  refine y_putrF (j := 3) hg cf2 hk.nk.sR.nk (by decide) rfl rfl hr rfl q159 dX2_init_17 ?_
  refine y_vret hg hr ⟨rfl, rfl⟩ dX2_init_20 (by decide) (by decide)
/-- cells a .. b-1 hold zeros -/
def Zr (σ : Mem) (a b : Nat) : Prop := ∀ k j, a ≤ k → k < b → σ.2.2.1 k j = 0 ∧ σ.2.2.2.1 k j = 0
def MkS (B : Bs) (σ σ' : Mem) : Prop := Nw σ σ' ∧ σ'.2.1 = σ.2.1 + 4 ∧ IsS B σ' σ.2.1 ∧ Zr σ' σ.2.1 (σ.2.1 + 4)
def MkW (B : Bs) (σ σ' : Mem) : Prop := Nw σ σ' ∧ σ'.2.1 = σ.2.1 + 3 ∧ IsW B σ' σ.2.1 ∧ Zr σ' σ.2.1 (σ.2.1 + 3)
theorem Nw.sR {σ' : Mem} {k j : Nat} {v : Option Nat} (h : Nw σ σ') (hk : σ.2.1 ≤ k) : Nw σ (setR σ' k j v) := ⟨h.1, fun q hq => ⟨(h.2 q hq).1, (h.2 q hq).2.1, (h.2 q hq).2.2.1, (up2_row (by omega)).trans (h.2 q hq).2.2.2⟩⟩
theorem Nw.nk {σ' : Mem} {kd : Nat × Nat} (h : Nw σ σ') : Nw σ (newK σ' kd) := h.tr Nw.new
theorem Nw.rf : Nw σ σ := ⟨Nat.le_refl _, fun q _ => ⟨rfl, rfl, rfl, rfl⟩⟩
theorem Zr.nk {a : Nat} {kd : Nat × Nat} (h : Zr σ a σ.2.1) : Zr (newK σ kd) a (newK σ kd).2.1 := fun k j h1 h2 => by
  have h2 : k < σ.2.1 + 1 := h2
  show up1 σ.2.2.1 σ.2.1 (fun _ => 0) k j = 0 ∧ up1 σ.2.2.2.1 σ.2.1 (fun _ => 0) k j = 0
  by_cases e : k = σ.2.1
  · subst e; rw [up1_s, up1_s]; exact ⟨rfl, rfl⟩
  · rw [up1_n e, up1_n e]; exact h k j h1 (by omega)
theorem Zr.rf : Zr σ σ.2.1 σ.2.1 := fun k j h1 h2 => by omega
theorem mkS : MkS B σ (iS B (newK σ (10 + 1, 0)) σ.2.1) := by
  refine ⟨((((Nw.new.nk.sR (Nat.le_refl _)).nk).sR (Nat.le_refl _)).nk).sR (Nat.le_refl _), rfl, ?_, ?_⟩
  · refine ⟨⟨?_, ?_⟩, ?_, ⟨?_, ?_, by decide⟩, ?_, ⟨?_, ?_, by decide⟩, ?_, ⟨?_, ?_, by decide⟩⟩ <;> simp [iS, newK, setR, up1, up2] <;> (first | omega | (repeat (first | rw [if_neg (by omega)] | (simp [up1, up2]; done) | simp [up1, up2])))
  · exact ((Zr.rf.nk.nk : Zr (newK (newK σ (10 + 1, 0)) (0, 8)) _ _).nk.nk : Zr (newK (newK (newK (newK σ (10 + 1, 0)) (0, 8)) (0, 10)) (0, 4)) _ _)
theorem mkW : MkW B σ (iW B (newK σ (10 + 2, 0)) σ.2.1) := by
  refine ⟨(((Nw.new.nk.sR (Nat.le_refl _)).nk).sR (Nat.le_refl _)), rfl, ?_, ?_⟩
  · refine ⟨⟨?_, ?_⟩, ?_, ⟨?_, ?_, by decide⟩, ?_, ⟨?_, ?_, by decide⟩⟩ <;> simp [iW, newK, setR, up1, up2] <;> (first | omega | (repeat (first | rw [if_neg (by omega)] | (simp [up1, up2]; done) | simp [up1, up2])))
  · exact ((Zr.rf.nk.nk : Zr (newK (newK σ (10 + 2, 0)) (0, 6)) _ _).nk : Zr (newK (newK (newK σ (10 + 2, 0)) (0, 6)) (0, 8)) _ _)
end Ctor
section CtorRows
variable {g : Cx} {l0 : Launch} {B : Bs} {cc : ByteArray} {L d mc ms cu su pc : Nat} {σ : Mem} {lv : List (Nat × Value)} {st : List Value}
theorem y_newS (hg : Gd g l0 B RX0 cc L d mc ms) (h1 : cu + 4 ≤ mc) (h2 : su + 28 ≤ ms) (hdd : 2 ≤ d) (hw : (st.map fun v => v.category).sum ≤ 7) (d1 : decode cc pc = .ok (.new 15, 3)) (d2 : decode cc (pc + 3) = .ok (.dup, 1)) (d3 : decode cc (pc + 4) = .ok (.invokespecial 17, 3)) (kk : ∀ σ', MkS B σ σ' → YY g L σ' (cu + 4) (su + 28) (pc + 7) lv (.ref (B.1 + σ.2.1) :: st)) : YY g L σ cu su pc lv st := by
  refine y_new hg cf1 df1 q112 q113 q86 (by omega) (by omega) d1 ?_
  refine y_dup hg d2 rfl ?_
  refine y_callIN (ret := none) (As := []) (rest := .ref (B.1 + σ.2.1) :: st) hg (cS_init KO.new) iX1_init nm0 rfl rfl (by rw [List.map_cons, List.sum_cons]; show 1 + _ ≤ 8; omega) (by omega) (by omega) (by omega) d3 (fun v σ1 h => ?_)
  obtain ⟨rfl, rfl⟩ := h
  exact kk _ mkS
theorem y_newW (hg : Gd g l0 B RX0 cc L d mc ms) (h1 : cu + 3 ≤ mc) (h2 : su + 18 ≤ ms) (hdd : 2 ≤ d) (hw : (st.map fun v => v.category).sum ≤ 7) (d1 : decode cc pc = .ok (.new 9, 3)) (d2 : decode cc (pc + 3) = .ok (.dup, 1)) (d3 : decode cc (pc + 4) = .ok (.invokespecial 96, 3)) (kk : ∀ σ', MkW B σ σ' → YY g L σ' (cu + 3) (su + 18) (pc + 7) lv (.ref (B.1 + σ.2.1) :: st)) : YY g L σ cu su pc lv st := by
  refine y_new hg cf2 df2 q110 q148 q87 (by omega) (by omega) d1 ?_
  refine y_dup hg d2 rfl ?_
  refine y_callIN (ret := none) (As := []) (rest := .ref (B.1 + σ.2.1) :: st) hg (cW_init KO.new) iX2_init nm1 rfl rfl (by rw [List.map_cons, List.sum_cons]; show 1 + _ ≤ 8; omega) (by omega) (by omega) (by omega) d3 (fun v σ1 h => ?_)
  obtain ⟨rfl, rfl⟩ := h
  exact kk _ mkW
end CtorRows

