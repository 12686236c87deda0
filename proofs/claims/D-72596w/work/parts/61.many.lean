section Many
variable {ll : Launch} {B : Bs} {σ : Mem} {A : Ab} {sd : Int64}
abbrev oXl (B : Bs) (A : Ab) (sd : Int64) (σ : Mem) (v : Int64) : Option Value → Mem → Prop := pL fun r σ' => r = v ∧ RX B A sd σ' ∧ Fr (fun a _ => a < 157) σ σ'
abbrev oMl (B : Bs) (A : Ab) (sd : Int64) (σ : Mem) (v : Int64) : Option Value → Mem → Prop := pL fun r σ' => r = v ∧ RMm B A sd σ' ∧ FrR (fun a _ => 157 ≤ a) σ σ'
/-- the problem of now; without a word -/
def pn (A : Ab) : Pb := pb A (A 11) (uN (A 11))
def pw (A : Ab) (w : Nat) : Pb := pb A (A 11) (uWo (A 11) w)
theorem tot_b {P : Pb} (hP : WFP P) : tot P ≤ 10000000000000 := by
  have := nS_pos P
  unfold tot
  split
  · omega
  · exact cnt_b hP 4 (by omega)
theorem lsub_pos {a b : Nat} (ha : a ≤ 10000000000000) (hb : b ≤ 10000000000000) : (0 < lN a - lN b) ↔ b < a := by
  rcases Nat.lt_or_ge b a with h | h
  · rw [lN_sub (by omega)]
    have := pk_lLT (a := 0) (b := a - b) (by omega) (by omega)
    exact ⟨fun _ => h, fun _ => this.mpr (by omega)⟩
  · constructor
    · intro z
      exfalso
      rw [Int64.lt_iff_toInt_lt, Int64.toInt_sub, pk_lT (by omega), pk_lT (by omega), Int.bmod_eq_of_le (by omega) (by omega)] at z
      have : (0 : Int) < a - b := z
      omega
    · omega
def rMany (A : Ab) (v : Int32) : Int64 := if inL v.toInt64 0 12 = true then if v = 0 then lN (tot (pn A)) else lN (gJ (pn A) v.toNatClampNeg (nS (pn A) - 1) 4) else -2
theorem cX_many (hW : WFA A) (hR : RX B A sd σ) (v : Int32) : MT ll B 24 0 0 yX0_many cX0_many 2 (some .long) [.ref (B.1 + 0), .int v] σ (oXl B A sd σ (rMany A v)) := by
  have hL := hR.1
  have hP : WFP (pn A) := pb_wr hW hW.now
  refine MT.of (by decide) (Nat.le_of_ble_eq_true rfl) (fun g hg hr => ?_)
  refine y_iload_n hg dX0_many_0 rfl ?_
  refine y_i2l hg dX0_many_1 ?_
  refine y_lconst (v := 0) hg dX0_many_2 rfl ?_
  refine y_ldc2 hg dX0_many_3 q510 ?_
  refine y_cSi hg (cX_isIn _ _ _) iX0_isIn q286 rfl rfl (by simp [Value.category]) (Nat.le_refl _) (Nat.le_refl _) (by decide) dX0_many_6 (fun r σ1 hp => ?_)
  obtain ⟨rfl, rfl⟩ := hp
  refine y_if_ne hg 16 dX0_many_9 (by decide) (fun hc => ?_) (fun hc => ?_)
  · have h1 := b2T hc
    obtain ⟨n, hn, rfl⟩ := (inL_iff 12 rfl (by decide)).mp h1
    refine y_aload_n hg dX0_many_16 rfl ?_
    refine y_cVv hg (cX_look0 hW (WX.rf hR)) iX0_look q368 (hL.x) cf0 rfl rfl (by simp [Value.category]) (Nat.le_refl _) (Nat.le_refl _) (by decide) dX0_many_17 (fun σ2 hp => ?_)
    obtain ⟨hX, hC, hC2, hw⟩ := hp
    refine y_iload_n hg dX0_many_20 rfl ?_
    refine y_if_ne hg 31 dX0_many_21 (by decide) (fun hc2 => ?_) (fun hc2 => ?_)
    · have hL := hw.1.1
      obtain ⟨ka, kb, hy⟩ := hw.1.2.1
      have hn1 : 1 ≤ n := by
        rcases Nat.eq_zero_or_pos n with z | z
        · exact absurd (by rw [z]; rfl) hc2
        · exact z
      refine y_aload_n hg dX0_many_31 rfl ?_
      refine y_iload_n hg dX0_many_32 rfl ?_
      refine y_cVl hg (cX_countOf hP hX hy hn1 hn) iX0_countOf q512 (hL.x) cf0 rfl rfl (by simp [Value.category]) (Nat.le_refl _) (Nat.le_refl _) (by decide) dX0_many_33 (fun r σ3 hp => ?_)
      obtain ⟨rfl, hf3, h43, hy3⟩ := hp
      refine y_lret hg hr ⟨_, rfl, ?_⟩ dX0_many_36 (Nat.le_refl _) (Nat.le_refl _)
      have eo : rMany A (nI n) = lN (gJ (pn A) n (nS (pn A) - 1) 4) := by unfold rMany; rw [if_pos h1, if_neg hc2, nI_clamp (by omega)]
      exact ⟨eo.symm, (hw.goL hW hf3 hy3).fin⟩
    · have hL := hw.1.1
      refine y_aload_n hg dX0_many_24 rfl ?_
      refine y_cVl hg (cX_countAll hP hX hC) iX0_countAll q404 (hL.x) cf0 rfl rfl (by simp [Value.category]) (Nat.le_refl _) (Nat.le_refl _) (by decide) dX0_many_25 (fun r σ3 hp => ?_)
      obtain ⟨rfl, hf3, hC3⟩ := hp
      refine y_goto hg 36 dX0_many_28 (by decide) ?_
      refine y_lret hg hr ⟨_, rfl, ?_⟩ dX0_many_36 (Nat.le_refl _) (Nat.le_refl _)
      have eo : rMany A (nI n) = lN (tot (pn A)) := by unfold rMany; rw [if_pos h1, if_pos hc2]
      exact ⟨eo.symm, (hw.goR hW hf3 (fun a j q => by unfold XE; omega)).fin⟩
  · refine y_ldc2 hg dX0_many_12 q511 ?_
    refine y_lret hg hr ⟨_, rfl, ?_⟩ dX0_many_15 (Nat.le_refl _) (Nat.le_refl _)
    have eo : rMany A v = -2 := by unfold rMany; rw [if_neg (b2F hc)]
    exact ⟨eo.symm, hR, Fr.rf⟩
theorem RMm.hu0 {f : Nat → Int32} : ∀ w, w < (pb A f (uN f)).1 → (!hasB ((pb A f (uN f)).2.2.2.1 8) (nI w)) = (pb A f (uN f)).2.2.2.2 w := fun w _ => rfl
theorem cM_many (hW : WFA A) (hR : RMm B A sd σ) (v : Int32) : MT ll B 24 0 0 yX3_many cX3_many 4 (some .long) [.ref (B.1 + 157), .int v] σ (oMl B A sd σ (rMany A v)) := by
  have hM := hR.1
  have hP : WFP (pn A) := pb_wr hW hW.now
  refine MT.of (by decide) (Nat.le_of_ble_eq_true rfl) (fun g hg hr => ?_)
  refine y_iload_n hg dX3_many_0 rfl ?_
  refine y_i2l hg dX3_many_1 ?_
  refine y_lconst (v := 0) hg dX3_many_2 rfl ?_
  refine y_ldc2 hg dX3_many_3 q1236 ?_
  refine y_cSi hg (cM_in _ _ _) iX3_in q1052 rfl rfl (by simp [Value.category]) (Nat.le_refl _) (Nat.le_refl _) (by decide) dX3_many_6 (fun r σ1 hp => ?_)
  obtain ⟨rfl, rfl⟩ := hp
  refine y_if_ne hg 16 dX3_many_9 (by decide) (fun hc => ?_) (fun hc => ?_)
  · have h1 := b2T hc
    obtain ⟨n, hn, rfl⟩ := (inL_iff 12 rfl (by decide)).mp h1
    refine y_aload_n hg dX3_many_16 rfl ?_
    refine y_aload_n hg dX3_many_17 rfl ?_
    refine y_getr (j := 7) hg cf3 (hM.m) (by decide) rfl (hM.r_now) q918 dX3_many_18 ?_
    refine y_cVl hg (cM_manyOf (P := pn A) hM (Or.inl rfl) hP (hR.wm hW) (fun j hj => hR.now hj) RMm.hu0) iX3_manyOf q1142 (hM.m) cf3 rfl rfl (by simp [Value.category]) (Nat.le_refl _) (Nat.le_refl _) (by decide) dX3_many_21 (fun r σ2 hp => ?_)
    obtain ⟨rfl, hX, hC, hf2⟩ := hp
    have hw := (WM.rf hR).go hf2 (fun a j q => by unfold MyP MkP at q; unfold ME; omega)
    refine y_lstore_n hg dX3_many_24 (by decide) (lv1 := [(0, _), (1, _), (2, _)]) rfl ?_
    refine y_iload_n hg dX3_many_25 rfl ?_
    refine y_if_ne hg 33 dX3_many_26 (by decide) (fun hc2 => ?_) (fun hc2 => ?_)
    · have hM := hw.1.1
      have hn1 : 1 ≤ n := by
        rcases Nat.eq_zero_or_pos n with z | z
        · exact absurd (by rw [z]; rfl) hc2
        · exact z
      refine y_aload_n hg dX3_many_33 rfl ?_
      refine y_iload_n hg dX3_many_34 rfl ?_
      refine y_cVl hg (cM_manyBy hP hX hn1 hn) iX3_manyBy q1166 (hM.m) cf3 rfl rfl (by simp [Value.category]) (Nat.le_refl _) (Nat.le_refl _) (by decide) dX3_many_35 (fun r σ3 hp => ?_)
      obtain ⟨rfl, hf3⟩ := hp
      refine y_lret hg hr ⟨_, rfl, ?_⟩ dX3_many_38 (Nat.le_refl _) (Nat.le_refl _)
      have eo : rMany A (nI n) = lN (gJ (pn A) n (nS (pn A) - 1) 4) := by unfold rMany; rw [if_pos h1, if_neg hc2, nI_clamp (by omega)]
      exact ⟨eo.symm, (hw.go hf3 (fun a j q => by unfold MYP at q; unfold ME; omega)).fin⟩
    · refine y_lload_n hg dX3_many_29 rfl ?_
      refine y_goto hg 38 dX3_many_30 (by decide) ?_
      refine y_lret hg hr ⟨_, rfl, ?_⟩ dX3_many_38 (Nat.le_refl _) (Nat.le_refl _)
      have eo : rMany A (nI n) = lN (tot (pn A)) := by unfold rMany; rw [if_pos h1, if_pos hc2]
      exact ⟨eo.symm, hw.fin⟩
  · refine y_ldc2 hg dX3_many_12 q1237 ?_
    refine y_lret hg hr ⟨_, rfl, ?_⟩ dX3_many_15 (Nat.le_refl _) (Nat.le_refl _)
    have eo : rMany A v = -2 := by unfold rMany; rw [if_neg (b2F hc)]
    exact ⟨eo.symm, hR, FrR.rf⟩
/-- other words are allowed -/
theorem PM.al {f : Nat → Int32} {u u' : Nat → Bool} {v : Int32} (h : PM B σ (pb A f u)) (hv : ∀ w, w < nm A → hasB v (nI w) = u' w) : PM B (setI σ 157 32 v) (pb A f u') := by
  obtain ⟨hM, hW, hop, hbs, hwh, hal, hpr, hft⟩ := h
  refine ⟨hM, ⟨(gI_n (by omega)).trans hW.1, fun w hw => ⟨(gI_n (by omega)).trans (hW.2 w hw).1, fun x hx => (gI_n (by omega)).trans ((hW.2 w hw).2 x hx)⟩⟩, fun j hj => (gI_n (by omega)).trans (hop j hj), fun x hx => (gI_n (by omega)).trans (hbs x hx), (gI_n (by omega)).trans hwh, fun w hw => ?_, fun w hw => (gI_n (by omega)).trans (hpr w hw), fun r w hr hw => (gI_n (by omega)).trans (hft r w hr hw)⟩
  rw [gI_s]
  exact hv w hw
/-- how many have a word -/
def rWith (A : Ab) (f : Nat → Int32) (w : Nat) : Int64 := lN (tot (pb A f (uN f))) - lN (tot (pb A f (uWo f w)))
theorem cM_withWord (hW : WFA A) {σ0 : Mem} (hw0 : WM B A sd σ0 σ) {f : Nat → Int32} {kr w : Nat} (hkr : kr = 163 ∨ kr = 164) (hf : ∀ j, j < 25 → σ.2.2.1 kr j = f j) (hP : WFP (pb A f (uN f))) (hw : w < nm A) : MT ll B 4 0 0 yX3_withWord cX3_withWord 5 (some .long) [.ref (B.1 + 157), .ref (B.1 + kr), .int (nI w)] σ (pL fun r σ' => r = rWith A f w ∧ WM B A sd σ0 σ' ∧ σ'.2.2.1 164 = σ.2.2.1 164) := by
  have hM := hw0.1.1
  have hn := hM.n
  have hm := hW.nmle
  have hkk : ∃ len, KA σ kr 0 len := by
    rcases hkr with rfl | rfl
    · exact ⟨_, hM.k_now⟩
    · exact ⟨_, hM.k_trial⟩
  obtain ⟨len, hkk⟩ := hkk
  refine MT.of (by decide) (Nat.le_of_ble_eq_true rfl) (fun g hg hr => ?_)
  refine y_aload_n hg dX3_withWord_0 rfl ?_
  refine y_aload_n hg dX3_withWord_1 rfl ?_
  refine y_cVl hg (cM_manyOf (P := pb A f (uN f)) hM hkr hP (hw0.1.wm hW) hf RMm.hu0) iX3_manyOf q1142 (hM.m) cf3 rfl rfl (by simp [Value.category]) (Nat.le_refl _) (Nat.le_refl _) (by decide) dX3_withWord_2 (fun r σ2 hp => ?_)
  obtain ⟨rfl, hX, hC, hf2⟩ := hp
  refine y_lstore_n hg dX3_withWord_5 (by decide) (lv1 := [(0, _), (1, _), (2, _), (3, _)]) rfl ?_
  have hw1 := hw0.go hf2 (fun a j q => by unfold MyP MkP at q; unfold ME; omega)
  have hM := hw1.1.1
  refine y_aload_n hg dX3_withWord_6 rfl ?_
  refine y_dup hg dX3_withWord_7 rfl ?_
  refine y_geti (j := 32) hg cf3 (hM.m) (by decide) rfl q943 dX3_withWord_8 ?_
  refine y_iconst (v := nI 1) hg dX3_withWord_11 rfl ?_
  refine y_iload_n hg dX3_withWord_12 rfl ?_
  refine y_ishl hg dX3_withWord_13 ?_
  refine y_iconst (v := -1) hg dX3_withWord_14 rfl ?_
  refine y_ixor hg dX3_withWord_15 ?_
  refine y_iand hg dX3_withWord_16 ?_
  refine y_puti (j := 32) hg cf3 (hM.m) (by decide) rfl rfl q943 dX3_withWord_17 ?_
  have hX1 : PM B (setI σ2 157 32 (σ2.2.2.1 157 32 &&& (nI 1 <<< (nI w &&& 31) ^^^ -1))) (pb A f (uWo f w)) := hX.al (fun v hv => by
    rw [hb_and (by omega), hX.2.2.2.2.2.1 v hv, hb_not (by omega), hb_sh (by omega) (by omega)]
    rfl)
  have hw2 := hw1.go (σ'' := setI σ2 157 32 (σ2.2.2.1 157 32 &&& (nI 1 <<< (nI w &&& 31) ^^^ -1))) (Q := ME) ((FrR.rf).stI (by unfold ME; omega)) (fun a j q => q)
  have hP2 : WFP (pb A f (uWo f w)) := hP
  have e164 : (setI σ2 157 32 (σ2.2.2.1 157 32 &&& (nI 1 <<< (nI w &&& 31) ^^^ -1))).2.2.1 164 = σ.2.2.1 164 := by
    funext j
    rw [gI_n (by omega)]
    exact hf2.i (by omega) (by unfold MyP MkP; omega)
  have hM := hX1.1
  generalize setI σ2 157 32 (σ2.2.2.1 157 32 &&& (nI 1 <<< (nI w &&& 31) ^^^ -1)) = τ at hX1 hw2 hM e164 ⊢
  refine y_aload_n hg dX3_withWord_20 rfl ?_
  refine y_cVv hg (cM_layWays hP2 hX1) iX3_layWays q1146 (hM.m) cf3 rfl rfl (by simp [Value.category]) (Nat.le_refl _) (Nat.le_refl _) (by decide) dX3_withWord_21 (fun σ3 hp => ?_)
  obtain ⟨hf3, hC3⟩ := hp
  have hn3 := hM.n
  have hX3 := hX1.fr hf3 (fun a j q => by unfold EM; omega)
  have hM := hX3.1
  refine y_lload_n hg dX3_withWord_24 rfl ?_
  refine y_aload_n hg dX3_withWord_25 rfl ?_
  refine y_cVl hg (cM_all hP2 hX3 hC3) iX3_all q1158 (hM.m) cf3 rfl rfl (by simp [Value.category]) (Nat.le_refl _) (Nat.le_refl _) (by decide) dX3_withWord_26 (fun r σ4 hp => ?_)
  obtain ⟨rfl, rfl⟩ := hp
  refine y_lsub hg dX3_withWord_29 ?_
  refine y_lret hg hr ⟨_, rfl, ?_⟩ dX3_withWord_30 (Nat.le_refl _) (Nat.le_refl _)
  refine ⟨rfl, hw2.go hf3 (fun a j q => by unfold ME; omega), ?_⟩
  rw [← e164]
  funext j
  exact hf3.i (by omega) (by omega)
def rHav (A : Ab) (v : Int32) : Int64 := if isW (nm A) v = true then rWith A (A 11) v.toNatClampNeg else -1
theorem cM_having (hW : WFA A) (hR : RMm B A sd σ) (v : Int32) : MT ll B 24 0 0 yX3_having cX3_having 2 (some .long) [.ref (B.1 + 157), .int v] σ (oMl B A sd σ (rHav A v)) := by
  have hM := hR.1
  have hm := hW.nmle
  have hP : WFP (pn A) := pb_wr hW hW.now
  refine MT.of (by decide) (Nat.le_of_ble_eq_true rfl) (fun g hg hr => ?_)
  refine y_aload_n hg dX3_having_0 rfl ?_
  refine y_iload_n hg dX3_having_1 rfl ?_
  refine y_cVi hg (cM_isW hW hR _) iX3_isWord q1174 (hM.m) cf3 rfl rfl (by simp [Value.category]) (Nat.le_refl _) (Nat.le_refl _) (by decide) dX3_having_2 (fun r σ1 hp => ?_)
  obtain ⟨rfl, rfl⟩ := hp
  refine y_if_eq hg 20 dX3_having_5 (by decide) (fun hc => ?_) (fun hc => ?_)
  · refine y_ldc2 hg dX3_having_20 q1242 ?_
    refine y_lret hg hr ⟨_, rfl, ?_⟩ dX3_having_23 (Nat.le_refl _) (Nat.le_refl _)
    have eo : rHav A v = -1 := by unfold rHav; rw [if_neg (b2F hc)]
    exact ⟨eo.symm, hR, FrR.rf⟩
  · have h1 := b2T hc
    obtain ⟨w, hw, rfl⟩ := (isW_iff hm).mp h1
    refine y_aload_n hg dX3_having_8 rfl ?_
    refine y_aload_n hg dX3_having_9 rfl ?_
    refine y_getr (j := 7) hg cf3 (hM.m) (by decide) rfl (hM.r_now) q918 dX3_having_10 ?_
    refine y_iload_n hg dX3_having_13 rfl ?_
    refine y_cVl hg (cM_withWord hW (WM.rf hR) (Or.inl rfl) (fun j hj => hR.now hj) hP hw) iX3_withWord q1138 (hM.m) cf3 rfl rfl (by simp [Value.category]) (Nat.le_refl _) (Nat.le_refl _) (by decide) dX3_having_14 (fun r σ2 hp => ?_)
    obtain ⟨rfl, hw2, -⟩ := hp
    refine y_goto hg 23 dX3_having_17 (by decide) ?_
    refine y_lret hg hr ⟨_, rfl, ?_⟩ dX3_having_23 (Nat.le_refl _) (Nat.le_refl _)
    have eo : rHav A (nI w) = rWith A (A 11) w := by unfold rHav; rw [if_pos h1, nI_clamp (by omega)]
    exact ⟨eo.symm, hw2.fin⟩
theorem cX_having (hW : WFA A) (hR : RX B A sd σ) (v : Int32) : MT ll B 24 0 0 yX0_having cX0_having 4 (some .long) [.ref (B.1 + 0), .int v] σ (oXl B A sd σ (rHav A v)) := by
  have hL := hR.1
  have hm := hW.nmle
  have hP : WFP (pn A) := pb_wr hW hW.now
  have hP2 : ∀ w, WFP (pw A w) := fun w => pb_wr hW hW.now
  refine MT.of (by decide) (Nat.le_of_ble_eq_true rfl) (fun g hg hr => ?_)
  refine y_aload_n hg dX0_having_0 rfl ?_
  refine y_iload_n hg dX0_having_1 rfl ?_
  refine y_cVi hg (cX_isW hW hR _) iX0_isWord q440 (hL.x) cf0 rfl rfl (by simp [Value.category]) (Nat.le_refl _) (Nat.le_refl _) (by decide) dX0_having_2 (fun r σ1 hp => ?_)
  obtain ⟨rfl, rfl⟩ := hp
  refine y_if_ne hg 12 dX0_having_5 (by decide) (fun hc => ?_) (fun hc => ?_)
  · have h1 := b2T hc
    obtain ⟨w, hw, rfl⟩ := (isW_iff hm).mp h1
    refine y_aload_n hg dX0_having_12 rfl ?_
    refine y_cVv hg (cX_look0 hW (WX.rf hR)) iX0_look q368 (hL.x) cf0 rfl rfl (by simp [Value.category]) (Nat.le_refl _) (Nat.le_refl _) (by decide) dX0_having_13 (fun σ2 hp => ?_)
    obtain ⟨hX, hC, hC2, hw2⟩ := hp
    have hL := hw2.1.1
    refine y_aload_n hg dX0_having_16 rfl ?_
    refine y_cVl hg (cX_countAll hP hX hC) iX0_countAll q404 (hL.x) cf0 rfl rfl (by simp [Value.category]) (Nat.le_refl _) (Nat.le_refl _) (by decide) dX0_having_17 (fun r σ3 hp => ?_)
    obtain ⟨rfl, hf3, hC3⟩ := hp
    refine y_lstore_n hg dX0_having_20 (by decide) (lv1 := [(0, _), (1, _), (2, _)]) rfl ?_
    have hw3 := hw2.goR hW hf3 (fun a j q => by unfold XE; omega)
    have hL := hw3.1.1
    have em := hw3.1.many.trans hW.1.1
    refine y_aload_n hg dX0_having_21 rfl ?_
    refine y_aload_n hg dX0_having_22 rfl ?_
    refine y_getr (j := 2) hg cf0 (hL.x) (by decide) rfl (hL.r_now) q174 dX0_having_23 ?_
    refine y_aload_n hg dX0_having_26 rfl ?_
    refine y_cVi hg (cX_all hL) iX0_all q372 (hL.x) cf0 rfl rfl (by simp [Value.category]) (Nat.le_refl _) (Nat.le_refl _) (by decide) dX0_having_27 (fun r σ4 hp => ?_)
    obtain ⟨rfl, rfl⟩ := hp
    refine y_aload_n hg dX0_having_30 rfl ?_
    refine y_getr (j := 2) hg cf0 (hL.x) (by decide) rfl (hL.r_now) q174 dX0_having_31 ?_
    refine y_getiN (j := 1) hg cf1 (hL.s_now.o) (by decide) rfl nf1 dX0_having_34 ?_
    refine y_ti (hw3.1.barred) ?_
    refine y_iconst (v := -1) hg dX0_having_37 rfl ?_
    refine y_ixor hg dX0_having_38 ?_
    refine y_iand hg dX0_having_39 ?_
    refine y_iconst (v := nI 1) hg dX0_having_40 rfl ?_
    refine y_iload_n hg dX0_having_41 rfl ?_
    refine y_ishl hg dX0_having_42 ?_
    refine y_iconst (v := -1) hg dX0_having_43 rfl ?_
    refine y_ixor hg dX0_having_44 ?_
    refine y_iand hg dX0_having_45 ?_
    refine y_cVv hg (cX_look (P := pw A w) hL hL.s_now (Or.inl rfl) (hP2 w) (hw3.1.wx hW) (fun j hj => hw3.1.now hj) (fun v hv => by rw [em]; exact u_but hm hv hw)) iX0_look_2 q376 (hL.x) cf0 rfl rfl (by simp [Value.category]) (Nat.le_refl _) (Nat.le_refl _) (by decide) dX0_having_46 (fun σ5 hp => ?_)
    obtain ⟨q1, q2, q3, q4, q5, q6⟩ := hp
    have hw5 := hw3.go hW (q4.mono (fun a j q => by unfold LkP at q; unfold XE; omega)) q5 q6
    have hL := hw5.1.1
    refine y_lload_n hg dX0_having_49 rfl ?_
    refine y_aload_n hg dX0_having_50 rfl ?_
    refine y_cVl hg (cX_countAll (hP2 w) q1 q2) iX0_countAll q404 (hL.x) cf0 rfl rfl (by simp [Value.category]) (Nat.le_refl _) (Nat.le_refl _) (by decide) dX0_having_51 (fun r σ6 hp => ?_)
    obtain ⟨rfl, hf6, hC6⟩ := hp
    refine y_lsub hg dX0_having_54 ?_
    refine y_lret hg hr ⟨_, rfl, ?_⟩ dX0_having_55 (Nat.le_refl _) (Nat.le_refl _)
    have eo : rHav A (nI w) = rWith A (A 11) w := by unfold rHav; rw [if_pos h1, nI_clamp (by omega)]
    exact ⟨eo.symm, (hw5.goR hW hf6 (fun a j q => by unfold XE; omega)).fin⟩
  · refine y_ldc2 hg dX0_having_8 q520 ?_
    refine y_lret hg hr ⟨_, rfl, ?_⟩ dX0_having_11 (Nat.le_refl _) (Nat.le_refl _)
    have eo : rHav A v = -1 := by unfold rHav; rw [if_neg (b2F hc)]
    exact ⟨eo.symm, hR, Fr.rf⟩
end Many

