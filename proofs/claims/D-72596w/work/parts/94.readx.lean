/-! ===== X reads ===== -/
section ReadX
variable {ll : Launch} {B : Bs} {σ : Mem} {A : Ab} {sd : Int64} {σ0 : Mem}
def hct (S : Ab) (w x : Nat) : Nat → Nat
  | 0 => 0
  | m + 1 => hct S w x m + (if S 5 (6 * w + m) = nI x then 1 else 0)
/-- how many of a letter a word has -/
def hasF (S : Ab) (w x : Nat) : Int32 := nI (hct S w x (sz S w))
/-- X's places for reading -/
def XR : Nat → Nat → Prop := fun a j => (a = 0 ∧ (j = 18 ∨ j = 19)) ∨ (20 ≤ a ∧ a ≤ 23) ∨ (97 ≤ a ∧ a < 157 ∧ 3 ≤ (a - 97) % 6)
theorem XR.s {a j : Nat} (h : XR a j) : XS a j := by unfold XR at h; unfold XS; omega
def WXs (B : Bs) (A : Ab) (sd : Int64) (σ σ' : Mem) : Prop := RX B A sd σ' ∧ Fr XR σ σ'
theorem WXs.goR {σ' σ'' : Mem} {Q : Nat → Nat → Prop} (hW : WFA A) (h : WXs B A sd σ σ') (hf : FrR Q σ' σ'') (hq : ∀ a j, Q a j → XR a j) : WXs B A sd σ σ'' := by
  obtain ⟨ka, kb, hy⟩ := h.1.2.1
  exact ⟨h.1.scr hW.nmle (hf.1.mono (fun a j q => (hq a j q).s)) ⟨ka, kb, hy.fr hf⟩, h.2.tr (hf.1.mono hq)⟩
theorem WXs.st {σ' : Mem} {k j : Nat} {v : Int32} (hW : WFA A) (h : WXs B A sd σ σ') (hq : XR k j) : WXs B A sd σ (setI σ' k j v) := h.goR hW (Q := XR) ((FrR.rf).stI hq) (fun a j z => z)
theorem WXs.nw {σ' σ'' : Mem} (hW : WFA A) (h : WXs B A sd σ σ') (hn : Nw σ' σ'') : WXs B A sd σ σ'' := by
  have hL := h.1.1.n
  obtain ⟨ka, kb, h1, h2, h3⟩ := h.1.2.1
  exact ⟨h.1.scr hW.nmle hn.fr ⟨ka, kb, h1, by rw [(hn.2 0 (by omega)).2.2.2]; exact h2, by rw [(hn.2 0 (by omega)).2.2.2]; exact h3⟩, h.2.tr hn.fr⟩
theorem WXs.fin {σ' : Mem} (h : WXs B A sd σ σ') : RX B A sd σ' ∧ Fr (fun a _ => a < 157) σ σ' := ⟨h.1, h.2.mono (fun a j q => by unfold XR at q; omega)⟩
def WdX (σ : Mem) (w : Nat) (S : Ab) : Prop := σ.2.2.1 (100 + 6 * w) 1 = S 2 w ∧ σ.2.2.1 (100 + 6 * w) 2 = S 3 w ∧ (∀ k, k < sz S w → σ.2.2.1 (100 + 6 * w + 1) k = S 5 (6 * w + k)) ∧ ∀ x, x < 8 → σ.2.2.1 (100 + 6 * w + 2) x = hasF S w x
theorem hct_c {S S' : Ab} {w x : Nat} : ∀ m, (∀ k, k < m → S' 5 (6 * w + k) = S 5 (6 * w + k)) → hct S' w x m = hct S w x m
  | 0, _ => rfl
  | m + 1, h => by
    show hct S' w x m + _ = hct S w x m + _
    rw [hct_c m (fun k hk => h k (by omega)), h m (by omega)]
theorem WdX.cg {w : Nat} {S S' : Ab} (h : WdX σ w S) (h2 : S' 2 w = S 2 w) (h3 : S' 3 w = S 3 w) (h5 : ∀ k, k < sz S w → S' 5 (6 * w + k) = S 5 (6 * w + k)) : WdX σ w S' := by
  obtain ⟨a, b, c, d⟩ := h
  unfold WdX hasF
  rw [sz_c h2, h2, h3]
  exact ⟨a, b, fun k hk => by rw [h5 k hk]; exact c k hk, fun x hx => by rw [hct_c _ h5]; exact d x hx⟩
/-- X's memory while it reads -/
def RdX (σ : Mem) (q n : Nat) (S : Ab) : Prop := σ.2.2.1 0 18 = nI q ∧ σ.2.2.1 0 19 = nI n ∧ (∀ j, j < 25 → rowOf σ 20 j = S 11 j) ∧ ∀ w, w < n → WdX σ w S
theorem WdX.set {w k j : Nat} {v : Int32} {S : Ab} (h : WdX σ w S) (hk : k < 100) : WdX (setI σ k j v) w S :=
  ⟨(gI_n (by omega)).trans h.1, (gI_n (by omega)).trans h.2.1, fun i hi => (gI_n (by omega)).trans (h.2.2.1 i hi), fun x hx => (gI_n (by omega)).trans (h.2.2.2 x hx)⟩
theorem RdX.at {q n q' : Nat} {S : Ab} (h : RdX σ q n S) : RdX (setI σ 0 18 (nI q')) q' n S :=
  ⟨gI_s, (gI_n (by omega)).trans h.2.1, fun j hj => by
    have := h.2.2.1 j hj
    rw [ro_at] at this ⊢
    have hr := rA_in 20 j
    rw [gI_n (by omega)]
    exact this, fun w hw => (h.2.2.2 w hw).set (by omega)⟩
theorem RdX.row {q n j : Nat} {S : Ab} {v : Int32} (h : RdX σ q n S) (hj : j < 25) {a b : Nat} (ha : rA 20 j = a) (hb : rB j = b) : RdX (setI σ a b v) q n (up2 S 11 j v) := by
  subst ha hb
  have hr := rA_in 20 j
  refine ⟨(gI_n (by omega)).trans h.1, (gI_n (by omega)).trans h.2.1, fun i hi => ?_, fun w hw => ?_⟩
  · rw [ro_set hj hi]
    show (if i = j then v else rowOf σ 20 i) = up2 S 11 j v 11 i
    by_cases e : i = j
    · subst e; rw [if_pos rfl, up2_s]
    · rw [if_neg e, up2_n (by omega)]; exact h.2.2.1 i hi
  · have := (h.2.2.2 w hw).set (k := rA 20 j) (j := rB j) (v := v) (by omega)
    exact this.cg rfl rfl (fun k hk => rfl)
abbrev pRd (B : Bs) (A : Ab) (sd : Int64) (σ0 : Mem) (P : Bool × Nat × Nat × Ab) : Option Value → Mem → Prop := pI fun r σ' => r = b2 P.1 ∧ WXs B A sd σ0 σ' ∧ σ'.2.2.1 0 18 = nI P.2.1 ∧ (P.1 = true → RdX σ' P.2.1 P.2.2.1 P.2.2.2)
theorem n97 : (∀ t, t < 256 → inL (nI t - nI 97).toInt64 0 (nI 8 - nI 1).toInt64 = decide (97 ≤ t ∧ t < 97 + 8)) ∧ inL (nI 8).toInt64 0 (nI 8 - nI 1).toInt64 = false := by decide +kernel
theorem n65 : (∀ t, t < 256 → inL (nI t - nI 65).toInt64 0 (nI 4 - nI 1).toInt64 = decide (65 ≤ t ∧ t < 65 + 4)) ∧ inL (nI 4).toInt64 0 (nI 4 - nI 1).toInt64 = false := by decide +kernel
theorem n48 : (∀ t, t < 256 → inL (nI t - nI 48).toInt64 0 (nI 10 - nI 1).toInt64 = decide (48 ≤ t ∧ t < 48 + 10)) ∧ inL (nI 10).toInt64 0 (nI 10 - nI 1).toInt64 = false := by decide +kernel
theorem cX_next (hW : WFA A) (hR : RX B A sd σ) {q f m : Nat} (hat : σ.2.2.1 0 18 = nI q) (hq : q ≤ 200) (hin : (∀ t, t < 256 → inL (nI t - nI f).toInt64 0 (nI m - nI 1).toInt64 = decide (f ≤ t ∧ t < f + m)) ∧ inL (nI m).toInt64 0 (nI m - nI 1).toInt64 = false) : MT ll B 1 0 0 yX0_next cX0_next 4 (some .int) [.ref (B.1 + 0), .int (nI f), .int (nI m)] σ (pI fun r σ' => r = oN (rnx A f m q) ∧ σ' = σ) := by
  have hL := hR.1
  obtain ⟨hln, hl180⟩ := hW.lenN
  refine MT.of (by decide) (Nat.le_of_ble_eq_true rfl) (fun g hg hr => ?_)
  have J : ∀ (v : Int32) (b : Bool), inL v.toInt64 0 (nI m - nI 1).toInt64 = b → (if b = true then v else -9) = oN (rnx A f m q) → YY g 4 σ 0 0 26 [(0, .ref (B.1 + 0)), (1, .int (nI f)), (2, .int (nI m))] [.int v] := by
    intro v b hb hv
    refine y_istore_n hg dX0_next_26 (by decide) (lv1 := [(0, _), (1, _), (2, _), (3, _)]) rfl ?_
    refine y_iload_n hg dX0_next_27 rfl ?_
    refine y_i2l hg dX0_next_28 ?_
    refine y_lconst (v := 0) hg dX0_next_29 rfl ?_
    refine y_iload_n hg dX0_next_30 rfl ?_
    refine y_iconst (v := nI 1) hg dX0_next_31 rfl ?_
    refine y_isub hg dX0_next_32 ?_
    refine y_i2l hg dX0_next_33 ?_
    refine y_cSi hg (cX_isIn _ _ _) iX0_isIn q286 rfl rfl (by simp [Value.category]) (Nat.le_refl _) (Nat.le_refl _) (by decide) dX0_next_34 (fun r σ1 hp => ?_)
    obtain ⟨rfl, rfl⟩ := hp
    rw [hb]
    refine y_if_eq hg 44 dX0_next_37 (by decide) (fun hc => ?_) (fun hc => ?_)
    · rw [if_neg (b2F hc)] at hv
      refine y_bipush (v := -9) hg dX0_next_44 rfl ?_
      refine y_iret hg hr ⟨_, rfl, ?_⟩ dX0_next_46 (Nat.le_refl _) (Nat.le_refl _)
      exact ⟨hv, rfl⟩
    · rw [if_pos (b2T hc)] at hv
      refine y_iload_n hg dX0_next_40 rfl ?_
      refine y_goto hg 46 dX0_next_41 (by decide) ?_
      refine y_iret hg hr ⟨_, rfl, ?_⟩ dX0_next_46 (Nat.le_refl _) (Nat.le_refl _)
      exact ⟨hv, rfl⟩
  by_cases e : q < rln A
  · obtain ⟨htx, ht256⟩ := hW.txN (show q < 180 by omega)
    refine y_aload_n hg dX0_next_0 rfl ?_
    refine y_geti (j := 18) hg cf0 (hL.x) (by decide) rfl q190 dX0_next_1 ?_
    refine y_ti (hat) ?_
    refine y_aload_n hg dX0_next_4 rfl ?_
    refine y_geti (j := 17) hg cf0 (hL.x) (by decide) rfl q189 dX0_next_5 ?_
    refine y_ti (hR.len.trans hln) ?_
    refine y_icmp_ge hg 25 dX0_next_8 (by decide) (fun hT => absurd hT (nI_ge e (by omega))) (fun _ => ?_)
    refine y_aload_n hg dX0_next_11 rfl ?_
    refine y_getr (j := 16) hg cf0 (hL.x) (by decide) rfl (hL.r_text) q188 dX0_next_12 ?_
    refine y_aload_n hg dX0_next_15 rfl ?_
    refine y_geti (j := 18) hg cf0 (hL.x) (by decide) rfl q190 dX0_next_16 ?_
    refine y_ti (hat) ?_
    refine y_iald hg _ (hL.k_text) rfl (by omega) dX0_next_19 ?_
    refine y_ti ((hR.text (by omega)).trans htx) ?_
    refine y_iload_n hg dX0_next_20 rfl ?_
    refine y_isub hg dX0_next_21 ?_
    refine y_goto hg 26 dX0_next_22 (by decide) ?_
    refine J _ _ (hin.1 _ ht256) ?_
    unfold rnx
    by_cases e2 : f ≤ rtx A q ∧ rtx A q < f + m
    · rw [if_pos (decide_eq_true e2), if_pos ⟨e, e2.1, e2.2⟩]
      exact pk_sub e2.1
    · rw [if_neg (fun z => e2 (of_decide_eq_true z)), if_neg (fun z => e2 z.2)]
      rfl
  · refine y_aload_n hg dX0_next_0 rfl ?_
    refine y_geti (j := 18) hg cf0 (hL.x) (by decide) rfl q190 dX0_next_1 ?_
    refine y_ti (hat) ?_
    refine y_aload_n hg dX0_next_4 rfl ?_
    refine y_geti (j := 17) hg cf0 (hL.x) (by decide) rfl q189 dX0_next_5 ?_
    refine y_ti (hR.len.trans hln) ?_
    refine y_icmp_ge hg 25 dX0_next_8 (by decide) (fun _ => ?_) (fun hF => absurd (nI_le (by omega) (by omega)) hF)
    refine y_iload_n hg dX0_next_25 rfl ?_
    refine J _ _ hin.2 ?_
    unfold rnx
    rw [if_neg (by decide), if_neg (fun z => e z.1)]
    rfl
theorem rnx_s {f m q : Nat} (h : (rnx A f m q).isSome = true) : rnx A f m q = some (rtx A q - f) ∧ q < rln A ∧ f ≤ rtx A q ∧ rtx A q < f + m := by
  unfold rnx at h ⊢
  by_cases e : q < rln A ∧ f ≤ rtx A q ∧ rtx A q < f + m
  · rw [if_pos e]; exact ⟨rfl, e⟩
  · rw [if_neg e] at h; exact absurd h (by decide)
theorem rnx_n {f m q : Nat} (h : ¬ (rnx A f m q).isSome = true) : rnx A f m q = none := by
  cases e : rnx A f m q with
  | none => rfl
  | some x => rw [e] at h; exact absurd rfl h
theorem m9_n {k : Nat} (h : k < 16) : ¬ nI k = -9 := nk9 (by omega)
theorem cX_readKind (hW : WFA A) (hR : RX B A sd σ) {q : Nat} (hat : σ.2.2.1 0 18 = nI q) (hq : q ≤ 200) (b : Int32) : MT ll B 2 0 0 yX0_readKind cX0_readKind 3 (some .int) [.ref (B.1 + 0), .int b] σ (pI fun r σ' => ((rnx A 65 4 q).isSome = true ∧ hasB b (nI (rtx A q - 65)) = false → r = nI (rtx A q - 65) ∧ σ' = setI σ 0 18 (nI (q + 1))) ∧ (¬ ((rnx A 65 4 q).isSome = true ∧ hasB b (nI (rtx A q - 65)) = false) → r = -9 ∧ σ' = σ)) := by
  have hL := hR.1
  refine MT.of (by decide) (Nat.le_of_ble_eq_true rfl) (fun g hg hr => ?_)
  refine y_aload_n hg dX0_readKind_0 rfl ?_
  refine y_bipush (v := nI 65) hg dX0_readKind_1 rfl ?_
  refine y_iconst (v := nI 4) hg dX0_readKind_3 rfl ?_
  refine y_cVi hg (cX_next hW hR hat hq n65) iX0_next q320 (hL.x) cf0 rfl rfl (by simp [Value.category]) (Nat.le_refl _) (Nat.le_refl _) (by decide) dX0_readKind_4 (fun r σ1 hp => ?_)
  obtain ⟨rfl, rfl⟩ := hp
  by_cases e : (rnx A 65 4 q).isSome = true
  · obtain ⟨e1, e2, e3, e4⟩ := rnx_s e
    rw [e1]
    refine y_ti (x' := nI (rtx A q - 65)) rfl ?_
    refine y_istore_n hg dX0_readKind_7 (by decide) (lv1 := [(0, _), (1, _), (2, _)]) rfl ?_
    refine y_iload_n hg dX0_readKind_8 rfl ?_
    refine y_bipush (v := -9) hg dX0_readKind_9 rfl ?_
    refine y_icmp_eq hg 22 dX0_readKind_11 (by decide) (fun hT => absurd hT (m9_n (by omega))) (fun _ => ?_)
    refine y_iload_n hg dX0_readKind_14 rfl ?_
    refine y_iload_n hg dX0_readKind_15 rfl ?_
    refine y_cSi hg (cX_has _ _) iX0_has q344 rfl rfl (by simp [Value.category]) (Nat.le_refl _) (Nat.le_refl _) (by decide) dX0_readKind_16 (fun r σ2 hp => ?_)
    obtain ⟨rfl, rfl⟩ := hp
    refine y_if_eq hg 25 dX0_readKind_19 (by decide) (fun hc => ?_) (fun hc => ?_)
    · have hb : hasB b (nI (rtx A q - 65)) = false := by
        have := b2F hc
        cases z : hasB b (nI (rtx A q - 65)) with
        | false => rfl
        | true => exact absurd z this
      refine y_aload_n hg dX0_readKind_25 rfl ?_
      refine y_dup hg dX0_readKind_26 rfl ?_
      refine y_geti (j := 18) hg cf0 (hL.x) (by decide) rfl q190 dX0_readKind_27 ?_
      refine y_ti (hat) ?_
      refine y_iconst (v := nI 1) hg dX0_readKind_30 rfl ?_
      refine y_iadd hg dX0_readKind_31 ?_
      refine y_ti (nI_add _ _) ?_
      refine y_puti (j := 18) hg cf0 (hL.x) (by decide) rfl rfl q190 dX0_readKind_32 ?_
      refine y_iload_n hg dX0_readKind_35 rfl ?_
      refine y_iret hg hr ⟨_, rfl, ?_⟩ dX0_readKind_36 (Nat.le_refl _) (Nat.le_refl _)
      exact ⟨fun _ => ⟨rfl, rfl⟩, fun z => absurd ⟨e, hb⟩ z⟩
    · have hb := b2T hc
      refine y_bipush (v := -9) hg dX0_readKind_22 rfl ?_
      refine y_iret hg hr ⟨_, rfl, ?_⟩ dX0_readKind_24 (Nat.le_refl _) (Nat.le_refl _)
      exact ⟨fun z => by rw [hb] at z; exact absurd z.2 (by decide), fun _ => ⟨rfl, rfl⟩⟩
  · rw [rnx_n e]
    refine y_ti (x' := -9) rfl ?_
    refine y_istore_n hg dX0_readKind_7 (by decide) (lv1 := [(0, _), (1, _), (2, _)]) rfl ?_
    refine y_iload_n hg dX0_readKind_8 rfl ?_
    refine y_bipush (v := -9) hg dX0_readKind_9 rfl ?_
    refine y_icmp_eq hg 22 dX0_readKind_11 (by decide) (fun _ => ?_) (fun hF => absurd (rfl) hF)
    refine y_bipush (v := -9) hg dX0_readKind_22 rfl ?_
    refine y_iret hg hr ⟨_, rfl, ?_⟩ dX0_readKind_24 (Nat.le_refl _) (Nat.le_refl _)
    exact ⟨fun z => absurd z.1 e, fun _ => ⟨rfl, rfl⟩⟩
end ReadX

