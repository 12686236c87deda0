/-! ===== why a row is no phrase: pure, and M ===== -/
section ReasonP
variable {A : Ab}
/-- the words of the row that was told -/
def wtn (A : Ab) (k : Nat) : Nat := (A 6 k).toNatClampNeg
def sp (A : Ab) (w j : Nat) : Nat := (A 5 (6 * w + j)).toNatClampNeg
def tol (A : Ab) : Nat := (A 1 4).toNatClampNeg
/-- the first letter of a word, as spelt from j on, of which not enough is left -/
def wtF (A : Ab) (f : Nat → Int32) (w : Nat) : Nat → Nat → Option Nat
  | 0, _ => none
  | n + 1, j => if f (sp A w j) < A 4 (8 * w + sp A w j) then some (sp A w j) else wtF A f w n (j + 1)
def alw (A : Ab) (k : Nat) : Int32 := if k = 0 then A 11 19 else A 11 (21 + kd A (wtn A (k - 1)))
abbrev Rs : Type := Int32 × Int32 × Int32 × Int32
def stW (A : Ab) (f : Nat → Int32) (k : Nat) : Option Rs :=
  if hasB (A 11 8) (A 6 k) = true then some (nI 1, nI k, -9, nI 0)
  else if hasB (alw A k) (A 3 (wtn A k)) = true then
    match wtF A f (wtn A k) (sz A (wtn A k)) 0 with
    | some x => some (nI 3, nI k, nI x, A 4 (8 * wtn A k + x) - f x)
    | none => none
  else some (nI 2, nI k, -9, nI 0)
def lfk (A : Ab) : Nat → Nat → Int32
  | 0 => A 11
  | k + 1 => fun x => lfk A k x - A 4 (8 * wtn A k + x)
def lvF (f : Nat → Int32) : Nat → Nat → Option Nat
  | 0, _ => none
  | n + 1, x => if 0 < f x then some x else lvF f n (x + 1)
def rsE (A : Ab) (n : Nat) : Rs :=
  if n = 0 then (nI 6, nI 0, -9, nI 0)
  else match lvF (lfk A n) 8 0 with
    | some x => (nI 4, nI n, nI x, lfk A n x)
    | none => if hasB (A 11 20) (A 3 (wtn A (n - 1))) = true then (nI 0, -9, -9, nI 0) else (nI 5, nI n, -9, nI 0)
def rsL (A : Ab) : Nat → Nat → Rs
  | 0, k => rsE A k
  | n + 1, k => match stW A (lfk A k) k with
    | some r => r
    | none => rsL A n (k + 1)
def rs (A : Ab) : Rs := rsL A (tol A) 0
theorem WFA.toldN (hW : WFA A) : A 1 4 = nI (tol A) ∧ tol A ≤ 12 := by
  obtain ⟨n, hn, e⟩ := hW.told
  unfold tol
  rw [e, nI_clamp (by omega)]
  exact ⟨rfl, hn⟩
theorem WFA.rowW (hW : WFA A) {k : Nat} (hk : k < tol A) : A 6 k = nI (wtn A k) ∧ wtn A k < nm A := by
  obtain ⟨e, h12⟩ := hW.toldN
  obtain ⟨w, hw, e2⟩ := hW.row6 k (by rw [e]; exact nI_lt hk (by omega)) (by omega)
  have hm := hW.nmle
  unfold wtn
  rw [e2, nI_clamp (by omega)]
  exact ⟨rfl, hw⟩
theorem WFA.spW (hW : WFA A) {w j : Nat} (hw : w < nm A) (hj : j < sz A w) : A 5 (6 * w + j) = nI (sp A w j) ∧ sp A w j < 8 := by
  obtain ⟨y, hy, e⟩ := (hW.word hw).2.2.2.2.1 j hj
  unfold sp
  rw [e, nI_clamp (by omega)]
  exact ⟨rfl, hy⟩
theorem WFA.szW (hW : WFA A) {w : Nat} (hw : w < nm A) : A 2 w = nI (sz A w) ∧ sz A w ≤ 6 := (hW.word hw).1
def oN (o : Option Nat) : Int32 := match o with
  | none => -9
  | some x => nI x
theorem m9_nx : ∀ x, x < 8 → ¬ nI x = -9 := by decide +kernel
theorem wtF_lt (hW : WFA A) {f : Nat → Int32} {w x : Nat} (hw : w < nm A) : ∀ n j, n + j = sz A w → wtF A f w n j = some x → x < 8
  | 0, j, _, h => by cases h
  | n + 1, j, hs, h => by
    have hsp := (hW.spW hw (show j < sz A w by omega)).2
    unfold wtF at h
    split at h
    · cases h; exact hsp
    · exact wtF_lt hW hw n (j + 1) (by omega) h
theorem wtF_s {f : Nat → Int32} {w j : Nat} (h : j < sz A w) : wtF A f w (sz A w - j) j = if f (sp A w j) < A 4 (8 * w + sp A w j) then some (sp A w j) else wtF A f w (sz A w - (j + 1)) (j + 1) := by
  rw [show sz A w - j = (sz A w - (j + 1)) + 1 by omega]
  rfl
theorem lvF_s {f : Nat → Int32} {x : Nat} (h : x < 8) : lvF f (8 - x) x = if 0 < f x then some x else lvF f (8 - (x + 1)) (x + 1) := by
  rw [show 8 - x = (8 - (x + 1)) + 1 by omega]
  rfl
theorem rsL_s {i : Nat} (h : i < tol A) : rsL A (tol A - i) i = match stW A (lfk A i) i with
    | some r => r
    | none => rsL A (tol A - (i + 1)) (i + 1) := by
  rw [show tol A - i = (tol A - (i + 1)) + 1 by omega]
  rfl
theorem ns1 (i : Nat) : nI i + Int32.ofInt (-1) = nI i - nI 1 := by rw [Int32.sub_eq_add_neg]; rfl
end ReasonP
section ReasonM
variable {ll : Launch} {B : Bs} {σ : Mem} {A : Ab} {sd : Int64}
theorem cM_wantedBy (hW : WFA A) (hR : RMm B A sd σ) {f : Nat → Int32} (hf : ∀ x, x < 8 → σ.2.2.1 185 x = f x) {w : Nat} (hw : w < nm A) : MT ll B 1 0 0 yX3_wantedBy cX3_wantedBy 5 (some .int) [.ref (B.1 + 157), .int (nI w)] σ (pI fun r σ' => r = oN (wtF A f w (sz A w) 0) ∧ σ' = σ) := by
  have hM := hR.1
  have hm := hW.nmle
  obtain ⟨es, hs6⟩ := hW.szW hw
  refine MT.of (by decide) (Nat.le_of_ble_eq_true rfl) (fun g hg hr => ?_)
  refine y_bipush (v := -9) hg dX3_wantedBy_0 rfl ?_
  refine y_istore_n hg dX3_wantedBy_2 (by decide) (lv1 := [(0, _), (1, _), (2, _)]) rfl ?_
  refine y_aload_n hg dX3_wantedBy_3 rfl ?_
  refine y_getr (j := 4) hg cf3 (hM.m) (by decide) rfl (hM.r_size) q915 dX3_wantedBy_4 ?_
  refine y_iload_n hg dX3_wantedBy_7 rfl ?_
  refine y_iald hg _ (hM.k_size) rfl (by omega) dX3_wantedBy_8 ?_
  refine y_ti ((hR.size hw).trans es) ?_
  refine y_iconst (v := nI 1) hg dX3_wantedBy_9 rfl ?_
  refine y_isub hg dX3_wantedBy_10 ?_
  refine y_istore_n hg dX3_wantedBy_11 (by decide) (lv1 := [(0, _), (1, _), (2, _), (3, _)]) rfl ?_
  have LOOP : ∀ i, i ≤ sz A w → YY g 5 σ 0 0 12 [(0, .ref (B.1 + 157)), (1, .int (nI w)), (2, .int (oN (wtF A f w (sz A w - i) i))), (3, .int (nI i - nI 1))] [] := by
    intro i
    induction i with
    | zero =>
      intro _
      refine y_iload_n hg dX3_wantedBy_12 rfl ?_
      refine y_if_lt hg 64 dX3_wantedBy_13 (by decide) (fun _ => ?_) (fun hF => absurd (by decide) hF)
      refine y_iload_n hg dX3_wantedBy_64 rfl ?_
      refine y_iret hg hr ⟨_, rfl, ?_⟩ dX3_wantedBy_65 (Nat.le_refl _) (Nat.le_refl _)
      exact ⟨rfl, rfl⟩
    | succ i ih =>
      intro hi
      have hsp := hW.spW hw (show i < sz A w by omega)
      have hx := hsp.2
      rw [show nI (i + 1) - nI 1 = nI i from nI_pred i]
      have ih2 := ih (by omega)
      rw [wtF_s (show i < sz A w by omega)] at ih2
      refine y_iload_n hg dX3_wantedBy_12 rfl ?_
      refine y_if_lt hg 64 dX3_wantedBy_13 (by decide) (fun hT => absurd hT (nI_pos (by omega))) (fun _ => ?_)
      refine y_aload_n hg dX3_wantedBy_16 rfl ?_
      refine y_getr (j := 3) hg cf3 (hM.m) (by decide) rfl (hM.r_spelt) q914 dX3_wantedBy_17 ?_
      refine y_bipush (v := nI 6) hg dX3_wantedBy_20 rfl ?_
      refine y_iload_n hg dX3_wantedBy_22 rfl ?_
      refine y_imul hg dX3_wantedBy_23 ?_
      refine y_ti (pk_mul _ _) ?_
      refine y_iload_n hg dX3_wantedBy_24 rfl ?_
      refine y_iadd hg dX3_wantedBy_25 ?_
      refine y_ti (nI_add _ _) ?_
      refine y_iald hg _ (hM.k_spelt) rfl (by omega) dX3_wantedBy_26 ?_
      refine y_ti ((hR.spelt hw (by omega) (by omega)).trans hsp.1) ?_
      refine y_istore hg dX3_wantedBy_27 (by decide) (lv1 := [(0, _), (1, _), (2, _), (3, _), (4, _)]) rfl ?_
      refine y_aload_n hg dX3_wantedBy_29 rfl ?_
      refine y_getr (j := 6) hg cf3 (hM.m) (by decide) rfl (hM.r_need) q917 dX3_wantedBy_30 ?_
      refine y_bipush (v := nI 8) hg dX3_wantedBy_33 rfl ?_
      refine y_iload_n hg dX3_wantedBy_35 rfl ?_
      refine y_imul hg dX3_wantedBy_36 ?_
      refine y_ti (pk_mul _ _) ?_
      refine y_iload hg dX3_wantedBy_37 rfl ?_
      refine y_iadd hg dX3_wantedBy_39 ?_
      refine y_ti (nI_add _ _) ?_
      refine y_iald hg _ (hM.k_need) rfl (by omega) dX3_wantedBy_40 ?_
      refine y_ti (hR.need hw hx) ?_
      refine y_aload_n hg dX3_wantedBy_41 rfl ?_
      refine y_getr (j := 40) hg cf3 (hM.m) (by decide) rfl (hM.r_left) q951 dX3_wantedBy_42 ?_
      refine y_iload hg dX3_wantedBy_45 rfl ?_
      refine y_iald hg _ (hM.k_left) rfl (by omega) dX3_wantedBy_47 ?_
      refine y_ti (hf _ hx) ?_
      refine y_icmp_le hg 56 dX3_wantedBy_48 (by decide) (fun hc => ?_) (fun hc => ?_)
      · rw [if_neg (Int32.not_lt.mpr hc)] at ih2
        refine y_iload_n hg dX3_wantedBy_56 rfl ?_
        refine y_istore_n hg dX3_wantedBy_57 (by decide) (lv1 := [(0, _), (1, _), (2, _), (3, _), (4, _)]) rfl ?_
        refine y_iinc hg dX3_wantedBy_58 rfl (ns1 _) (by decide) (lv1 := [(0, _), (1, _), (2, _), (3, _), (4, _)]) rfl ?_
        refine y_goto hg 12 dX3_wantedBy_61 (by decide) ?_
        exact y_sub [0, 1, 2, 3] rfl ih2
      · rw [if_pos (Int32.not_le.mp hc)] at ih2
        refine y_iload hg dX3_wantedBy_51 rfl ?_
        refine y_goto hg 57 dX3_wantedBy_53 (by decide) ?_
        refine y_istore_n hg dX3_wantedBy_57 (by decide) (lv1 := [(0, _), (1, _), (2, _), (3, _), (4, _)]) rfl ?_
        refine y_iinc hg dX3_wantedBy_58 rfl (ns1 _) (by decide) (lv1 := [(0, _), (1, _), (2, _), (3, _), (4, _)]) rfl ?_
        refine y_goto hg 12 dX3_wantedBy_61 (by decide) ?_
        exact y_sub [0, 1, 2, 3] rfl ih2
  have := LOOP (sz A w) (Nat.le_refl _)
  rw [Nat.sub_self] at this
  exact this
end ReasonM

