/-! ===== readers of the state, and what keeps it well ===== -/
theorem inL_iff {v : Int32} {M : Int64} (m : Nat) (hM : M.toInt = m) (hm : m < 2147483648) : inL v.toInt64 0 M = true ↔ ∃ n, n ≤ m ∧ v = nI n := by
  unfold inL
  rw [Bool.and_eq_true, decide_eq_true_eq, decide_eq_true_eq, Int64.le_iff_toInt_le, Int64.le_iff_toInt_le, Int32.toInt_toInt64, hM]
  show (0 : Int) ≤ v.toInt ∧ v.toInt ≤ m ↔ _
  constructor
  · intro h
    refine ⟨v.toInt.toNat, by omega, ?_⟩
    apply Int32.toInt_inj.mp
    rw [nI_toInt (by omega)]
    omega
  · rintro ⟨n, hn, rfl⟩
    rw [nI_toInt (by omega)]
    omega
theorem toI_m1 : ((nI 0 - nI 1).toInt64).toInt = -1 := by decide
/-- is it a word -/
def isW (n : Nat) (v : Int32) : Bool := inL v.toInt64 0 (nI n - nI 1).toInt64
theorem isW_iff {n : Nat} {v : Int32} (hn : n ≤ 10) : isW n v = true ↔ ∃ w, w < n ∧ v = nI w := by
  unfold isW
  cases n with
  | zero =>
    constructor
    · unfold inL
      rw [Bool.and_eq_true, decide_eq_true_eq, decide_eq_true_eq, Int64.le_iff_toInt_le, Int64.le_iff_toInt_le, toI_m1]
      intro h
      have h1 : (0 : Int) ≤ v.toInt64.toInt := h.1
      omega
    · rintro ⟨w, hw, -⟩
      omega
  | succ n =>
    rw [inL_iff n (by rw [show nI (n + 1) - nI 1 = nI n from nI_pred n, Int32.toInt_toInt64, nI_toInt (by omega)]) (by omega)]
    constructor
    · rintro ⟨w, hw, e⟩; exact ⟨w, by omega, e⟩
    · rintro ⟨w, hw, e⟩; exact ⟨w, by omega, e⟩
/-- what an op of X, of M leaves -/
abbrev oX (B : Bs) (sd : Int64) (σ : Mem) (o : Int32 × Ab) : Option Value → Mem → Prop := pI fun r σ' => r = o.1 ∧ RX B o.2 sd σ' ∧ Fr (fun a _ => a < 157) σ σ'
abbrev oM (B : Bs) (sd : Int64) (σ : Mem) (o : Int32 × Ab) : Option Value → Mem → Prop := pI fun r σ' => r = o.1 ∧ RMm B o.2 sd σ' ∧ FrR (fun a _ => 157 ≤ a) σ σ'
theorem RX.g {B : Bs} {A : Ab} {sd : Int64} {σ : Mem} (h : RX B A sd σ) (c j : Nat) (hd : dm A c j) : σ.2.2.1 (xA c j) (xB c j) = A c j := h.2.2.1 c j hd
theorem RMm.g {B : Bs} {A : Ab} {sd : Int64} {σ : Mem} (h : RMm B A sd σ) (c j : Nat) (hd : dm A c j) : σ.2.2.1 (mA c j) (mB c j) = A c j := h.2.1 c j hd
theorem RX.row_g {B : Bs} {A : Ab} {sd : Int64} {σ : Mem} (h : RX B A sd σ) {c : Nat} (hc : 11 ≤ c ∧ c < 28) {j : Nat} (hj : j < 25) : rowOf σ (kS c) j = A c j := by
  have := h.g c j (by unfold dm; omega)
  obtain ⟨r1, r2⟩ := xA_row (j := j) hc.1 hc.2
  rw [ro_at, ← r1, ← r2]
  exact this
theorem RX.s_row {B : Bs} {A : Ab} {sd : Int64} {σ : Mem} (h : RX B A sd σ) {c : Nat} (hc : 11 ≤ c ∧ c < 28) : IsS B σ (kS c) := by
  have hL := h.1
  unfold kS
  by_cases e : c = 11
  · rw [if_pos e]; exact hL.s_now
  · rw [if_neg e]
    by_cases e2 : c < 26
    · rw [if_pos e2]; exact hL.w_before (by omega)
    · rw [if_neg e2]; exact hL.w_kept (by omega)
section Rd
variable {B : Bs} {A : Ab} {sd : Int64} {σ : Mem}
theorem RX.len (h : RX B A sd σ) : σ.2.2.1 0 17 = A 1 0 := h.g 1 0 (by unfold dm; omega)
theorem RX.many (h : RX B A sd σ) : σ.2.2.1 0 1 = A 1 1 := h.g 1 1 (by unfold dm; omega)
theorem RX.acts (h : RX B A sd σ) : σ.2.2.1 0 22 = A 1 2 := h.g 1 2 (by unfold dm; omega)
theorem RX.next (h : RX B A sd σ) : σ.2.2.1 0 23 = A 1 3 := h.g 1 3 (by unfold dm; omega)
theorem RX.told (h : RX B A sd σ) : σ.2.2.1 0 26 = A 1 4 := h.g 1 4 (by unfold dm; omega)
theorem RX.seen (h : RX B A sd σ) : σ.2.2.1 0 28 = A 1 5 := h.g 1 5 (by unfold dm; omega)
theorem RX.text (h : RX B A sd σ) {j : Nat} (hj : j < 180) : σ.2.2.1 18 j = A 0 j := h.g 0 j (by unfold dm; omega)
theorem RX.size (h : RX B A sd σ) {w : Nat} (hw : w < nm A) : σ.2.2.1 (97 + 6 * w) 1 = A 2 w := h.g 2 w (by unfold dm; omega)
theorem RX.kind (h : RX B A sd σ) {w : Nat} (hw : w < nm A) : σ.2.2.1 (97 + 6 * w) 2 = A 3 w := h.g 3 w (by unfold dm; omega)
theorem RX.need (h : RX B A sd σ) {w x : Nat} (hw : w < nm A) (hx : x < 8) : σ.2.2.1 (97 + 6 * w + 2) x = A 4 (8 * w + x) := by
  have := h.g 4 (8 * w + x) (by unfold dm; omega)
  rw [show xA 4 (8 * w + x) = 97 + 6 * ((8 * w + x) / 8) + 2 from rfl, show xB 4 (8 * w + x) = (8 * w + x) % 8 from rfl, show (8 * w + x) / 8 = w by omega, show (8 * w + x) % 8 = x by omega] at this
  exact this
theorem RX.spelt (h : RX B A sd σ) {w k : Nat} (hw : w < nm A) (hk : k < sz A w) (hk6 : k < 6) : σ.2.2.1 (97 + 6 * w + 1) k = A 5 (6 * w + k) := by
  have e1 : (6 * w + k) / 6 = w := by omega
  have e2 : (6 * w + k) % 6 = k := by omega
  have := h.g 5 (6 * w + k) (by unfold dm; rw [e1, e2]; omega)
  rw [show xA 5 (6 * w + k) = 97 + 6 * ((6 * w + k) / 6) + 1 from rfl, show xB 5 (6 * w + k) = (6 * w + k) % 6 from rfl, e1, e2] at this
  exact this
theorem RX.row6 (h : RX B A sd σ) {j : Nat} (hj : j < 12) : σ.2.2.1 81 j = A 6 j := h.g 6 j (by unfold dm; omega)
theorem RX.sWhat (h : RX B A sd σ) {j : Nat} (hj : j < 6) : σ.2.2.1 83 j = A 7 j := h.g 7 j (by unfold dm; omega)
theorem RX.sOf (h : RX B A sd σ) {j : Nat} (hj : j < 6) : σ.2.2.1 84 j = A 8 j := h.g 8 j (by unfold dm; omega)
theorem RX.sWas (h : RX B A sd σ) {j : Nat} (hj : j < 6) : σ.2.2.1 85 j = A 9 j := h.g 9 j (by unfold dm; omega)
theorem RX.kept (h : RX B A sd σ) {j : Nat} (hj : j < 2) : σ.2.2.1 87 j = A 10 j := h.g 10 j (by unfold dm; omega)
theorem RX.now (h : RX B A sd σ) {j : Nat} (hj : j < 25) : rowOf σ 2 j = A 11 j := h.row_g (c := 11) (by omega) hj
theorem RX.bag (h : RX B A sd σ) {x : Nat} (hx : x < 8) : σ.2.2.1 3 x = A 11 x := by rw [← h.now (by omega), ro_bag hx]
theorem RX.barred (h : RX B A sd σ) : σ.2.2.1 2 1 = A 11 8 := by rw [← h.now (by omega), ro_barred]
theorem RX.ranks (h : RX B A sd σ) {w : Nat} (hw : w < 10) : σ.2.2.1 4 w = A 11 (9 + w) := by rw [← h.now (by omega), ro_ranks hw]
theorem RX.begins (h : RX B A sd σ) : σ.2.2.1 2 3 = A 11 19 := by rw [← h.now (by omega), ro_begins]
theorem RX.ends (h : RX B A sd σ) : σ.2.2.1 2 4 = A 11 20 := by rw [← h.now (by omega), ro_ends]
theorem RX.follows (h : RX B A sd σ) {k : Nat} (hk : k < 4) : σ.2.2.1 5 k = A 11 (21 + k) := by rw [← h.now (by omega), ro_follows]
theorem RMm.len (h : RMm B A sd σ) : σ.2.2.1 157 1 = A 1 0 := h.g 1 0 (by unfold dm; omega)
theorem RMm.many (h : RMm B A sd σ) : σ.2.2.1 157 2 = A 1 1 := h.g 1 1 (by unfold dm; omega)
theorem RMm.acts (h : RMm B A sd σ) : σ.2.2.1 157 10 = A 1 2 := h.g 1 2 (by unfold dm; omega)
theorem RMm.next (h : RMm B A sd σ) : σ.2.2.1 157 11 = A 1 3 := h.g 1 3 (by unfold dm; omega)
theorem RMm.told (h : RMm B A sd σ) : σ.2.2.1 157 15 = A 1 4 := h.g 1 4 (by unfold dm; omega)
theorem RMm.seen (h : RMm B A sd σ) : σ.2.2.1 157 19 = A 1 5 := h.g 1 5 (by unfold dm; omega)
theorem RMm.text (h : RMm B A sd σ) {j : Nat} (hj : j < 180) : σ.2.2.1 158 j = A 0 j := h.g 0 j (by unfold dm; omega)
theorem RMm.size (h : RMm B A sd σ) {w : Nat} (hw : w < nm A) : σ.2.2.1 160 w = A 2 w := h.g 2 w (by unfold dm; omega)
theorem RMm.kind (h : RMm B A sd σ) {w : Nat} (hw : w < nm A) : σ.2.2.1 161 w = A 3 w := h.g 3 w (by unfold dm; omega)
theorem RMm.need (h : RMm B A sd σ) {w x : Nat} (hw : w < nm A) (hx : x < 8) : σ.2.2.1 162 (8 * w + x) = A 4 (8 * w + x) := h.g 4 _ (by unfold dm; omega)
theorem RMm.spelt (h : RMm B A sd σ) {w k : Nat} (hw : w < nm A) (hk : k < sz A w) (hk6 : k < 6) : σ.2.2.1 159 (6 * w + k) = A 5 (6 * w + k) := by
  have e1 : (6 * w + k) / 6 = w := by omega
  have e2 : (6 * w + k) % 6 = k := by omega
  exact h.g 5 (6 * w + k) (by unfold dm; rw [e1, e2]; omega)
theorem RMm.row6 (h : RMm B A sd σ) {j : Nat} (hj : j < 12) : σ.2.2.1 168 j = A 6 j := h.g 6 j (by unfold dm; omega)
theorem RMm.sWhat (h : RMm B A sd σ) {j : Nat} (hj : j < 6) : σ.2.2.1 169 j = A 7 j := h.g 7 j (by unfold dm; omega)
theorem RMm.sOf (h : RMm B A sd σ) {j : Nat} (hj : j < 6) : σ.2.2.1 170 j = A 8 j := h.g 8 j (by unfold dm; omega)
theorem RMm.sWas (h : RMm B A sd σ) {j : Nat} (hj : j < 6) : σ.2.2.1 171 j = A 9 j := h.g 9 j (by unfold dm; omega)
theorem RMm.kept (h : RMm B A sd σ) {j : Nat} (hj : j < 2) : σ.2.2.1 167 j = A 10 j := h.g 10 j (by unfold dm; omega)
theorem RMm.now (h : RMm B A sd σ) {j : Nat} (hj : j < 25) : σ.2.2.1 163 j = A 11 j := h.g 11 j (by unfold dm; omega)
end Rd
/-- one way to show that what follows is well -/
theorem WFA.ch {A A' : Ab} (h : WFA A) (e1 : A' 1 1 = A 1 1 := by rfl) (e2 : A' 2 = A 2 := by rfl) (e3 : A' 3 = A 3 := by rfl) (e4 : A' 4 = A 4 := by rfl) (e5 : A' 5 = A 5 := by rfl)
    (len : A' 1 0 = A 1 0 ∨ ∃ n, n ≤ 180 ∧ A' 1 0 = nI n := by exact Or.inl rfl) (acts : A' 1 2 = A 1 2 ∨ ∃ n, n ≤ 14 ∧ A' 1 2 = nI n := by exact Or.inl rfl) (next : A' 1 3 = A 1 3 ∨ ∃ n, n < 14 ∧ A' 1 3 = nI n := by exact Or.inl rfl)
    (told : A' 1 4 = A 1 4 ∨ ∃ n, n ≤ 12 ∧ A' 1 4 = nI n := by exact Or.inl rfl) (seen : A' 1 5 = A 1 5 ∨ ∃ n, n ≤ 6 ∧ A' 1 5 = nI n := by exact Or.inl rfl)
    (row6 : (A' 1 4 = A 1 4 ∧ A' 6 = A 6) ∨ (∀ j, nI j < A' 1 4 → j < 12 → ∃ w, w < nm A ∧ A' 6 j = nI w) := by exact Or.inl ⟨rfl, rfl⟩)
    (now : A' 11 = A 11 ∨ WFr (nm A) (A' 11) := by exact Or.inl rfl)
    (diary : (A' 1 2 = A 1 2 ∧ A' 1 3 = A 1 3 ∧ ∀ i, i < 14 → A' (12 + i) = A (12 + i)) ∨ (∀ i, nI i < A' 1 2 → i < 14 → ∀ nx, nx < 14 → A' 1 3 = nI nx → WFr (nm A) (A' (12 + (nx + 13 - i) % 14))) := by exact Or.inl ⟨rfl, rfl, fun i hi => by simp (discharger := omega) only [up2_row, up1_n]⟩)
    (kept : (A' 10 = A 10 ∧ ∀ i, i < 2 → A' (26 + i) = A (26 + i)) ∨ (∀ i, i < 2 → ¬ A' 10 i = 0 → WFr (nm A) (A' (26 + i))) := by exact Or.inl ⟨rfl, fun i hi => by simp (discharger := omega) only [up2_row, up1_n]⟩)
    (text : A' 0 = A 0 ∨ (∀ j, j < 180 → ∃ t, t < 256 ∧ A' 0 j = nI t) := by exact Or.inl rfl)
    (kb : A' 10 = A 10 ∨ (∀ i, i < 2 → A' 10 i = 0 ∨ A' 10 i = 1) := by exact Or.inl rfl) : WFA A' := by
  obtain ⟨h1, h2, h3, h4, h5, h6, h7, h8, h9, h10, h11, h12, h13⟩ := h
  have en : nm A' = nm A := by unfold nm; rw [e1]
  have es : ∀ w, sz A' w = sz A w := fun w => by unfold sz; rw [e2]
  refine ⟨by rw [en, e1]; exact h1, ?_, ?_, ?_, ?_, ?_, ?_, ?_, ?_, ?_, ?_, ?_, ?_⟩
  · rcases len with q | q
    · rw [q]; exact h2
    · exact q
  · rcases acts with q | q
    · rw [q]; exact h3
    · exact q
  · rcases next with q | q
    · rw [q]; exact h4
    · exact q
  · rcases told with q | q
    · rw [q]; exact h5
    · exact q
  · rcases seen with q | q
    · rw [q]; exact h6
    · exact q
  · intro w hw
    rw [en] at hw
    rw [e2, e3, e4, e5, es]
    exact h7 w hw
  · rw [en]
    rcases row6 with q | q
    · rw [q.1, q.2]; exact h8
    · exact q
  · rw [en]
    rcases now with q | q
    · rw [q]; exact h9
    · exact q
  · rw [en]
    rcases diary with q | q
    · rw [q.1, q.2.1]
      intro i a b nx c d
      rw [q.2.2 _ (by omega)]
      exact h10 i a b nx c d
    · exact q
  · rw [en]
    rcases kept with q | q
    · rw [q.1]
      intro i a b
      rw [q.2 i a]
      exact h11 i a b
    · exact q
  · rcases text with q | q
    · rw [q]; exact h12
    · exact q
  · rcases kb with q | q
    · rw [q]; exact h13
    · exact q
