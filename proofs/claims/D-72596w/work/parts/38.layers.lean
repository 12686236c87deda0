/-! ===== rows of just so many words ===== -/
def gJ (P : Pb) : Nat → Nat → Nat → Nat
  | 0, r, k => if r = 0 ∧ endB P k = true then 1 else 0
  | j + 1, r, k => sm (fun w => if mayB P w r k = true then gJ P j (r - stp P w) (P.2.2.1 w) else 0) P.1
theorem gJ_z {P : Pb} (hP : WFP P) (j k : Nat) : gJ P (j + 1) 0 k = 0 := by
  have : ∀ w, w < P.1 → (if mayB P w 0 k = true then gJ P j (0 - stp P w) (P.2.2.1 w) else 0) ≤ 0 := by
    intro w hw
    by_cases hm : mayB P w 0 k = true
    · have := stp_le (may_fit hm)
      have := stp_pos hP hw
      omega
    · rw [if_neg hm]; exact Nat.le_refl _
  have h := sm_le_mul P.1 this
  rw [Nat.mul_zero] at h
  exact Nat.le_zero.mp h
theorem gJ_le {P : Pb} (hP : WFP P) : ∀ (j r k : Nat), gJ P j r k ≤ 10 ^ j
  | 0, r, k => by show (if _ then 1 else 0) ≤ 1; split <;> omega
  | j + 1, r, k => by
    have : ∀ w, w < P.1 → (if mayB P w r k = true then gJ P j (r - stp P w) (P.2.2.1 w) else 0) ≤ 10 ^ j := by
      intro w hw
      split
      · exact gJ_le hP j _ _
      · exact Nat.zero_le _
    refine Nat.le_trans (sm_le_mul P.1 this) ?_
    rw [Nat.pow_succ, Nat.mul_comm]
    exact Nat.mul_le_mul_left _ hP.1
/-- the sum of what lies in a layer, weighed -/
def wt (F h : Nat → Nat) : Nat → Nat
  | 0 => 0
  | m + 1 => wt F h m + F m * h m
def upN (F : Nat → Nat) (a v : Nat) : Nat → Nat := fun i => if i = a then v else F i
theorem wt_congr {F G h h' : Nat → Nat} : ∀ m, (∀ i, i < m → F i = G i ∧ h i = h' i) → wt F h m = wt G h' m
  | 0, _ => rfl
  | m + 1, e => by show wt F h m + F m * h m = wt G h' m + G m * h' m; rw [wt_congr m (fun i hi => e i (by omega)), (e m (by omega)).1, (e m (by omega)).2]
theorem wt_up (F h : Nat → Nat) {a c : Nat} : ∀ m, a < m → wt (upN F a (F a + c)) h m = wt F h m + c * h a
  | 0, ha => absurd ha (by omega)
  | m + 1, ha => by
    show wt (upN F a (F a + c)) h m + upN F a (F a + c) m * h m = wt F h m + F m * h m + c * h a
    by_cases e : a = m
    · subst e
      have e1 : wt (upN F a (F a + c)) h a = wt F h a := wt_congr a (fun i hi => ⟨by unfold upN; rw [if_neg (by omega)], rfl⟩)
      have e2 : upN F a (F a + c) a = F a + c := by unfold upN; rw [if_pos rfl]
      rw [e1, e2, Nat.add_mul, Nat.add_assoc]
    · have ih := wt_up F h (a := a) (c := c) m (by omega)
      have e2 : upN F a (F a + c) m = F m := by unfold upN; rw [if_neg (fun q => e q.symm)]
      rw [ih, e2]
      omega
theorem wt_0 (h : Nat → Nat) : ∀ m, wt (fun _ => 0) h m = 0
  | 0 => rfl
  | m + 1 => by show wt (fun _ => 0) h m + 0 * h m = 0; rw [wt_0 h m]; omega
theorem wt_ge {F : Nat → Nat} {i : Nat} : ∀ m, i < m → F i ≤ wt F (fun _ => 1) m
  | 0, h => absurd h (by omega)
  | m + 1, h => by
    show F i ≤ wt F (fun _ => 1) m + F m * 1
    by_cases e : i = m
    · subst e; omega
    · have := wt_ge (F := F) (i := i) m (by omega)
      omega
theorem wt_mono {F h h' : Nat → Nat} : ∀ m, (∀ i, i < m → h i ≤ h' i) → wt F h m ≤ wt F h' m
  | 0, _ => Nat.le_refl _
  | m + 1, e => Nat.add_le_add (wt_mono m (fun i hi => e i (by omega))) (Nat.mul_le_mul_left _ (e m (by omega)))
theorem wt_mul {F : Nat → Nat} (c : Nat) : ∀ m, wt F (fun _ => c) m = c * wt F (fun _ => 1) m
  | 0 => rfl
  | m + 1 => by
    show wt F (fun _ => c) m + F m * c = c * (wt F (fun _ => 1) m + F m * 1)
    rw [wt_mul c m, Nat.mul_one, Nat.mul_add, Nat.mul_comm (F m)]
/-- one word more -/
def tr (P : Pb) (h : Nat → Nat) (i : Nat) : Nat := sm (fun w => if mayB P w (i / 4) (i % 4) = true then h (4 * (i / 4 - stp P w) + P.2.2.1 w) else 0) P.1
def hJ (P : Pb) (j i : Nat) : Nat := gJ P j (i / 4) (i % 4)
theorem tr_hJ {P : Pb} (hP : WFP P) (j i : Nat) : tr P (hJ P j) i = hJ P (j + 1) i := by
  unfold tr hJ
  show _ = sm _ P.1
  refine sm_congr P.1 (fun w hw => ?_)
  have hk := (hP.2.1 w hw).1
  rw [show (4 * (i / 4 - stp P w) + P.2.2.1 w) / 4 = i / 4 - stp P w by omega, show (4 * (i / 4 - stp P w) + P.2.2.1 w) % 4 = P.2.2.1 w by omega]
theorem tr_le {P : Pb} (hP : WFP P) (i : Nat) : tr P (fun _ => 1) i ≤ 10 := by
  unfold tr
  refine Nat.le_trans (sm_le_mul (c := 1) P.1 (fun w hw => ?_)) (by have := hP.1; omega)
  split
  · exact Nat.le_refl _
  · exact Nat.zero_le _
theorem tr_z {P : Pb} (hP : WFP P) (h : Nat → Nat) {i : Nat} (hi : i < 4) : tr P h i = 0 := by
  unfold tr
  have : ∀ w, w < P.1 → (if mayB P w (i / 4) (i % 4) = true then h (4 * (i / 4 - stp P w) + P.2.2.1 w) else 0) ≤ 0 := by
    intro w hw
    rw [show i / 4 = 0 by omega]
    by_cases hm : mayB P w 0 (i % 4) = true
    · have := stp_le (may_fit hm)
      have := stp_pos hP hw
      omega
    · rw [if_neg hm]; exact Nat.le_refl _
  have h := sm_le_mul P.1 this
  rw [Nat.mul_zero] at h
  exact Nat.le_zero.mp h
/-- the t-th layer -/
def LyF (P : Pb) (t : Nat) (F : Nat → Nat) : Prop := (∀ j, wt F (hJ P j) (4 * nS P) = gJ P (t + j) (nS P - 1) 4) ∧ wt F (fun _ => 1) (4 * nS P) ≤ 10 ^ t
theorem LyF.next {P : Pb} (hP : WFP P) {t : Nat} {F N : Nat → Nat} (hF : LyF P t F) (hN : ∀ h, wt N h (4 * nS P) = wt F (tr P h) (4 * nS P)) : LyF P (t + 1) N := by
  refine ⟨fun j => ?_, ?_⟩
  · rw [hN, wt_congr (G := F) (h' := hJ P (j + 1)) _ (fun i _ => ⟨rfl, tr_hJ hP j i⟩), hF.1, Nat.add_right_comm]
    rfl
  · rw [hN]
    refine Nat.le_trans (wt_mono (h' := fun _ => 10) _ (fun i _ => tr_le hP i)) ?_
    rw [wt_mul, Nat.pow_succ, Nat.mul_comm]
    exact Nat.mul_le_mul_right _ hF.2
theorem LyF.ended {P : Pb} {t : Nat} {F : Nat → Nat} (hF : LyF P t F) : sm (fun k => if hasB (P.2.2.2.1 20) (nI k) = true then F k else 0) 4 = gJ P t (nS P - 1) 4 := by
  have h := hF.1 0
  rw [Nat.add_zero] at h
  rw [← h]
  have hp := nS_pos P
  have key : ∀ m, 4 ≤ m → wt F (hJ P 0) m = wt F (hJ P 0) 4 := by
    intro m hm
    induction m with
    | zero => omega
    | succ m ih =>
      by_cases e : m + 1 = 4
      · rw [e]
      · show wt F (hJ P 0) m + F m * hJ P 0 m = _
        have hz : hJ P 0 m = 0 := by
          show (if m / 4 = 0 ∧ _ then 1 else 0) = 0
          rw [if_neg (fun q => by omega)]
        rw [ih (by omega), hz, Nat.mul_zero, Nat.add_zero]
  rw [key _ (by omega)]
  have e : ∀ k, k < 4 → F k * hJ P 0 k = if hasB (P.2.2.2.1 20) (nI k) = true then F k else 0 := by
    intro k hk
    have hz : hJ P 0 k = if hasB (P.2.2.2.1 20) (nI k) = true then 1 else 0 := by
      show (if k / 4 = 0 ∧ endB P (k % 4) = true then 1 else 0) = _
      rw [show k % 4 = k by omega, endB, decide_eq_true hk, Bool.true_and]
      by_cases hb : hasB (P.2.2.2.1 20) (nI k) = true
      · rw [if_pos ⟨by omega, hb⟩, if_pos hb]
      · rw [if_neg (fun q => hb q.2), if_neg hb]
    rw [hz]
    split <;> omega
  show 0 + _ + _ + _ + _ = 0 + _ + _ + _ + _
  rw [e 0 (by omega), e 1 (by omega), e 2 (by omega), e 3 (by omega)]
/-- the least and the greatest number of words -/
def lenS (p : Nat → Bool) (most : Bool) (i : Nat) (a : Int32) : Int32 := if p (i + 1) = true ∧ (most = true ∨ a = -9) then nI (i + 1) else a
def lenM (p : Nat → Bool) (most : Bool) (i : Nat) (a : Int32) : Int32 := if p (i + 1) = true ∧ (most = false ∨ a = -9) then nI (i + 1) else a
theorem lenM_t {p : Nat → Bool} : ∀ (n : Nat) (a : Int32), n < 100 → fd (lenM p true) n a = if a = -9 then fo (lenS p true) (-9) n else a
  | 0, a, _ => by show a = if a = -9 then -9 else a; by_cases h : a = -9 <;> simp [h]
  | n + 1, a, hn => by
    show fd (lenM p true) n (lenM p true n a) = _
    rw [lenM_t n _ (by omega)]
    show _ = if a = -9 then lenS p true n (fo (lenS p true) (-9) n) else a
    unfold lenM lenS
    have h9 := m9_ne (v := n + 1) (by omega)
    by_cases hp : p (n + 1) = true
    · by_cases ha : a = -9
      · simp [hp, ha, h9]
      · simp [hp, ha]
    · simp [hp]
theorem lenM_f {p : Nat → Bool} : ∀ (n : Nat) (a : Int32), n < 100 → fd (lenM p false) n a = if fo (lenS p false) (-9) n = -9 then a else fo (lenS p false) (-9) n
  | 0, a, _ => by show a = if (-9 : Int32) = -9 then a else -9; simp
  | n + 1, a, hn => by
    show fd (lenM p false) n (lenM p false n a) = _
    rw [lenM_f n _ (by omega)]
    show _ = if lenS p false n (fo (lenS p false) (-9) n) = -9 then a else lenS p false n (fo (lenS p false) (-9) n)
    generalize fo (lenS p false) (-9) n = b
    unfold lenM lenS
    have h9 := m9_ne (v := n + 1) (by omega)
    by_cases hp : p (n + 1) = true
    · by_cases hb : b = -9
      · simp [hp, hb, h9]
      · simp [hp, hb]
    · simp [hp]
theorem len_eq {p : Nat → Bool} (most : Bool) : fd (lenM p most) 12 (-9) = fo (lenS p most) (-9) 12 := by
  cases most with
  | true => rw [lenM_t 12 _ (by omega), if_pos rfl]
  | false =>
    rw [lenM_f 12 _ (by omega)]
    split
    · rename_i h; exact h.symm
    · rfl
