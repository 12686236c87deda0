/-! ===== the problem, purely: words, a row, which words; numbers to unlike bases ===== -/
abbrev Pb : Type := Nat × (Nat → Nat → Nat) × (Nat → Nat) × (Nat → Int32) × (Nat → Bool)
def bg (f : Nat → Int32) (x : Nat) : Nat := (f x).toNatClampNeg
def bs (f : Nat → Int32) : Nat → Nat
  | 0 => 1
  | x + 1 => bs f x * (bg f x + 1)
def dg (f : Nat → Int32) (r x : Nat) : Nat := r / bs f x % (bg f x + 1)
def va (f : Nat → Int32) (v : Nat → Nat) : Nat → Nat
  | 0 => 0
  | m + 1 => va f v m + v m * bs f m
def sm (v : Nat → Nat) : Nat → Nat
  | 0 => 0
  | m + 1 => sm v m + v m
theorem bs_pos (f : Nat → Int32) : ∀ x, 0 < bs f x
  | 0 => Nat.one_pos
  | x + 1 => Nat.mul_pos (bs_pos f x) (Nat.succ_pos _)
theorem bs_dvd (f : Nat → Int32) {x : Nat} : ∀ {m : Nat}, x < m → ∃ c, bs f m = bs f x * (bg f x + 1) * c
  | 0, h => absurd h (by omega)
  | m + 1, h => by
    by_cases e : x = m
    · subst e; exact ⟨1, by rw [Nat.mul_one]; rfl⟩
    · obtain ⟨c, hc⟩ := bs_dvd f (x := x) (m := m) (by omega)
      exact ⟨c * (bg f m + 1), by show bs f m * (bg f m + 1) = _; rw [hc, Nat.mul_assoc]⟩
theorem va_lt (f : Nat → Int32) (v : Nat → Nat) : ∀ m, (∀ x, x < m → v x ≤ bg f x) → va f v m < bs f m
  | 0, _ => Nat.one_pos
  | m + 1, h => by
    have h1 := va_lt f v m (fun x hx => h x (by omega))
    have h2 : v m * bs f m ≤ bg f m * bs f m := Nat.mul_le_mul_right _ (h m (by omega))
    show va f v m + v m * bs f m < bs f m * (bg f m + 1)
    rw [Nat.mul_add, Nat.mul_one, Nat.mul_comm (bs f m)]
    omega
theorem dg_va (f : Nat → Int32) (v : Nat → Nat) {x : Nat} : ∀ m, (∀ x, x < m → v x ≤ bg f x) → x < m → dg f (va f v m) x = v x
  | 0, _, h => absurd h (by omega)
  | m + 1, h, hx => by
    have hl := va_lt f v m (fun x hx => h x (by omega))
    by_cases e : x = m
    · subst e
      show (va f v x + v x * bs f x) / bs f x % (bg f x + 1) = v x
      rw [Nat.add_mul_div_right _ _ (bs_pos f x), Nat.div_eq_of_lt hl, Nat.zero_add, Nat.mod_eq_of_lt]
      have := h x (by omega)
      omega
    · obtain ⟨c, hc⟩ := bs_dvd f (x := x) (m := m) (by omega)
      have ih := dg_va f v (x := x) m (fun x hx => h x (by omega)) (by omega)
      show (va f v m + v m * bs f m) / bs f x % (bg f x + 1) = v x
      have e2 : v m * bs f m = (v m * c * (bg f x + 1)) * bs f x := by
        rw [hc]
        simp only [Nat.mul_comm, Nat.mul_left_comm, Nat.mul_assoc]
      rw [e2, Nat.add_mul_div_right _ _ (bs_pos f x), Nat.add_mul_mod_self_right]
      exact ih
theorem va_dg (f : Nat → Int32) (r : Nat) : ∀ m, va f (dg f r) m = r % bs f m
  | 0 => by show 0 = r % 1; omega
  | m + 1 => by
    show va f (dg f r) m + r / bs f m % (bg f m + 1) * bs f m = r % (bs f m * (bg f m + 1))
    rw [va_dg f r m, Nat.mod_mul, Nat.mul_comm (r / bs f m % (bg f m + 1))]
theorem va_mono (f : Nat → Int32) (v u : Nat → Nat) : ∀ m, (∀ x, x < m → v x ≤ u x) → va f v m ≤ va f u m
  | 0, _ => Nat.le_refl _
  | m + 1, h => Nat.add_le_add (va_mono f v u m (fun x hx => h x (by omega))) (Nat.mul_le_mul_right _ (h m (by omega)))
theorem va_sub (f : Nat → Int32) (v u : Nat → Nat) : ∀ m, (∀ x, x < m → v x ≤ u x) → va f (fun x => u x - v x) m + va f v m = va f u m
  | 0, _ => rfl
  | m + 1, h => by
    have h1 := va_sub f v u m (fun x hx => h x (by omega))
    have h2 : (u m - v m) * bs f m + v m * bs f m = u m * bs f m := by rw [← Nat.add_mul, Nat.sub_add_cancel (h m (by omega))]
    show va f (fun x => u x - v x) m + (u m - v m) * bs f m + (va f v m + v m * bs f m) = va f u m + u m * bs f m
    omega
theorem dg_le (f : Nat → Int32) (r x : Nat) : dg f r x ≤ bg f x := Nat.le_of_lt_succ (Nat.mod_lt _ (Nat.succ_pos _))
theorem va_pos (f : Nat → Int32) (v : Nat → Nat) {x : Nat} (hx : 1 ≤ v x) : ∀ m, x < m → 1 ≤ va f v m
  | 0, h => absurd h (by omega)
  | m + 1, h => by
    show 1 ≤ va f v m + v m * bs f m
    by_cases e : x = m
    · subst e
      have : 1 * 1 ≤ v x * bs f x := Nat.mul_le_mul hx (bs_pos f x)
      omega
    · have := va_pos f v hx m (by omega)
      omega
theorem sm_sub (v u : Nat → Nat) : ∀ m, (∀ x, x < m → v x ≤ u x) → sm (fun x => u x - v x) m + sm v m = sm u m
  | 0, _ => rfl
  | m + 1, h => by
    have h1 := sm_sub v u m (fun x hx => h x (by omega))
    have h2 := h m (by omega)
    show sm (fun x => u x - v x) m + (u m - v m) + (sm v m + v m) = sm u m + u m
    omega
theorem sm_congr {v u : Nat → Nat} : ∀ m, (∀ x, x < m → v x = u x) → sm v m = sm u m
  | 0, _ => rfl
  | m + 1, h => by show sm v m + v m = sm u m + u m; rw [sm_congr m (fun x hx => h x (by omega)), h m (by omega)]
theorem sm_mono {v u : Nat → Nat} : ∀ m, (∀ x, x < m → v x ≤ u x) → sm v m ≤ sm u m
  | 0, _ => Nat.le_refl _
  | m + 1, h => Nat.add_le_add (sm_mono m (fun x hx => h x (by omega))) (h m (by omega))
theorem sm_ge {v : Nat → Nat} {x : Nat} : ∀ m, x < m → v x ≤ sm v m
  | 0, h => absurd h (by omega)
  | m + 1, h => by
    show v x ≤ sm v m + v m
    by_cases e : x = m
    · subst e; omega
    · have := sm_ge (v := v) (x := x) m (by omega)
      omega
theorem va_0 (f : Nat → Int32) (v : Nat → Nat) : ∀ m, (∀ x, x < m → v x = 0) → va f v m = 0
  | 0, _ => rfl
  | m + 1, h => by show va f v m + v m * bs f m = 0; rw [va_0 f v m (fun x hx => h x (by omega)), h m (by omega)]; omega
/-- the greatest product of m numbers that are s in all, each with one added: a table -/
def gpT : List (List Nat) := [[1, 1, 1, 1, 1, 1, 1, 1, 1, 1, 1, 1, 1, 1], [1, 2, 3, 4, 5, 6, 7, 8, 9, 10, 11, 12, 13, 14], [1, 2, 4, 6, 9, 12, 16, 20, 25, 30, 36, 42, 49, 56], [1, 2, 4, 8, 12, 18, 27, 36, 48, 64, 80, 100, 125, 150], [1, 2, 4, 8, 16, 24, 36, 54, 81, 108, 144, 192, 256, 320], [1, 2, 4, 8, 16, 32, 48, 72, 108, 162, 243, 324, 432, 576], [1, 2, 4, 8, 16, 32, 64, 96, 144, 216, 324, 486, 729, 972], [1, 2, 4, 8, 16, 32, 64, 128, 192, 288, 432, 648, 972, 1458], [1, 2, 4, 8, 16, 32, 64, 128, 256, 384, 576, 864, 1296, 1944]]
def gp (m s : Nat) : Nat := (gpT.getD m []).getD s 0
theorem gp_ok : ∀ m, m < 8 → ∀ s, s < 14 → ∀ b, b < 14 → b ≤ s → (b + 1) * gp m (s - b) ≤ gp (m + 1) s := by decide +kernel
theorem gp_0 : ∀ s, s < 14 → gp 0 s = 1 := by decide +kernel
theorem gp_le (f : Nat → Int32) : ∀ (m s : Nat), m ≤ 8 → s < 14 → sm (bg f) m ≤ s → bs f m ≤ gp m s
  | 0, s, _, h, _ => by rw [gp_0 s h]; exact Nat.le_refl _
  | m + 1, s, h8, h14, h => by
    have h0 : sm (bg f) m + bg f m ≤ s := h
    have h1 := gp_le f m (s - bg f m) (by omega) (by omega) (by omega)
    have h2 := gp_ok m (by omega) s h14 (bg f m) (by omega) (by omega)
    show bs f m * (bg f m + 1) ≤ gp (m + 1) s
    refine Nat.le_trans ?_ h2
    rw [Nat.mul_comm]
    exact Nat.mul_le_mul_left _ h1
/-! the words -/
def stp (P : Pb) (w : Nat) : Nat := va P.2.2.2.1 (P.2.1 w) 8
def fitB (P : Pb) (w r : Nat) : Bool := fo (fun x b => b && decide (P.2.1 w x ≤ dg P.2.2.2.1 r x)) true 8
theorem fo_and {p : Nat → Bool} : ∀ n, (fo (fun x b => b && p x) true n = true) ↔ ∀ x, x < n → p x = true
  | 0 => ⟨fun _ x hx => absurd hx (by omega), fun _ => rfl⟩
  | n + 1 => by
    show (fo (fun x b => b && p x) true n && p n) = true ↔ _
    rw [Bool.and_eq_true, fo_and n]
    constructor
    · rintro ⟨h1, h2⟩ x hx
      by_cases e : x = n
      · subst e; exact h2
      · exact h1 x (by omega)
    · exact fun h => ⟨fun x hx => h x (by omega), h n (by omega)⟩
theorem fit_iff (P : Pb) (w r : Nat) : fitB P w r = true ↔ ∀ x, x < 8 → P.2.1 w x ≤ dg P.2.2.2.1 r x := by
  rw [fitB, fo_and]
  exact ⟨fun h x hx => of_decide_eq_true (h x hx), fun h x hx => decide_eq_true (h x hx)⟩
def mayB (P : Pb) (w r k : Nat) : Bool := (P.2.2.2.2 w && hasB (if k = 4 then P.2.2.2.1 19 else P.2.2.2.1 (21 + k)) (nI (P.2.2.1 w))) && fitB P w r
theorem may_fit {P : Pb} {w r k : Nat} (h : mayB P w r k = true) : fitB P w r = true := (Bool.and_eq_true _ _ ▸ h).2
def endB (P : Pb) (k : Nat) : Bool := decide (k < 4) && hasB (P.2.2.2.1 20) (nI k)
/-- at most ten words, of six letters at most and one at least; numbers of letters, thirteen at most -/
def WFP (P : Pb) : Prop := P.1 ≤ 10 ∧ (∀ w, w < P.1 → P.2.2.1 w < 4 ∧ (∀ x, x < 8 → P.2.1 w x ≤ 6) ∧ ∃ x, x < 8 ∧ 1 ≤ P.2.1 w x) ∧ (∀ x, x < 8 → P.2.2.2.1 x = nI (bg P.2.2.2.1 x)) ∧ sm (bg P.2.2.2.1) 8 ≤ 13
def nS (P : Pb) : Nat := bs P.2.2.2.1 8
theorem nS_pos (P : Pb) : 0 < nS P := bs_pos _ 8
theorem nS_le {P : Pb} (h : WFP P) : nS P ≤ 1944 := gp_le _ 8 13 (by decide) (by decide) h.2.2.2
theorem stp_pos {P : Pb} (h : WFP P) {w : Nat} (hw : w < P.1) : 1 ≤ stp P w := by
  obtain ⟨-, -, x, hx, h1⟩ := h.2.1 w hw
  exact va_pos _ _ h1 8 hx
theorem stp_le {P : Pb} {w r : Nat} (h : fitB P w r = true) : stp P w ≤ r := by
  have h1 := va_mono P.2.2.2.1 (P.2.1 w) (dg P.2.2.2.1 r) 8 ((fit_iff P w r).mp h)
  rw [va_dg] at h1
  exact Nat.le_trans h1 (Nat.mod_le _ _)
theorem dg_sub {P : Pb} {w r : Nat} (h : fitB P w r = true) (hr : r < nS P) {x : Nat} (hx : x < 8) : dg P.2.2.2.1 (r - stp P w) x = dg P.2.2.2.1 r x - P.2.1 w x := by
  have h0 := (fit_iff P w r).mp h
  have h1 := va_sub P.2.2.2.1 (P.2.1 w) (dg P.2.2.2.1 r) 8 h0
  rw [va_dg, show r % bs P.2.2.2.1 8 = r from Nat.mod_eq_of_lt hr] at h1
  have h2 : r - stp P w = va P.2.2.2.1 (fun x => dg P.2.2.2.1 r x - P.2.1 w x) 8 := by
    have : stp P w = va P.2.2.2.1 (P.2.1 w) 8 := rfl
    omega
  rw [h2]
  exact dg_va _ _ 8 (fun y _ => Nat.le_trans (Nat.sub_le _ _) (dg_le _ _ _)) hx
/-- the sum of the figures -/
def ds (P : Pb) (r : Nat) : Nat := sm (dg P.2.2.2.1 r) 8
theorem ds_sub {P : Pb} {w r : Nat} (hP : WFP P) (hw : w < P.1) (h : fitB P w r = true) (hr : r < nS P) : ds P (r - stp P w) + 1 ≤ ds P r := by
  have h1 := sm_sub (P.2.1 w) (dg P.2.2.2.1 r) 8 ((fit_iff P w r).mp h)
  have h2 : ds P (r - stp P w) = sm (fun x => dg P.2.2.2.1 r x - P.2.1 w x) 8 := sm_congr 8 (fun x hx => dg_sub h hr hx)
  obtain ⟨-, -, x, hx, h3⟩ := hP.2.1 w hw
  have h4 := sm_ge (v := P.2.1 w) (x := x) 8 hx
  have h5 : ds P r = sm (dg P.2.2.2.1 r) 8 := rfl
  omega
theorem ds_le {P : Pb} (hP : WFP P) (r : Nat) : ds P r ≤ 13 := Nat.le_trans (sm_mono 8 (fun x _ => dg_le _ _ _)) hP.2.2.2
/-! how many rows use up a number behind a kind -/
def cn (P : Pb) : Nat → Nat → Nat → Nat
  | 0, r, k => if r = 0 then (if endB P k = true then 1 else 0) else 0
  | q + 1, r, k => if r = 0 then (if endB P k = true then 1 else 0) else fo (fun w a => a + if mayB P w r k = true then cn P q (r - stp P w) (P.2.2.1 w) else 0) 0 P.1
def cnt (P : Pb) (r k : Nat) : Nat := cn P r r k
theorem cn_0 (P : Pb) (q k : Nat) : cn P q 0 k = if endB P k = true then 1 else 0 := by cases q <;> simp [cn]
theorem cn_fuel {P : Pb} (hP : WFP P) : ∀ (r q k : Nat), r ≤ q → cn P q r k = cn P r r k := by
  intro r
  induction r using Nat.strongRecOn with
  | ind r ih =>
    intro q k h
    cases r with
    | zero => rw [cn_0, cn_0]
    | succ r =>
      obtain ⟨q, rfl⟩ : ∃ q', q = q' + 1 := ⟨q - 1, by omega⟩
      show (if r + 1 = 0 then _ else _) = (if r + 1 = 0 then _ else _)
      rw [if_neg (by omega), if_neg (by omega)]
      refine fo_congr _ (fun w a hw => ?_)
      by_cases hm : mayB P w (r + 1) k = true
      · rw [if_pos hm, if_pos hm]
        have h1 := stp_pos hP hw
        rw [ih (r + 1 - stp P w) (by omega) q _ (by omega), ih (r + 1 - stp P w) (by omega) r _ (by omega)]
      · rw [if_neg hm, if_neg hm]
/-- what a word adds -/
def cw (P : Pb) (r k w : Nat) : Nat := if mayB P w r k = true then cnt P (r - stp P w) (P.2.2.1 w) else 0
theorem cnt_0 (P : Pb) (k : Nat) : cnt P 0 k = if endB P k = true then 1 else 0 := cn_0 P 0 k
theorem cnt_s {P : Pb} (hP : WFP P) {r : Nat} (k : Nat) (hr : 0 < r) : cnt P r k = sm (cw P r k) P.1 := by
  obtain ⟨r, rfl⟩ : ∃ r', r = r' + 1 := ⟨r - 1, by omega⟩
  have e : ∀ n, n ≤ P.1 → fo (fun w a => a + if mayB P w (r + 1) k = true then cn P r (r + 1 - stp P w) (P.2.2.1 w) else 0) 0 n = sm (cw P (r + 1) k) n := by
    intro n
    induction n with
    | zero => intro _; rfl
    | succ n ih =>
      intro h
      show fo _ 0 n + _ = sm _ n + cw P (r + 1) k n
      rw [ih (by omega), cw]
      by_cases hm : mayB P n (r + 1) k = true
      · rw [if_pos hm, if_pos hm]
        have h1 := stp_pos hP (show n < P.1 by omega)
        rw [cn_fuel hP _ r _ (by omega)]
        rfl
      · rw [if_neg hm, if_neg hm]
  rw [cnt, cn, if_neg (by omega)]
  exact e P.1 (Nat.le_refl _)
theorem sm_le_mul {v : Nat → Nat} {c : Nat} : ∀ m, (∀ x, x < m → v x ≤ c) → sm v m ≤ m * c
  | 0, _ => Nat.zero_le _
  | m + 1, h => by
    have h1 := sm_le_mul (v := v) (c := c) m (fun x hx => h x (by omega))
    have h2 := h m (by omega)
    show sm v m + v m ≤ (m + 1) * c
    rw [Nat.add_mul, Nat.one_mul]
    omega
theorem cnt_le {P : Pb} (hP : WFP P) : ∀ (r k : Nat), r < nS P → cnt P r k ≤ 10 ^ ds P r := by
  intro r
  induction r using Nat.strongRecOn with
  | ind r ih =>
    intro k hr
    by_cases h0 : r = 0
    · subst h0
      rw [cnt_0]
      have : 1 ≤ 10 ^ ds P 0 := Nat.pos_of_ne_zero (by simp)
      split <;> omega
    · rw [cnt_s hP k (by omega)]
      by_cases hd : ds P r = 0
      · have : ∀ w, w < P.1 → cw P r k w ≤ 0 := by
          intro w hw
          unfold cw
          by_cases hm : mayB P w r k = true
          · have := ds_sub hP hw (may_fit hm) hr
            omega
          · rw [if_neg hm]; exact Nat.le_refl _
        have := sm_le_mul P.1 this
        rw [Nat.mul_zero] at this
        exact Nat.le_trans this (Nat.zero_le _)
      · obtain ⟨d, hd'⟩ : ∃ d, ds P r = d + 1 := ⟨ds P r - 1, by omega⟩
        have h2 : ∀ w, w < P.1 → cw P r k w ≤ 10 ^ d := by
          intro w hw
          unfold cw
          by_cases hm : mayB P w r k = true
          · rw [if_pos hm]
            have h3 := ds_sub hP hw (may_fit hm) hr
            have h4 := stp_pos hP hw
            refine Nat.le_trans (ih (r - stp P w) (by omega) _ (by omega)) (Nat.pow_le_pow_right (by omega) (by omega))
          · rw [if_neg hm]; exact Nat.zero_le _
        refine Nat.le_trans (sm_le_mul P.1 h2) ?_
        rw [hd', Nat.pow_succ, Nat.mul_comm]
        exact Nat.mul_le_mul_left _ hP.1
theorem cnt_b {P : Pb} (hP : WFP P) {r : Nat} (k : Nat) (hr : r < nS P) : cnt P r k ≤ 10000000000000 := Nat.le_trans (cnt_le hP r k hr) (Nat.le_trans (Nat.pow_le_pow_right (by omega) (ds_le hP r)) (by decide))
/-- how many phrases there are -/
def tot (P : Pb) : Nat := if nS P = 1 then 0 else cnt P (nS P - 1) 4
