/-! ===== changes of a row; the diary ===== -/
section RowC
variable {B : Bs} {σ σ' : Mem} {A : Ab} {sd : Int64}
def upf (f : Nat → Int32) (j : Nat) (v : Int32) : Nat → Int32 := fun i => if i = j then v else f i
theorem upf_s {f : Nat → Int32} {j : Nat} {v : Int32} : upf f j v j = v := by simp [upf]
theorem upf_n {f : Nat → Int32} {j i : Nat} {v : Int32} (h : i ≠ j) : upf f j v i = f i := by simp [upf, h]
theorem up2_f {A : Ab} {c j : Nat} {v : Int32} : (up2 A c j v) c = upf (A c) j v := by funext i; simp [up2, upf]
def bagS (f : Nat → Int32) : Int32 := fo (fun x n => n + f x) 0 8
theorem fo_sm (f : Nat → Int32) : ∀ n, (∀ x, x < n → f x = nI (bg f x)) → fo (fun x n => n + f x) 0 n = nI (sm (bg f) n)
  | 0, _ => rfl
  | n + 1, h => by
    show fo (fun x n => n + f x) 0 n + f n = nI (sm (bg f) n + bg f n)
    rw [fo_sm f n (fun x hx => h x (by omega)), h n (by omega), nI_add]
theorem bagS_nI {f : Nat → Int32} (h : ∀ x, x < 8 → f x = nI (bg f x)) : bagS f = nI (sm (bg f) 8) := fo_sm f 8 h
theorem sm_at {v u : Nat → Nat} {x : Nat} : ∀ m, x < m → (∀ y, y ≠ x → u y = v y) → sm u m + v x = sm v m + u x
  | 0, h, _ => by omega
  | m + 1, h, he => by
    show sm u m + u m + v x = sm v m + v m + u x
    by_cases e : x = m
    · subst e
      rw [sm_congr (v := u) (u := v) x (fun y hy => he y (by omega))]
      omega
    · have := sm_at m (by omega) he
      rw [he m (by omega)]
      omega
theorem bg_upf {f : Nat → Int32} {x n : Nat} (hn : n < 2147483648) : bg (upf f x (nI n)) x = n := by unfold bg; rw [upf_s, nI_clamp hn]
theorem bg_upn {f : Nat → Int32} {x y : Nat} {v : Int32} (h : y ≠ x) : bg (upf f x v) y = bg f y := by unfold bg; rw [upf_n h]
theorem WFr.bagle {n : Nat} {f : Nat → Int32} (h : WFr n f) {x : Nat} (hx : x < 8) : bg f x ≤ 12 := Nat.le_trans (sm_ge 8 hx) h.2.1
/-- a letter comes or goes -/
theorem WFr.letter {n : Nat} {f : Nat → Int32} (h : WFr n f) {x d : Nat} (hx : x < 8) (hd : sm (bg f) 8 + d ≤ 12 + bg f x) : WFr n (upf f x (nI d)) := by
  obtain ⟨h1, h2, h3, h4, h5, h6, h7⟩ := h
  have hs := sm_at (v := bg f) (u := bg (upf f x (nI d))) (x := x) 8 hx (fun y hy => bg_upn hy)
  have hge : bg f x ≤ sm (bg f) 8 := sm_ge 8 hx
  rw [bg_upf (by omega)] at hs
  refine ⟨fun y hy => ?_, by omega, ?_, ?_, ?_, ?_, ?_⟩
  · by_cases e : y = x
    · subst e; rw [bg_upf (by omega), upf_s]
    · rw [bg_upn e, upf_n e]; exact h1 y hy
  · rw [upf_n (by omega)]; exact h3
  · intro w hw; rw [upf_n (by omega)]; exact h4 w hw
  · rw [upf_n (by omega)]; exact h5
  · rw [upf_n (by omega)]; exact h6
  · intro k hk; rw [upf_n (by omega)]; exact h7 k hk
theorem WFr.oth {n : Nat} {f : Nat → Int32} (h : WFr n f) {j : Nat} {v : Int32} (hj : 8 ≤ j) (h3 : j = 8 → ∃ b, b < 2 ^ n ∧ v = nI b) (h4 : 9 ≤ j → j < 19 → ∃ r, r ≤ 9 ∧ v = nI r) (h5 : 19 ≤ j → ∃ b, b < 16 ∧ v = nI b) : WFr n (upf f j v) := by
  obtain ⟨q1, q2, q3, q4, q5, q6, q7⟩ := h
  refine ⟨fun y hy => ?_, ?_, ?_, ?_, ?_, ?_, ?_⟩
  · rw [bg_upn (by omega), upf_n (by omega)]; exact q1 y hy
  · rw [sm_congr (u := bg f) 8 (fun y hy => bg_upn (by omega))]; exact q2
  · by_cases e : j = 8
    · subst e; rw [upf_s]; exact h3 rfl
    · rw [upf_n (by omega)]; exact q3
  · intro w hw
    by_cases e : 9 + w = j
    · rw [e, upf_s]; exact h4 (by omega) (by omega)
    · rw [upf_n e]; exact q4 w hw
  · by_cases e : 19 = j
    · rw [e, upf_s]; exact h5 (by omega)
    · rw [upf_n e]; exact q5
  · by_cases e : 20 = j
    · rw [e, upf_s]; exact h5 (by omega)
    · rw [upf_n e]; exact q6
  · intro k hk
    by_cases e : 21 + k = j
    · rw [e, upf_s]; exact h5 (by omega)
    · rw [upf_n e]; exact q7 k hk
theorem xor_nI {a b n : Nat} (ha : a < 2 ^ n) (hb : b < 2 ^ n) : ∃ c, c < 2 ^ n ∧ nI a ^^^ nI b = nI c := by
  refine ⟨a ^^^ b, Nat.xor_lt_two_pow ha hb, ?_⟩
  apply Int32.toBitVec_inj.mp
  rw [Int32.toBitVec_xor]
  show BitVec.ofNat 32 a ^^^ BitVec.ofNat 32 b = BitVec.ofNat 32 (a ^^^ b)
  apply BitVec.eq_of_toNat_eq
  rw [BitVec.toNat_xor, BitVec.toNat_ofNat, BitVec.toNat_ofNat, BitVec.toNat_ofNat, Nat.xor_mod_two_pow]
theorem sh_nI : ∀ w, w < 10 → nI 1 <<< (nI w &&& 31) = nI (2 ^ w) := by decide +kernel
theorem xor_sh {a n w : Nat} (ha : a < 2 ^ n) (hw : w < n) (hw2 : w < 10) : ∃ c, c < 2 ^ n ∧ nI a ^^^ (nI 1 <<< (nI w &&& 31)) = nI c := by
  rw [sh_nI w hw2]
  exact xor_nI ha (Nat.pow_lt_pow_right (by omega) hw)
/-- the row of the diary that is written next -/
def nx (A : Ab) : Nat := (A 1 3).toNatClampNeg
def na (A : Ab) : Nat := (A 1 2).toNatClampNeg
theorem WFA.nx_e (hW : WFA A) : A 1 3 = nI (nx A) ∧ nx A < 14 := by
  obtain ⟨n, hn, e⟩ := hW.next
  unfold nx
  rw [e, nI_clamp (by omega)]
  exact ⟨rfl, hn⟩
theorem WFA.na_e (hW : WFA A) : A 1 2 = nI (na A) ∧ na A ≤ 14 := by
  obtain ⟨n, hn, e⟩ := hW.acts
  unfold na
  rw [e, nI_clamp (by omega)]
  exact ⟨rfl, hn⟩
/-- what is done is noted -/
def nt (A : Ab) : Ab := up2 (up2 (up1 A (12 + nx A) (A 11)) 1 3 (nI ((nx A + 1) % 14))) 1 2 (nI (min 14 (na A + 1)))
theorem nt_n {c : Nat} (h : c ≠ 1) (h2 : c ≠ 12 + nx A) : nt A c = A c := by
  unfold nt
  rw [up2_row h, up2_row h, up1_n h2]
theorem nt_1 {j : Nat} (h : j ≠ 2) (h2 : j ≠ 3) : nt A 1 j = A 1 j := by
  unfold nt
  rw [up2_n (by omega), up2_n (by omega), up1_n (by omega)]
theorem nt_r : nt A (12 + nx A) = A 11 := by
  unfold nt
  rw [up2_row (by omega), up2_row (by omega), up1_s]
theorem nt_2 : nt A 1 2 = nI (min 14 (na A + 1)) := up2_s
theorem nt_3 : nt A 1 3 = nI ((nx A + 1) % 14) := by
  unfold nt
  rw [up2_n (by omega), up2_s]
theorem nt_nm : nm (nt A) = nm A := by unfold nm; rw [nt_1 (by omega) (by omega)]
theorem wNt (hW : WFA A) : WFA (nt A) := by
  have hx := hW.nx_e
  have ha := hW.na_e
  refine hW.ch (e1 := nt_1 (by omega) (by omega)) (e2 := nt_n (by omega) (by omega)) (e3 := nt_n (by omega) (by omega)) (e4 := nt_n (by omega) (by omega)) (e5 := nt_n (by omega) (by omega)) (len := Or.inl (nt_1 (by omega) (by omega))) (acts := Or.inr ⟨_, by omega, nt_2⟩) (next := Or.inr ⟨_, by omega, nt_3⟩) (told := Or.inl (nt_1 (by omega) (by omega))) (seen := Or.inl (nt_1 (by omega) (by omega))) (row6 := Or.inl ⟨nt_1 (by omega) (by omega), nt_n (by omega) (by omega)⟩) (now := Or.inl (nt_n (by omega) (by omega))) (diary := Or.inr (fun i hi h14 y hy ey => ?_)) (kept := Or.inl ⟨nt_n (by omega) (by omega), fun i hi => nt_n (by omega) (by omega)⟩) (text := Or.inl (nt_n (by omega) (by omega))) (kb := Or.inl (nt_n (by omega) (by omega)))
  rw [nt_2, nI_ltI (by omega) (by omega)] at hi
  rw [nt_3] at ey
  have ey := nI_inj (by omega) (by omega) ey
  by_cases e : i = 0
  · subst e
    rw [show (y + 13 - 0) % 14 = nx A by omega, nt_r]
    exact hW.now
  · rw [nt_n (by omega) (by omega), show (y + 13 - i) % 14 = (nx A + 13 - (i - 1)) % 14 by omega]
    exact hW.diary (i - 1) (by rw [ha.1]; exact nI_lt (by omega) (by omega)) (by omega) _ hx.2 hx.1
/-- now changes at one place -/
theorem wNow (hW : WFA A) {j : Nat} {v : Int32} (h : WFr (nm A) (upf (A 11) j v)) : WFA (up2 A 11 j v) :=
  hW.ch (now := Or.inr (by rw [up2_f]; exact h))
/-- the rows of M's arrays -/
theorem RMm.diaryRow {f : Nat → Int32} (h : RMm B A sd σ) {i : Nat} (hi : i < 14) (hf : FrR (fun a q => a = 165 ∧ 25 * i ≤ q ∧ q < 25 * i + 25) σ σ') (hr : ∀ j, j < 25 → σ'.2.2.1 165 (25 * i + j) = f j) : RMm B (up1 A (12 + i) f) sd σ' := by
  refine h.row (by omega) hf (fun a q hq => ⟨q - 25 * i, by omega, ?_, ?_⟩) (fun j hj => ?_)
  · rw [(mA_r (by omega)).1, if_pos (by omega)]; exact hq.1
  · rw [(mA_r (by omega)).2, if_pos (by omega)]; omega
  · rw [(mA_r (by omega)).1, (mA_r (by omega)).2, if_pos (by omega), if_pos (by omega), show 25 * (12 + i - 12) + j = 25 * i + j by omega]
    exact hr j hj
theorem RMm.keptRow {f : Nat → Int32} (h : RMm B A sd σ) {i : Nat} (hi : i < 2) (hf : FrR (fun a q => a = 166 ∧ 25 * i ≤ q ∧ q < 25 * i + 25) σ σ') (hr : ∀ j, j < 25 → σ'.2.2.1 166 (25 * i + j) = f j) : RMm B (up1 A (26 + i) f) sd σ' := by
  refine h.row (by omega) hf (fun a q hq => ⟨q - 25 * i, by omega, ?_, ?_⟩) (fun j hj => ?_)
  · rw [(mA_r (by omega)).1, if_neg (by omega)]; exact hq.1
  · rw [(mA_r (by omega)).2, if_neg (by omega)]; omega
  · rw [(mA_r (by omega)).1, (mA_r (by omega)).2, if_neg (by omega), if_neg (by omega), show 25 * (26 + i - 26) + j = 25 * i + j by omega]
    exact hr j hj
theorem RMm.nowRow {f : Nat → Int32} (h : RMm B A sd σ) (hf : FrR (fun a q => a = 163 ∧ q < 25) σ σ') (hr : ∀ j, j < 25 → σ'.2.2.1 163 j = f j) : RMm B (up1 A 11 f) sd σ' :=
  h.row (by omega) hf (fun a q hq => ⟨q, hq.2, hq.1, rfl⟩) hr
theorem RMm.diary (h : RMm B A sd σ) {i j : Nat} (hi : i < 14) (hj : j < 25) : σ.2.2.1 165 (25 * i + j) = A (12 + i) j := by
  have := h.g (12 + i) j (by unfold dm; omega)
  rw [(mA_r (by omega)).1, (mA_r (by omega)).2, if_pos (by omega), if_pos (by omega), show 25 * (12 + i - 12) + j = 25 * i + j by omega] at this
  exact this
theorem RMm.keptR (h : RMm B A sd σ) {i j : Nat} (hi : i < 2) (hj : j < 25) : σ.2.2.1 166 (25 * i + j) = A (26 + i) j := by
  have := h.g (26 + i) j (by unfold dm; omega)
  rw [(mA_r (by omega)).1, (mA_r (by omega)).2, if_neg (by omega), if_neg (by omega), show 25 * (26 + i - 26) + j = 25 * i + j by omega] at this
  exact this
theorem kS_d {i : Nat} (h : i < 14) : kS (12 + i) = 25 + 4 * i := by unfold kS; rw [if_neg (by omega), if_pos (by omega)]; omega
theorem kS_k {i : Nat} : kS (26 + i) = 89 + 4 * i := by unfold kS; rw [if_neg (by omega), if_neg (by omega)]; omega
end RowC
