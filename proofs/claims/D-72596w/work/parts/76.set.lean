section SetX
variable {A : Ab}
theorem all_nI : ∀ n, n < 11 → nI 1 <<< (nI n &&& 31) - nI 1 = nI (2 ^ n - 1) := by decide +kernel
/-- the set of words that are not barred, as X has it -/
theorem some_S {n b : Nat} (hn : n ≤ 10) : ∃ S, S < 2 ^ n ∧ (nI 1 <<< (nI n &&& 31) - nI 1) &&& (nI b ^^^ -1) = nI S ∧ ∀ k, k < n → S.testBit k = !b.testBit k := by
  have h1024 := p1024 hn
  have hpos : 0 < 2 ^ n := Nat.two_pow_pos n
  have hm : (nI (2 ^ n - 1)).toBitVec.toNat = 2 ^ n - 1 := by
    show (BitVec.ofNat 32 (2 ^ n - 1)).toNat = _
    rw [BitVec.toNat_ofNat, Nat.mod_eq_of_lt (by omega)]
  obtain ⟨S, hS, e⟩ := pk_andE (nI b ^^^ -1) n hm
  have e2 : (nI 1 <<< (nI n &&& 31) - nI 1) &&& (nI b ^^^ -1) = nI S := by rw [all_nI n (by omega), ← e, Int32.and_comm]
  refine ⟨S, hS, e2, fun k hk => ?_⟩
  have := u_all (b := nI b) hn hk
  rw [e2, hb_tb (by omega), hb_tb (by omega)] at this
  exact this
theorem i32_0 {x : Int32} (h : ∀ k, k < 32 → hasB x (nI k) = false) : x = 0 := by
  apply Int32.toBitVec_inj.mp
  apply BitVec.eq_of_getLsbD_eq
  intro k hk
  have := h k hk
  rw [hasB_bt hk] at this
  rw [show (0 : Int32).toBitVec = 0#32 from rfl, BitVec.getLsbD_zero]
  exact this
theorem inS_iff {bb : Nat → Bool} {s : Nat} : ∀ n, inS bb s n = true ↔ ∀ k, k < n → s.testBit k = true → bb k = false
  | 0 => ⟨fun _ k hk => by omega, fun _ => rfl⟩
  | n + 1 => by
    have ih := inS_iff (bb := bb) (s := s) n
    unfold inS
    rw [Bool.and_eq_true, ih]
    constructor
    · rintro ⟨h1, h2⟩ k hk hs
      by_cases e : k = n
      · subst e
        rw [hs, Bool.true_and] at h2
        cases hb : bb k with
        | true => rw [hb] at h2; exact absurd h2 (by decide)
        | false => rfl
      · exact h1 k (by omega) hs
    · intro h
      refine ⟨fun k hk => h k (by omega), ?_⟩
      cases hs : s.testBit n with
      | true => rw [h n (by omega) hs]; rfl
      | false => rfl
/-- being inside, as X asks it -/
theorem in_X {bb : Nat → Bool} {n s S : Nat} (hn : n ≤ 10) (hs : s < 2 ^ n) (hS : ∀ k, k < n → S.testBit k = !bb k) : nI s &&& (nI S ^^^ -1) = 0 ↔ inS bb s n = true := by
  rw [inS_iff]
  constructor
  · intro h k hk hb
    have e : hasB (nI s &&& (nI S ^^^ -1)) (nI k) = false := by rw [h]; exact hb_0 (by omega)
    rw [hb_and (by omega), hb_not (by omega), hb_tb (by omega), hb_tb (by omega), hb, hS k hk] at e
    cases q : bb k with
    | true => rw [q] at e; exact absurd e (by decide)
    | false => rfl
  · intro h
    refine i32_0 (fun k hk => ?_)
    rw [hb_and hk, hb_not hk, hb_tb hk, hb_tb hk]
    by_cases e : k < n
    · cases q : s.testBit k with
      | true => rw [hS k e, h k e q]; rfl
      | false => rfl
    · rw [Nat.testBit_lt_two_pow (Nat.lt_of_lt_of_le hs (Nat.pow_le_pow_right (by omega) (by omega)))]
      rfl
end SetX
