section Unb
variable {ll : Launch} {B : Bs} {σ : Mem} {A : Ab} {sd : Int64}
theorem pc_un {bb : Nat → Bool} {b : Nat} : ∀ n, (∀ k, k < n → bb k = b.testBit k) → pc b n + un bb n = n
  | 0, _ => rfl
  | n + 1, h => by
    have := pc_un n (fun k hk => h k (by omega))
    have e := h n (by omega)
    unfold pc un
    cases hb : b.testBit n with
    | true => rw [e, hb, if_pos rfl, if_pos rfl]; omega
    | false => rw [e, hb, if_neg (by decide), if_neg (by decide)]; omega
theorem pc_hi {b n : Nat} (hb : b < 2 ^ n) : ∀ m, pc b (n + m) = pc b n
  | 0 => rfl
  | m + 1 => by
    show pc b (n + m) + (if b.testBit (n + m) = true then 1 else 0) = pc b n
    rw [pc_hi hb m, Nat.testBit_lt_two_pow (Nat.lt_of_lt_of_le hb (Nat.pow_le_pow_right (by omega) (by omega)))]
    rfl
/-- the barred set as a number -/
theorem WFA.bar (hW : WFA A) : ∃ b, b < 2 ^ nm A ∧ A 11 8 = nI b ∧ ∀ k, k < 10 → bbA A k = b.testBit k := by
  obtain ⟨b, hb, e⟩ := hW.now.2.2.1
  exact ⟨b, hb, e, fun k hk => by unfold bbA; rw [e, hb_tb (by omega)]⟩
theorem p1024 {n : Nat} (h : n ≤ 10) : 2 ^ n ≤ 1024 := Nat.pow_le_pow_right (n := 2) (by omega) h
theorem cM_unbarred (hW : WFA A) (hR : RMm B A sd σ) : MT ll B 1 0 0 yX3_unbarred cX3_unbarred 1 (some .int) [.ref (B.1 + 157)] σ (pI fun r σ' => r = nI (un (bbA A) (nm A)) ∧ σ' = σ) := by
  have hM := hR.1
  have hm := hW.nmle
  have em := hR.many.trans hW.1.1
  obtain ⟨b, hb, e, hbb⟩ := hW.bar
  have h1024 := p1024 hm
  have h1 := pc_un (b := b) (nm A) (fun k hk => hbb k (by omega))
  have h2 : pc b 10 = pc b (nm A) := by
    have := pc_hi hb (10 - nm A)
    rw [show nm A + (10 - nm A) = 10 by omega] at this
    exact this
  refine MT.of (by decide) (Nat.le_of_ble_eq_true rfl) (fun g hg hr => ?_)
  refine y_aload_n hg dX3_unbarred_0 rfl ?_
  refine y_geti (j := 2) hg cf3 (hM.m) (by decide) rfl q913 dX3_unbarred_1 ?_
  refine y_ti (em) ?_
  refine y_aload_n hg dX3_unbarred_4 rfl ?_
  refine y_getr (j := 7) hg cf3 (hM.m) (by decide) rfl (hM.r_now) q918 dX3_unbarred_5 ?_
  refine y_bipush (v := nI 8) hg dX3_unbarred_8 rfl ?_
  refine y_iald hg _ (hM.k_now) rfl (by omega) dX3_unbarred_10 ?_
  refine y_ti (hR.barred.trans e) ?_
  refine y_cSi hg (cM_ones _) iX3_ones q1339 rfl rfl (by simp [Value.category]) (Nat.le_refl _) (Nat.le_refl _) (by decide) dX3_unbarred_11 (fun r σ1 hp => ?_)
  obtain ⟨rfl, rfl⟩ := hp
  rw [(pc_ok b (by omega)).2, h2]
  refine y_isub hg dX3_unbarred_14 ?_
  refine y_iret hg hr ⟨_, rfl, ?_⟩ dX3_unbarred_15 (Nat.le_refl _) (Nat.le_refl _)
  refine ⟨?_, rfl⟩
  rw [pk_sub (by omega), show nm A - pc b (nm A) = un (bbA A) (nm A) by omega]
end Unb

