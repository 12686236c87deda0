section Some
variable {ll : Launch} {B : Bs} {σ : Mem} {A : Ab} {sd : Int64}
theorem hb_tb {b k : Nat} (hk : k < 32) : hasB (nI b) (nI k) = b.testBit k := by
  rw [hasB_bt hk]
  show (BitVec.ofNat 32 b).getLsbD k = _
  rw [BitVec.getLsbD_ofNat, decide_eq_true hk, Bool.true_and]
theorem or_pow {a n : Nat} (ha : a < 2 ^ n) (hn : n < 10) : nI a ||| (nI 1 <<< (nI n &&& 31)) = nI (2 ^ n + a) := by
  have e : 2 ^ n + a = a ||| 2 ^ n := by
    have := Nat.two_pow_add_eq_or_of_lt ha 1
    rw [Nat.mul_one] at this
    rw [this, Nat.or_comm]
  rw [sh_nI n hn, e]
  apply Int32.toBitVec_inj.mp
  rw [Int32.toBitVec_or]
  show BitVec.ofNat 32 a ||| BitVec.ofNat 32 (2 ^ n) = BitVec.ofNat 32 (a ||| 2 ^ n)
  apply BitVec.eq_of_toNat_eq
  rw [BitVec.toNat_or, BitVec.toNat_ofNat, BitVec.toNat_ofNat, BitVec.toNat_ofNat, Nat.or_mod_two_pow]
/-- what is barred now -/
def bbA (A : Ab) (w : Nat) : Bool := hasB (A 11 8) (nI w)
theorem un_le (bb : Nat → Bool) : ∀ n, un bb n ≤ n
  | 0 => Nat.le_refl _
  | n + 1 => by
    have := un_le bb n
    unfold un
    split <;> omega
theorem cM_someOf (hW : WFA A) (hR : RMm B A sd σ) {bits : Nat} : MT ll B 1 0 0 yX3_someOf cX3_someOf 5 (some .int) [.ref (B.1 + 157), .int (nI bits)] σ (pI fun r σ' => r = nI (so (bbA A) bits (nm A)) ∧ σ' = σ) := by
  have hM := hR.1
  have hm := hW.nmle
  have em := hR.many.trans hW.1.1
  refine MT.of (by decide) (Nat.le_of_ble_eq_true rfl) (fun g hg hr => ?_)
  refine y_iconst (v := nI 0) hg dX3_someOf_0 rfl ?_
  refine y_istore_n hg dX3_someOf_1 (by decide) (lv1 := [(0, _), (1, _), (2, _)]) rfl ?_
  refine y_iconst (v := nI 0) hg dX3_someOf_2 rfl ?_
  refine y_istore_n hg dX3_someOf_3 (by decide) (lv1 := [(0, _), (1, _), (2, _), (3, _)]) rfl ?_
  refine y_iconst (v := nI 0) hg dX3_someOf_4 rfl ?_
  refine y_istore hg dX3_someOf_5 (by decide) (lv1 := [(0, _), (1, _), (2, _), (3, _), (4, _)]) rfl ?_
  refine (loop_up (G := fun i => YY g 5 σ 0 0 7 [(0, .ref (B.1 + 157)), (1, .int (nI bits)), (2, .int (nI (so (bbA A) bits i))), (3, .int (nI (un (bbA A) i))), (4, .int (nI i))] []) (nm A) (fun i hi ih => ?_) ?_ 0 (Nat.zero_le _))
  · have hun := un_le (bbA A) i
    have hlt := so_lt (bbA A) bits i
    have es : so (bbA A) bits (i + 1) = if bbA A i = true then so (bbA A) bits i else if bits.testBit (un (bbA A) i) = true then 2 ^ i + so (bbA A) bits i else so (bbA A) bits i := rfl
    have eu : un (bbA A) (i + 1) = if bbA A i = true then un (bbA A) i else un (bbA A) i + 1 := rfl
    rw [es, eu] at ih
    refine y_iload hg dX3_someOf_7 rfl ?_
    refine y_aload_n hg dX3_someOf_9 rfl ?_
    refine y_geti (j := 2) hg cf3 (hM.m) (by decide) rfl q913 dX3_someOf_10 ?_
    refine y_ti (em) ?_
    refine y_icmp_ge hg 59 dX3_someOf_13 (by decide) (fun hT => absurd hT (ge_c hi (by omega))) (fun _ => ?_)
    refine y_aload_n hg dX3_someOf_16 rfl ?_
    refine y_getr (j := 7) hg cf3 (hM.m) (by decide) rfl (hM.r_now) q918 dX3_someOf_17 ?_
    refine y_bipush (v := nI 8) hg dX3_someOf_20 rfl ?_
    refine y_iald hg _ (hM.k_now) rfl (by omega) dX3_someOf_22 ?_
    refine y_ti (hR.barred) ?_
    refine y_iload hg dX3_someOf_23 rfl ?_
    refine y_cSi hg (cM_has _ _) iX3_has q1100 rfl rfl (by simp [Value.category]) (Nat.le_refl _) (Nat.le_refl _) (by decide) dX3_someOf_25 (fun r σ1 hp => ?_)
    obtain ⟨rfl, rfl⟩ := hp
    refine y_if_ne hg 53 dX3_someOf_28 (by decide) (fun hc => ?_) (fun hc => ?_)
    · have hb : bbA A i = true := b2T hc
      rw [if_pos hb, if_pos hb] at ih
      refine y_iinc hg dX3_someOf_53 rfl (inc1 _) (by decide) (lv1 := [(0, _), (1, _), (2, _), (3, _), (4, _)]) rfl ?_
      refine y_goto hg 7 dX3_someOf_56 (by decide) ?_
      exact ih
    · have hb : ¬ bbA A i = true := b2F hc
      rw [if_neg hb, if_neg hb] at ih
      have J : ∀ v : Int32, nI (so (bbA A) bits i) ||| v = nI (if bits.testBit (un (bbA A) i) = true then 2 ^ i + so (bbA A) bits i else so (bbA A) bits i) → YY g 5 σ1 0 0 48 [(0, .ref (B.1 + 157)), (1, .int (nI bits)), (2, .int (nI (so (bbA A) bits i))), (3, .int (nI (un (bbA A) i))), (4, .int (nI i))] [.int v, .int (nI (so (bbA A) bits i))] := by
        intro v hv
        refine y_ior hg dX3_someOf_48 ?_
        refine y_ti (hv) ?_
        refine y_istore_n hg dX3_someOf_49 (by decide) (lv1 := [(0, _), (1, _), (2, _), (3, _), (4, _)]) rfl ?_
        refine y_iinc hg dX3_someOf_50 rfl (inc1 _) (by decide) (lv1 := [(0, _), (1, _), (2, _), (3, _), (4, _)]) rfl ?_
        refine y_iinc hg dX3_someOf_53 rfl (inc1 _) (by decide) (lv1 := [(0, _), (1, _), (2, _), (3, _), (4, _)]) rfl ?_
        refine y_goto hg 7 dX3_someOf_56 (by decide) ?_
        exact ih
      refine y_iload_n hg dX3_someOf_31 rfl ?_
      refine y_iload_n hg dX3_someOf_32 rfl ?_
      refine y_iload_n hg dX3_someOf_33 rfl ?_
      refine y_cSi hg (cM_has _ _) iX3_has q1100 rfl rfl (by simp [Value.category]) (Nat.le_refl _) (Nat.le_refl _) (by decide) dX3_someOf_34 (fun r σ2 hp => ?_)
      obtain ⟨rfl, rfl⟩ := hp
      rw [hb_tb (by omega)]
      refine y_if_eq hg 47 dX3_someOf_37 (by decide) (fun hc2 => ?_) (fun hc2 => ?_)
      · refine y_iconst (v := nI 0) hg dX3_someOf_47 rfl ?_
        exact J _ (by rw [or_0, if_neg (b2F hc2)])
      · refine y_iconst (v := nI 1) hg dX3_someOf_40 rfl ?_
        refine y_iload hg dX3_someOf_41 rfl ?_
        refine y_ishl hg dX3_someOf_43 ?_
        refine y_goto hg 48 dX3_someOf_44 (by decide) ?_
        exact J _ (by rw [if_pos (b2T hc2)]; exact or_pow hlt (by omega))
  · skip
    refine y_iload hg dX3_someOf_7 rfl ?_
    refine y_aload_n hg dX3_someOf_9 rfl ?_
    refine y_geti (j := 2) hg cf3 (hM.m) (by decide) rfl q913 dX3_someOf_10 ?_
    refine y_ti (em) ?_
    refine y_icmp_ge hg 59 dX3_someOf_13 (by decide) (fun _ => ?_) (fun hF => absurd (le_c (Nat.le_refl _) (by omega)) hF)
    refine y_iload_n hg dX3_someOf_59 rfl ?_
    refine y_iret hg hr ⟨_, rfl, ?_⟩ dX3_someOf_60 (Nat.le_refl _) (Nat.le_refl _)
    exact ⟨rfl, rfl⟩
end Some

