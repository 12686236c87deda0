section HopeP
variable {A : Ab}
theorem suN_so (bb : Nat → Bool) : ∀ (n : Nat) (t : Nat → Nat), suN (fun s => if inS bb s n = true then t s else 0) (2 ^ n) = suN (fun bits => t (so bb bits n)) (2 ^ un bb n)
  | 0, t => rfl
  | n + 1, t => by
    rw [Nat.pow_succ, Nat.mul_two, suN_add]
    have e1 : suN (fun s => if inS bb s (n + 1) = true then t s else 0) (2 ^ n) = suN (fun s => if inS bb s n = true then t s else 0) (2 ^ n) := suN_congr _ (fun i hi => by
      show (if (inS bb i n && !(i.testBit n && bb n)) = true then t i else 0) = _
      rw [tb_z hi, Bool.false_and, Bool.not_false, Bool.and_true])
    have e2 : ∀ i, i < 2 ^ n → inS bb (2 ^ n + i) (n + 1) = (inS bb i n && !bb n) := fun i hi => by
      show (inS bb (2 ^ n + i) n && !((2 ^ n + i).testBit n && bb n)) = _
      rw [tb_hi hi, Bool.true_and, inS_congr n (fun k hk => tb_lo hk)]
    rw [e1, suN_so bb n t]
    by_cases hb : bb n = true
    · have e3 : suN (fun i => if inS bb (2 ^ n + i) (n + 1) = true then t (2 ^ n + i) else 0) (2 ^ n) = 0 := by
        refine (suN_congr (u := fun _ => 0) _ (fun i hi => ?_)).trans (suN_0 _)
        rw [e2 i hi, hb, Bool.not_true, Bool.and_false]
        rfl
      rw [e3, Nat.add_zero, un_s, if_pos hb]
      refine suN_congr _ (fun i hi => ?_)
      rw [so_s, if_pos hb]
    · have hb' : bb n = false := by cases h : bb n with
        | true => exact absurd h hb
        | false => rfl
      have e3 : suN (fun i => if inS bb (2 ^ n + i) (n + 1) = true then t (2 ^ n + i) else 0) (2 ^ n) = suN (fun s => if inS bb s n = true then t (2 ^ n + s) else 0) (2 ^ n) := suN_congr _ (fun i hi => by
        rw [e2 i hi, hb', Bool.not_false, Bool.and_true])
      rw [e3, suN_so bb n (fun s => t (2 ^ n + s)), un_s, if_neg hb, Nat.pow_succ, Nat.mul_two, suN_add]
      have f1 : suN (fun bits => t (so bb bits (n + 1))) (2 ^ un bb n) = suN (fun bits => t (so bb bits n)) (2 ^ un bb n) := suN_congr _ (fun i hi => by
        rw [so_s, if_neg hb, tb_z hi, if_neg (by decide)])
      have f2 : suN (fun i => t (so bb (2 ^ un bb n + i) (n + 1))) (2 ^ un bb n) = suN (fun bits => t (2 ^ n + so bb bits n)) (2 ^ un bb n) := suN_congr _ (fun i hi => by
        rw [so_s, if_neg hb, tb_hi hi, if_pos rfl, so_congr n (fun k hk => tb_lo hk)])
      rw [f1, f2]
theorem suN_cut {t : Nat → Nat} {m n : Nat} (h : m ≤ n) (h0 : ∀ i, m ≤ i → i < n → t i = 0) : suN t n = suN t m := by
  obtain ⟨d, rfl⟩ : ∃ d, n = m + d := ⟨n - m, by omega⟩
  rw [suN_add, suN_congr (u := fun _ => 0) d (fun i hi => h0 _ (by omega) (by omega)), suN_0, Nat.add_zero]
theorem suN_le {t u : Nat → Nat} : ∀ n, (∀ i, i < n → t i ≤ u i) → suN t n ≤ suN u n
  | 0, _ => Nat.le_refl _
  | n + 1, h => by
    have := suN_le n (fun i hi => h i (by omega))
    have := h n (by omega)
    show suN t n + t n ≤ suN u n + u n
    omega
theorem suN_mul {t : Nat → Nat} {c : Nat} : ∀ n, suN (fun i => c * t i) n = c * suN t n
  | 0 => rfl
  | n + 1 => by
    show suN (fun i => c * t i) n + c * t n = c * (suN t n + t n)
    rw [suN_mul n, Nat.mul_add]
theorem pc_len (s : Nat) : ∀ n, pc s n ≤ n
  | 0 => Nat.le_refl _
  | n + 1 => by
    have := pc_len s n
    show pc s n + (if s.testBit n = true then 1 else 0) ≤ n + 1
    split <;> omega
/-- Newton's -/
theorem binom (a b : Nat) : ∀ n, suN (fun s => a ^ pc s n * b ^ (n - pc s n)) (2 ^ n) = (a + b) ^ n
  | 0 => rfl
  | n + 1 => by
    rw [Nat.pow_succ, Nat.mul_two, suN_add]
    have e1 : suN (fun s => a ^ pc s (n + 1) * b ^ (n + 1 - pc s (n + 1))) (2 ^ n) = suN (fun s => b * (a ^ pc s n * b ^ (n - pc s n))) (2 ^ n) := suN_congr _ (fun i hi => by
      have h1 : pc i (n + 1) = pc i n := by show pc i n + (if i.testBit n = true then 1 else 0) = _; rw [tb_z hi, if_neg (by decide), Nat.add_zero]
      have := pc_len i n
      rw [h1, show n + 1 - pc i n = (n - pc i n) + 1 by omega, Nat.pow_succ, Nat.mul_comm b, Nat.mul_assoc])
    have e2 : suN (fun i => a ^ pc (2 ^ n + i) (n + 1) * b ^ (n + 1 - pc (2 ^ n + i) (n + 1))) (2 ^ n) = suN (fun s => a * (a ^ pc s n * b ^ (n - pc s n))) (2 ^ n) := suN_congr _ (fun i hi => by
      have h1 : pc (2 ^ n + i) (n + 1) = pc i n + 1 := by show pc (2 ^ n + i) n + (if (2 ^ n + i).testBit n = true then 1 else 0) = _; rw [tb_hi hi, if_pos rfl, pc_congr n (fun k hk => tb_lo hk)]
      rw [h1, show n + 1 - (pc i n + 1) = n - pc i n by omega, Nat.pow_succ, Nat.mul_comm (a ^ pc i n) a, Nat.mul_assoc])
    rw [e1, e2, suN_mul, suN_mul, binom a b n, Nat.pow_succ, ← Nat.add_mul, Nat.mul_comm, Nat.add_comm b a]
theorem powF_nI (a : Nat) : ∀ n, powF (nI a) n = nI (a ^ n)
  | 0 => rfl
  | n + 1 => by
    show powF (nI a) n * nI a = _
    rw [powF_nI a n, pk_mul, Nat.pow_succ]
theorem gcL_nat : ∀ (m x y : Nat), y < m → x < 2 ^ 63 → y < 2 ^ 63 → gcL m (lN x) (lN y) = lN (Nat.gcd x y)
  | 0, x, y, h, _, _ => by omega
  | m + 1, x, y, h, hx, hy => by
    unfold gcL
    by_cases e : y = 0
    · subst e
      rw [if_pos (by rfl), Nat.gcd_zero_right]
    · have e2 : ¬ lN y = 0 := fun z => e ((pk_lEQ (b := 0) hy (by decide)).mp z)
      have hlt : x % y < y := Nat.mod_lt _ (by omega)
      rw [if_neg e2, pk_lRem hx (by omega) hy, gcL_nat m y (x % y) (by omega) hy (by omega), Nat.gcd_comm x y, Nat.gcd_rec y x, Nat.gcd_comm]
theorem gcd2_nat {x y : Nat} (hx : x < 2 ^ 63) (hy : y < 2 ^ 63) : gcd2 (lN x) (lN y) = lN (Nat.gcd x y) := by
  unfold gcd2
  have h0 : ¬ lN x < 0 := fun z => by
    have := (pk_lLT (b := 0) hx (by decide)).mp z
    omega
  rw [if_neg h0, pk_lT hy]
  exact gcL_nat _ x y (by show y < (y : Int).natAbs + 1; omega) hx hy
def hoT (A : Ab) (x s : Nat) : Nat := if 0 < tw A s then (10 - x) ^ pc s (nm A) * x ^ (un (bbA A) (nm A) - pc s (nm A)) else 0
def hXt (A : Ab) (x s : Nat) : Nat := if inS (bbA A) s (nm A) = true then hoT A x s else 0
def hMt (A : Ab) (x bits : Nat) : Nat := hoT A x (so (bbA A) bits (nm A))
def hoS (A : Ab) (x : Nat) : Nat := suN (hMt A x) (2 ^ un (bbA A) (nm A))
theorem hoS_X (x : Nat) : suN (hXt A x) (2 ^ nm A) = hoS A x := suN_so (bbA A) (nm A) (hoT A x)
theorem hoS_le {x : Nat} (hx : x ≤ 10) : hoS A x ≤ 10 ^ un (bbA A) (nm A) := by
  have h := binom (10 - x) x (un (bbA A) (nm A))
  rw [show 10 - x + x = 10 by omega] at h
  rw [← h]
  refine suN_le _ (fun i hi => ?_)
  unfold hMt hoT
  rw [pc_so]
  split
  · exact Nat.le_refl _
  · omega
def rHope (A : Ab) (v u : Int32) : Int32 := if inL v.toInt64 0 10 = true then (if 8 < un (bbA A) (nm A) then -3 else nI ((if u = 0 then 10 ^ un (bbA A) (nm A) else hoS A v.toNatClampNeg) / Nat.gcd (hoS A v.toNatClampNeg) (10 ^ un (bbA A) (nm A)))) else -2
end HopeP
section HopeW
variable {ll : Launch} {B : Bs} {σ : Mem} {A : Ab} {sd : Int64}
theorem tw_b (hW : WFA A) (s : Nat) : tw A s ≤ 10000000000000 := tot_b (pb_wr hW hW.now)
theorem p10 {n : Nat} (h : n ≤ 8) : 10 ^ n ≤ 100000000 := Nat.pow_le_pow_right (n := 10) (by omega) h
theorem cX_hope (hW : WFA A) (hR : RX B A sd σ) (v u : Int32) : MT ll B 24 0 0 yX0_hope cX0_hope 8 (some .int) [.ref (B.1 + 0), .int v, .int u] σ (oX B sd σ (rHope A v u, A)) := by
  have hL := hR.1
  have hm := hW.nmle
  have h1024 := p1024 hm
  have em := hR.many.trans hW.1.1
  obtain ⟨b, hb, eb, hbb⟩ := hW.bar
  obtain ⟨S, hS0, eS, hSb0⟩ := some_S (b := b) hm
  have hSb : ∀ k, k < nm A → S.testBit k = !bbA A k := fun k hk => by rw [hSb0 k hk, hbb k (by omega)]
  have hpS : bitcF (nI S) = nI (un (bbA A) (nm A)) := by rw [(pc_ok S (by omega)).1, pc_10 hm hS0, pc_S (nm A) hSb]
  have hun := un_le (bbA A) (nm A)
  refine MT.of (by decide) (Nat.le_of_ble_eq_true rfl) (fun g hg hr => ?_)
  refine y_iload_n hg dX0_hope_0 rfl ?_
  refine y_i2l hg dX0_hope_1 ?_
  refine y_lconst (v := 0) hg dX0_hope_2 rfl ?_
  refine y_ldc2 hg dX0_hope_3 q879 ?_
  refine y_cSi hg (cX_isIn _ _ _) iX0_isIn q286 rfl rfl (by simp [Value.category]) (Nat.le_refl _) (Nat.le_refl _) (by decide) dX0_hope_6 (fun r σ1 hp => ?_)
  obtain ⟨rfl, rfl⟩ := hp
  refine y_if_ne hg 15 dX0_hope_9 (by decide) (fun hc => ?_) (fun hc => ?_)
  · have h1 := b2T hc
    obtain ⟨x, hx, rfl⟩ := (inL_iff 10 rfl (by decide)).mp h1
    have ew : (nI x).toNatClampNeg = x := nI_clamp (by omega)
    refine y_aload_n hg dX0_hope_15 rfl ?_
    refine y_cVi hg (cX_all hL) iX0_all q372 (hL.x) cf0 rfl rfl (by simp [Value.category]) (Nat.le_refl _) (Nat.le_refl _) (by decide) dX0_hope_16 (fun r σ2 hp => ?_)
    obtain ⟨rfl, rfl⟩ := hp
    refine y_aload_n hg dX0_hope_19 rfl ?_
    refine y_getr (j := 2) hg cf0 (hL.x) (by decide) rfl (hL.r_now) q174 dX0_hope_20 ?_
    refine y_getiN (j := 1) hg cf1 (hL.s_now.o) (by decide) rfl nf1 dX0_hope_23 ?_
    refine y_ti (hR.barred.trans eb) ?_
    refine y_iconst (v := -1) hg dX0_hope_26 rfl ?_
    refine y_ixor hg dX0_hope_27 ?_
    refine y_iand hg dX0_hope_28 ?_
    refine y_ti (show _ = nI S by rw [em]; exact eS) ?_
    refine y_istore_n hg dX0_hope_29 (by decide) (lv1 := [(0, _), (1, _), (2, _), (3, _)]) rfl ?_
    refine y_iload_n hg dX0_hope_30 rfl ?_
    refine y_cSi hg (cJ_bitCount _) iJ3_bitCount q855 rfl rfl (by simp [Value.category]) (Nat.le_refl _) (Nat.le_refl _) (by decide) dX0_hope_31 (fun r σ3 hp => ?_)
    obtain ⟨rfl, rfl⟩ := hp
    refine y_ti hpS ?_
    refine y_istore hg dX0_hope_34 (by decide) (lv1 := [(0, _), (1, _), (2, _), (3, _), (4, _)]) rfl ?_
    refine y_iload hg dX0_hope_36 rfl ?_
    refine y_bipush (v := nI 8) hg dX0_hope_38 rfl ?_
    refine y_icmp_le hg 46 dX0_hope_40 (by decide) (fun hc3 => ?_) (fun hc3 => ?_)
    · have h8 : un (bbA A) (nm A) ≤ 8 := (nI_leI (by omega) (by decide)).mp hc3
      have h10 := p10 h8
      have h10p : 0 < 10 ^ un (bbA A) (nm A) := Nat.pow_pos (by omega)
      have hle := hoS_le (A := A) hx
      have hg1 : 0 < Nat.gcd (hoS A x) (10 ^ un (bbA A) (nm A)) := Nat.gcd_pos_of_pos_right _ h10p
      have hg2 : Nat.gcd (hoS A x) (10 ^ un (bbA A) (nm A)) ≤ 10 ^ un (bbA A) (nm A) := Nat.gcd_le_right _ h10p
      have eo : rHope A (nI x) u = nI ((if u = 0 then 10 ^ un (bbA A) (nm A) else hoS A x) / Nat.gcd (hoS A x) (10 ^ un (bbA A) (nm A))) := by unfold rHope; rw [if_pos h1, ew, if_neg (by omega)]
      rw [eo] at hr
      have eX : suN (hXt A x) (S + 1) = hoS A x := (suN_cut (by omega) (fun i h1 h2 => by
        unfold hXt
        rw [if_neg (fun z => ?_)]
        have := inS_le h2 hSb z
        omega)).symm.trans (hoS_X x)
      refine y_aload_n hg dX0_hope_46 rfl ?_
      refine y_iload_n hg dX0_hope_47 rfl ?_
      refine y_cVv hg (cX_layWorth hW (WX.rf hR) hS0 hSb) iX0_layWorth q862 (hL.x) cf0 rfl rfl (by simp [Value.category]) (Nat.le_refl _) (Nat.le_refl _) (by decide) dX0_hope_48 (fun σ5 hp => ?_)
      obtain ⟨hw5, hv5⟩ := hp
      have hL := hw5.1.1
      refine y_iconst (v := nI 0) hg dX0_hope_51 rfl ?_
      refine y_istore hg dX0_hope_52 (by decide) (lv1 := [(0, _), (1, _), (2, _), (3, _), (4, _), (5, _)]) rfl ?_
      refine y_iconst (v := nI 0) hg dX0_hope_54 rfl ?_
      refine y_istore hg dX0_hope_55 (by decide) (lv1 := [(0, _), (1, _), (2, _), (3, _), (4, _), (5, _), (6, _)]) rfl ?_
      refine (loop_up (G := fun i => YY g 8 σ5 0 0 57 [(0, .ref (B.1 + 0)), (1, .int (nI x)), (2, .int u), (3, .int (nI S)), (4, .int (nI (un (bbA A) (nm A)))), (5, .int (nI (suN (hXt A x) i))), (6, .int (nI i))] []) (S + 1) (fun i hi ih => ?_) ?_ 0 (Nat.zero_le _))
      · have hin := in_X (bb := bbA A) (s := i) hm (by omega) hSb
        have es0 : suN (hXt A x) (i + 1) = suN (hXt A x) i + hXt A x i := rfl
        have hpi : bitcF (nI i) = nI (pc i (nm A)) := by rw [(pc_ok i (by omega)).1, pc_10 hm (by omega)]
        have J : ∀ q : Nat, q = hXt A x i → YY g 8 σ5 0 0 116 [(0, .ref (B.1 + 0)), (1, .int (nI x)), (2, .int u), (3, .int (nI S)), (4, .int (nI (un (bbA A) (nm A)))), (5, .int (nI (suN (hXt A x) i))), (6, .int (nI i)), (7, .int (nI (pc i (nm A))))] [.int (nI q), .int (nI (suN (hXt A x) i))] := by
          intro q hq
          subst hq
          refine y_iadd hg dX0_hope_116 ?_
          refine y_ti (nI_add _ _) ?_
          refine y_istore hg dX0_hope_117 (by decide) (lv1 := [(0, _), (1, _), (2, _), (3, _), (4, _), (5, _), (6, _), (7, _)]) rfl ?_
          refine y_iinc hg dX0_hope_119 rfl (inc1 _) (by decide) (lv1 := [(0, _), (1, _), (2, _), (3, _), (4, _), (5, _), (6, _), (7, _)]) rfl ?_
          refine y_goto hg 57 dX0_hope_122 (by decide) ?_
          exact y_sub [0, 1, 2, 3, 4, 5, 6] rfl ih
        refine y_iload hg dX0_hope_57 rfl ?_
        refine y_iload_n hg dX0_hope_59 rfl ?_
        refine y_icmp_gt hg 125 dX0_hope_60 (by decide) (fun hT => absurd hT (nI_nlt (by omega) (by omega))) (fun _ => ?_)
        refine y_iload hg dX0_hope_63 rfl ?_
        refine y_cSi hg (cJ_bitCount _) iJ3_bitCount q855 rfl rfl (by simp [Value.category]) (Nat.le_refl _) (Nat.le_refl _) (by decide) dX0_hope_65 (fun r σ6 hp => ?_)
        obtain ⟨rfl, rfl⟩ := hp
        refine y_ti hpi ?_
        refine y_istore hg dX0_hope_68 (by decide) (lv1 := [(0, _), (1, _), (2, _), (3, _), (4, _), (5, _), (6, _), (7, _)]) rfl ?_
        refine y_iload hg dX0_hope_70 rfl ?_
        refine y_iload hg dX0_hope_72 rfl ?_
        refine y_iload_n hg dX0_hope_74 rfl ?_
        refine y_iconst (v := -1) hg dX0_hope_75 rfl ?_
        refine y_ixor hg dX0_hope_76 ?_
        refine y_iand hg dX0_hope_77 ?_
        refine y_if_ne hg 115 dX0_hope_78 (by decide) (fun hc4 => ?_) (fun hc4 => ?_)
        · refine y_iconst (v := nI 0) hg dX0_hope_115 rfl ?_
          exact J 0 (by unfold hXt; rw [if_neg (fun z => hc4 (hin.mpr z))])
        · have hii := hin.mp hc4
          have htb := tw_b hW i
          have hpl := pc_le (nm A) hii
          refine y_aload_n hg dX0_hope_81 rfl ?_
          refine y_getr (j := 32) hg cf0 (hL.x) (by decide) rfl (hL.r_worth) q204 dX0_hope_82 ?_
          refine y_iload hg dX0_hope_85 rfl ?_
          refine y_lald hg _ (hL.k_worth) rfl (by omega) dX0_hope_87 ?_
          refine y_tl (hv5 _ (by omega) hii) ?_
          refine y_lconst (v := 0) hg dX0_hope_88 rfl ?_
          refine y_lc_le hg 115 dX0_hope_89 dX0_hope_90 (by decide) (fun hc5 => ?_) (fun hc5 => ?_)
          · have h0 : ¬ 0 < tw A i := by
              have := (pk_lLE (b := 0) (by omega) (by decide)).mp hc5
              omega
            refine y_iconst (v := nI 0) hg dX0_hope_115 rfl ?_
            exact J 0 (by unfold hXt hoT; rw [if_pos hii, if_neg h0])
          · have h0 : 0 < tw A i := by
              rcases Nat.lt_or_ge 0 (tw A i) with z | z
              · exact z
              · exact absurd ((pk_lLE (b := 0) (by omega) (by decide)).mpr z) hc5
            refine y_bipush (v := nI 10) hg dX0_hope_93 rfl ?_
            refine y_iload_n hg dX0_hope_95 rfl ?_
            refine y_isub hg dX0_hope_96 ?_
            refine y_ti (pk_sub (by omega)) ?_
            refine y_iload hg dX0_hope_97 rfl ?_
            refine y_cSi hg (cX_whole _ _ (by omega)) iX0_whole q880 rfl rfl (by simp [Value.category]) (Nat.le_refl _) (Nat.le_refl _) (by decide) dX0_hope_99 (fun r σ7 hp => ?_)
            obtain ⟨rfl, rfl⟩ := hp
            refine y_ti (powF_nI _ _) ?_
            refine y_iload_n hg dX0_hope_102 rfl ?_
            refine y_iload hg dX0_hope_103 rfl ?_
            refine y_iload hg dX0_hope_105 rfl ?_
            refine y_isub hg dX0_hope_107 ?_
            refine y_ti (pk_sub (by omega)) ?_
            refine y_cSi hg (cX_whole _ _ (by omega)) iX0_whole q880 rfl rfl (by simp [Value.category]) (Nat.le_refl _) (Nat.le_refl _) (by decide) dX0_hope_108 (fun r σ8 hp => ?_)
            obtain ⟨rfl, rfl⟩ := hp
            refine y_ti (powF_nI _ _) ?_
            refine y_imul hg dX0_hope_111 ?_
            refine y_ti (pk_mul _ _) ?_
            refine y_goto hg 116 dX0_hope_112 (by decide) ?_
            exact J _ (by unfold hXt hoT; rw [if_pos hii, if_pos h0])
      · rw [eX]
        have e10 : powF (nI 10) (un (bbA A) (nm A)) = nI (10 ^ un (bbA A) (nm A)) := powF_nI 10 _
        have eg : gcd2 (lN (hoS A x)) (lN (10 ^ un (bbA A) (nm A))) = lN (Nat.gcd (hoS A x) (10 ^ un (bbA A) (nm A))) := gcd2_nat (by omega) (by omega)
        refine y_iload hg dX0_hope_57 rfl ?_
        refine y_iload_n hg dX0_hope_59 rfl ?_
        refine y_icmp_gt hg 125 dX0_hope_60 (by decide) (fun _ => ?_) (fun hF => absurd (nI_lt (by omega) (by omega)) hF)
        refine y_iload hg dX0_hope_125 rfl ?_
        refine y_i2l hg dX0_hope_127 ?_
        refine y_tl (nI_l (by omega)) ?_
        refine y_bipush (v := nI 10) hg dX0_hope_128 rfl ?_
        refine y_iload hg dX0_hope_130 rfl ?_
        refine y_cSi hg (cX_whole _ _ (by omega)) iX0_whole q880 rfl rfl (by simp [Value.category]) (Nat.le_refl _) (Nat.le_refl _) (by decide) dX0_hope_132 (fun r σ6 hp => ?_)
        obtain ⟨rfl, rfl⟩ := hp
        refine y_ti e10 ?_
        refine y_i2l hg dX0_hope_135 ?_
        refine y_tl (nI_l (by omega)) ?_
        refine y_cSl hg (cX_common _ _) iX0_common q869 rfl rfl (by simp [Value.category]) (Nat.le_refl _) (Nat.le_refl _) (by decide) dX0_hope_136 (fun r σ7 hp => ?_)
        obtain ⟨rfl, rfl⟩ := hp
        refine y_tl eg ?_
        refine y_l2i hg dX0_hope_139 ?_
        refine y_ti (lN_i _) ?_
        refine y_istore hg dX0_hope_140 (by decide) (lv1 := [(0, _), (1, _), (2, _), (3, _), (4, _), (5, _), (6, _)]) rfl ?_
        refine y_iload_n hg dX0_hope_142 rfl ?_
        refine y_if_eq hg 154 dX0_hope_143 (by decide) (fun hu => ?_) (fun hu => ?_)
        · refine y_bipush (v := nI 10) hg dX0_hope_154 rfl ?_
          refine y_iload hg dX0_hope_156 rfl ?_
          refine y_cSi hg (cX_whole _ _ (by omega)) iX0_whole q880 rfl rfl (by simp [Value.category]) (Nat.le_refl _) (Nat.le_refl _) (by decide) dX0_hope_158 (fun r σ8 hp => ?_)
          obtain ⟨rfl, rfl⟩ := hp
          refine y_ti e10 ?_
          refine y_iload hg dX0_hope_161 rfl ?_
          refine y_idiv hg dX0_hope_163 (nI_ne0 hg1 (by omega)) ?_
          refine y_ti (pk_div (by omega) hg1 (by omega)) ?_
          refine y_iret hg hr ⟨_, rfl, ?_⟩ dX0_hope_164 (Nat.le_refl _) (Nat.le_refl _)
          exact ⟨by rw [if_pos hu], hw5.fin⟩
        · refine y_iload hg dX0_hope_146 rfl ?_
          refine y_iload hg dX0_hope_148 rfl ?_
          refine y_idiv hg dX0_hope_150 (nI_ne0 hg1 (by omega)) ?_
          refine y_ti (pk_div (by omega) hg1 (by omega)) ?_
          refine y_goto hg 164 dX0_hope_151 (by decide) ?_
          refine y_iret hg hr ⟨_, rfl, ?_⟩ dX0_hope_164 (Nat.le_refl _) (Nat.le_refl _)
          exact ⟨by rw [if_neg hu], hw5.fin⟩
    · have h8 : 8 < un (bbA A) (nm A) := by
        rcases Nat.lt_or_ge 8 (un (bbA A) (nm A)) with z | z
        · exact z
        · exact absurd ((nI_leI (by omega) (by decide)).mpr z) hc3
      refine y_bipush (v := -3) hg dX0_hope_43 rfl ?_
      refine y_iret hg hr ⟨_, rfl, ?_⟩ dX0_hope_45 (Nat.le_refl _) (Nat.le_refl _)
      have eo : rHope A (nI x) u = -3 := by unfold rHope; rw [if_pos h1, if_pos h8]
      exact ⟨eo.symm, hR, Fr.rf⟩
  · refine y_bipush (v := -2) hg dX0_hope_12 rfl ?_
    refine y_iret hg hr ⟨_, rfl, ?_⟩ dX0_hope_14 (Nat.le_refl _) (Nat.le_refl _)
    have eo : rHope A v u = -2 := by unfold rHope; rw [if_neg (b2F hc)]
    exact ⟨eo.symm, hR, Fr.rf⟩
theorem cM_hope (hW : WFA A) (hR : RMm B A sd σ) (v u : Int32) : MT ll B 24 0 0 yX3_hope cX3_hope 6 (some .int) [.ref (B.1 + 157), .int v, .int u] σ (oM B sd σ (rHope A v u, A)) := by
  have hM := hR.1
  have hm := hW.nmle
  have hun := un_le (bbA A) (nm A)
  refine MT.of (by decide) (Nat.le_of_ble_eq_true rfl) (fun g hg hr => ?_)
  refine y_iload_n hg dX3_hope_0 rfl ?_
  refine y_i2l hg dX3_hope_1 ?_
  refine y_lconst (v := 0) hg dX3_hope_2 rfl ?_
  refine y_ldc2 hg dX3_hope_3 q1365 ?_
  refine y_cSi hg (cM_in _ _ _) iX3_in q1052 rfl rfl (by simp [Value.category]) (Nat.le_refl _) (Nat.le_refl _) (by decide) dX3_hope_6 (fun r σ1 hp => ?_)
  obtain ⟨rfl, rfl⟩ := hp
  refine y_if_ne hg 15 dX3_hope_9 (by decide) (fun hc => ?_) (fun hc => ?_)
  · have h1 := b2T hc
    obtain ⟨x, hx, rfl⟩ := (inL_iff 10 rfl (by decide)).mp h1
    have ew : (nI x).toNatClampNeg = x := nI_clamp (by omega)
    refine y_aload_n hg dX3_hope_15 rfl ?_
    refine y_cVi hg (cM_unbarred hW hR) iX3_unbarred q1335 (hM.m) cf3 rfl rfl (by simp [Value.category]) (Nat.le_refl _) (Nat.le_refl _) (by decide) dX3_hope_16 (fun r σ2 hp => ?_)
    obtain ⟨rfl, rfl⟩ := hp
    refine y_istore_n hg dX3_hope_19 (by decide) (lv1 := [(0, _), (1, _), (2, _), (3, _)]) rfl ?_
    refine y_iload_n hg dX3_hope_20 rfl ?_
    refine y_bipush (v := nI 8) hg dX3_hope_21 rfl ?_
    refine y_icmp_le hg 29 dX3_hope_23 (by decide) (fun hc3 => ?_) (fun hc3 => ?_)
    · have h8 : un (bbA A) (nm A) ≤ 8 := (nI_leI (by omega) (by decide)).mp hc3
      have hU : 2 ^ un (bbA A) (nm A) ≤ 256 := Nat.pow_le_pow_right (n := 2) (by omega) h8
      have h10 := p10 h8
      have h10p : 0 < 10 ^ un (bbA A) (nm A) := Nat.pow_pos (by omega)
      have hle := hoS_le (A := A) hx
      have eo : rHope A (nI x) u = nI ((if u = 0 then 10 ^ un (bbA A) (nm A) else hoS A x) / Nat.gcd (hoS A x) (10 ^ un (bbA A) (nm A))) := by unfold rHope; rw [if_pos h1, ew, if_neg (by omega)]
      rw [eo] at hr
      refine y_aload_n hg dX3_hope_29 rfl ?_
      refine y_cVv hg (cM_layWorth hW hR h8) iX3_layWorth q1343 (hM.m) cf3 rfl rfl (by simp [Value.category]) (Nat.le_refl _) (Nat.le_refl _) (by decide) dX3_hope_30 (fun σ5 hp => ?_)
      obtain ⟨hw5, hv5⟩ := hp
      have hM := hw5.1.1
      refine y_iconst (v := nI 0) hg dX3_hope_33 rfl ?_
      refine y_istore hg dX3_hope_34 (by decide) (lv1 := [(0, _), (1, _), (2, _), (3, _), (4, _)]) rfl ?_
      refine y_iconst (v := nI 0) hg dX3_hope_36 rfl ?_
      refine y_istore hg dX3_hope_37 (by decide) (lv1 := [(0, _), (1, _), (2, _), (3, _), (4, _), (5, _)]) rfl ?_
      refine (loop_up (G := fun i => YY g 6 σ5 0 0 39 [(0, .ref (B.1 + 157)), (1, .int (nI x)), (2, .int u), (3, .int (nI (un (bbA A) (nm A)))), (4, .int (nI (suN (hMt A x) i))), (5, .int (nI i))] []) (2 ^ un (bbA A) (nm A)) (fun i hi ih => ?_) ?_ 0 (Nat.zero_le _))
      · have es0 : suN (hMt A x) (i + 1) = suN (hMt A x) i + hMt A x i := rfl
        have hpi : onesF (nI i) 16 = nI (pc i (un (bbA A) (nm A))) := by rw [(pc_ok i (by omega)).2, pc_10 (by omega) hi]
        have hpl := pc_len i (un (bbA A) (nm A))
        have J : ∀ q : Nat, q = hMt A x i → YY g 6 σ5 0 0 89 [(0, .ref (B.1 + 157)), (1, .int (nI x)), (2, .int u), (3, .int (nI (un (bbA A) (nm A)))), (4, .int (nI (suN (hMt A x) i))), (5, .int (nI i))] [.int (nI q), .int (nI (suN (hMt A x) i))] := by
          intro q hq
          subst hq
          refine y_iadd hg dX3_hope_89 ?_
          refine y_ti (nI_add _ _) ?_
          refine y_istore hg dX3_hope_90 (by decide) (lv1 := [(0, _), (1, _), (2, _), (3, _), (4, _), (5, _)]) rfl ?_
          refine y_iinc hg dX3_hope_92 rfl (inc1 _) (by decide) (lv1 := [(0, _), (1, _), (2, _), (3, _), (4, _), (5, _)]) rfl ?_
          refine y_goto hg 39 dX3_hope_95 (by decide) ?_
          exact ih
        have htb := tw_b hW (so (bbA A) i (nm A))
        refine y_iload hg dX3_hope_39 rfl ?_
        refine y_iconst (v := nI 1) hg dX3_hope_41 rfl ?_
        refine y_iload_n hg dX3_hope_42 rfl ?_
        refine y_ishl hg dX3_hope_43 ?_
        refine y_ti (sh_nI _ (by omega)) ?_
        refine y_icmp_ge hg 98 dX3_hope_44 (by decide) (fun hT => absurd hT (ge_c hi (by omega))) (fun _ => ?_)
        refine y_iload hg dX3_hope_47 rfl ?_
        refine y_aload_n hg dX3_hope_49 rfl ?_
        refine y_getr (j := 44) hg cf3 (hM.m) (by decide) rfl (hM.r_worth) q955 dX3_hope_50 ?_
        refine y_iload hg dX3_hope_53 rfl ?_
        refine y_lald hg _ (hM.k_worth) rfl (by omega) dX3_hope_55 ?_
        refine y_tl (hv5 _ hi) ?_
        refine y_lconst (v := 0) hg dX3_hope_56 rfl ?_
        refine y_lc_le hg 88 dX3_hope_57 dX3_hope_58 (by decide) (fun hc5 => ?_) (fun hc5 => ?_)
        · have h0 : ¬ 0 < tw A (so (bbA A) i (nm A)) := by
            have := (pk_lLE (b := 0) (by omega) (by decide)).mp hc5
            omega
          refine y_iconst (v := nI 0) hg dX3_hope_88 rfl ?_
          exact J 0 (by unfold hMt hoT; rw [if_neg h0])
        · have h0 : 0 < tw A (so (bbA A) i (nm A)) := by
            rcases Nat.lt_or_ge 0 (tw A (so (bbA A) i (nm A))) with z | z
            · exact z
            · exact absurd ((pk_lLE (b := 0) (by omega) (by decide)).mpr z) hc5
          refine y_bipush (v := nI 10) hg dX3_hope_61 rfl ?_
          refine y_iload_n hg dX3_hope_63 rfl ?_
          refine y_isub hg dX3_hope_64 ?_
          refine y_ti (pk_sub (by omega)) ?_
          refine y_iload hg dX3_hope_65 rfl ?_
          refine y_cSi hg (cM_ones _) iX3_ones q1339 rfl rfl (by simp [Value.category]) (Nat.le_refl _) (Nat.le_refl _) (by decide) dX3_hope_67 (fun r σ6 hp => ?_)
          obtain ⟨rfl, rfl⟩ := hp
          refine y_ti hpi ?_
          refine y_cSi hg (cM_power _ _ (by omega)) iX3_power q1366 rfl rfl (by simp [Value.category]) (Nat.le_refl _) (Nat.le_refl _) (by decide) dX3_hope_70 (fun r σ7 hp => ?_)
          obtain ⟨rfl, rfl⟩ := hp
          refine y_ti (powF_nI _ _) ?_
          refine y_iload_n hg dX3_hope_73 rfl ?_
          refine y_iload_n hg dX3_hope_74 rfl ?_
          refine y_iload hg dX3_hope_75 rfl ?_
          refine y_cSi hg (cM_ones _) iX3_ones q1339 rfl rfl (by simp [Value.category]) (Nat.le_refl _) (Nat.le_refl _) (by decide) dX3_hope_77 (fun r σ8 hp => ?_)
          obtain ⟨rfl, rfl⟩ := hp
          refine y_ti hpi ?_
          refine y_isub hg dX3_hope_80 ?_
          refine y_ti (pk_sub (by omega)) ?_
          refine y_cSi hg (cM_power _ _ (by omega)) iX3_power q1366 rfl rfl (by simp [Value.category]) (Nat.le_refl _) (Nat.le_refl _) (by decide) dX3_hope_81 (fun r σ9 hp => ?_)
          obtain ⟨rfl, rfl⟩ := hp
          refine y_ti (powF_nI _ _) ?_
          refine y_imul hg dX3_hope_84 ?_
          refine y_ti (pk_mul _ _) ?_
          refine y_goto hg 89 dX3_hope_85 (by decide) ?_
          exact J _ (by unfold hMt hoT; rw [if_pos h0, pc_so])
      · have e10 : powF (nI 10) (un (bbA A) (nm A)) = nI (10 ^ un (bbA A) (nm A)) := powF_nI 10 _
        have eg : gcd2 (lN (hoS A x)) (lN (10 ^ un (bbA A) (nm A))) = lN (Nat.gcd (hoS A x) (10 ^ un (bbA A) (nm A))) := gcd2_nat (by omega) (by omega)
        have hg1 : 0 < Nat.gcd (hoS A x) (10 ^ un (bbA A) (nm A)) := Nat.gcd_pos_of_pos_right _ h10p
        have hg2 : Nat.gcd (hoS A x) (10 ^ un (bbA A) (nm A)) ≤ 10 ^ un (bbA A) (nm A) := Nat.gcd_le_right _ h10p
        have hnz : ¬ lN (10 ^ un (bbA A) (nm A)) = 0 := fun z => by
          have := (pk_lEQ (b := 0) (by omega) (by decide)).mp z
          omega
        have efr : frac (lN (hoS A x)) (lN (10 ^ un (bbA A) (nm A))) u = lN ((if u = 0 then 10 ^ un (bbA A) (nm A) else hoS A x) / Nat.gcd (hoS A x) (10 ^ un (bbA A) (nm A))) := by
          unfold frac
          rw [eg, pk_lDiv (by omega) hg1 (by omega), pk_lDiv (by omega) hg1 (by omega)]
          split <;> rfl
        show YY g 6 σ5 0 0 39 [(0, .ref (B.1 + 157)), (1, .int (nI x)), (2, .int u), (3, .int (nI (un (bbA A) (nm A)))), (4, .int (nI (hoS A x))), (5, .int (nI (2 ^ un (bbA A) (nm A))))] []
        refine y_iload hg dX3_hope_39 rfl ?_
        refine y_iconst (v := nI 1) hg dX3_hope_41 rfl ?_
        refine y_iload_n hg dX3_hope_42 rfl ?_
        refine y_ishl hg dX3_hope_43 ?_
        refine y_ti (sh_nI _ (by omega)) ?_
        refine y_icmp_ge hg 98 dX3_hope_44 (by decide) (fun _ => ?_) (fun hF => absurd (le_c (Nat.le_refl _) (by omega)) hF)
        refine y_iload hg dX3_hope_98 rfl ?_
        refine y_i2l hg dX3_hope_100 ?_
        refine y_tl (nI_l (by omega)) ?_
        refine y_bipush (v := nI 10) hg dX3_hope_101 rfl ?_
        refine y_iload_n hg dX3_hope_103 rfl ?_
        refine y_cSi hg (cM_power _ _ (by omega)) iX3_power q1366 rfl rfl (by simp [Value.category]) (Nat.le_refl _) (Nat.le_refl _) (by decide) dX3_hope_104 (fun r σ6 hp => ?_)
        obtain ⟨rfl, rfl⟩ := hp
        refine y_ti e10 ?_
        refine y_i2l hg dX3_hope_107 ?_
        refine y_tl (nI_l (by omega)) ?_
        refine y_iload_n hg dX3_hope_108 rfl ?_
        refine y_cSl hg (cM_fraction _ _ _ hnz) iX3_fraction q1358 rfl rfl (by simp [Value.category]) (Nat.le_refl _) (Nat.le_refl _) (by decide) dX3_hope_109 (fun r σ7 hp => ?_)
        obtain ⟨rfl, rfl⟩ := hp
        refine y_tl efr ?_
        refine y_l2i hg dX3_hope_112 ?_
        refine y_ti (lN_i _) ?_
        refine y_iret hg hr ⟨_, rfl, ?_⟩ dX3_hope_113 (Nat.le_refl _) (Nat.le_refl _)
        exact ⟨rfl, hw5.fin⟩
    · have h8 : 8 < un (bbA A) (nm A) := by
        rcases Nat.lt_or_ge 8 (un (bbA A) (nm A)) with z | z
        · exact z
        · exact absurd ((nI_leI (by omega) (by decide)).mpr z) hc3
      refine y_bipush (v := -3) hg dX3_hope_26 rfl ?_
      refine y_iret hg hr ⟨_, rfl, ?_⟩ dX3_hope_28 (Nat.le_refl _) (Nat.le_refl _)
      have eo : rHope A (nI x) u = -3 := by unfold rHope; rw [if_pos h1, if_pos h8]
      exact ⟨eo.symm, hR, FrR.rf⟩
  · refine y_bipush (v := -2) hg dX3_hope_12 rfl ?_
    refine y_iret hg hr ⟨_, rfl, ?_⟩ dX3_hope_14 (Nat.le_refl _) (Nat.le_refl _)
    have eo : rHope A v u = -2 := by unfold rHope; rw [if_neg (b2F hc)]
    exact ⟨eo.symm, hR, FrR.rf⟩
end HopeW

