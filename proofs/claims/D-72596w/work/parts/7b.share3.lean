section ShareW
variable {ll : Launch} {B : Bs} {σ : Mem} {A : Ab} {sd : Int64}
theorem or_nI (a b : Nat) : nI a ||| nI b = nI (a ||| b) := by
  apply Int32.toBitVec_inj.mp
  rw [Int32.toBitVec_or]
  show BitVec.ofNat 32 a ||| BitVec.ofNat 32 b = BitVec.ofNat 32 (a ||| b)
  apply BitVec.eq_of_toNat_eq
  rw [BitVec.toNat_or, BitVec.toNat_ofNat, BitVec.toNat_ofNat, BitVec.toNat_ofNat, Nat.or_mod_two_pow]
theorem pc_S {bb : Nat → Bool} {S : Nat} : ∀ n, (∀ k, k < n → S.testBit k = !bb k) → pc S n = un bb n
  | 0, _ => rfl
  | n + 1, h => by
    have ih := pc_S n (fun k hk => h k (by omega))
    have e := h n (by omega)
    rw [un_s]
    show pc S n + (if S.testBit n = true then 1 else 0) = _
    rw [e, ih]
    cases bb n with
    | true => rfl
    | false => rfl
theorem inS_le {bb : Nat → Bool} {n s S : Nat} (hs : s < 2 ^ n) (hS : ∀ k, k < n → S.testBit k = !bb k) (h : inS bb s n = true) : s ≤ S := by
  have e : s &&& S = s := by
    apply Nat.eq_of_testBit_eq
    intro k
    rw [Nat.testBit_and]
    by_cases hk : k < n
    · cases q : s.testBit k with
      | true => rw [hS k hk, (inS_iff n).mp h k hk q]; rfl
      | false => rfl
    · rw [Nat.testBit_lt_two_pow (Nat.lt_of_lt_of_le hs (Nat.pow_le_pow_right (by omega) (by omega)))]
      rfl
  rw [← e]
  exact Nat.and_le_right
theorem suL_cut {t : Nat → Int64} {m n : Nat} (h : m ≤ n) (h0 : ∀ i, m ≤ i → i < n → t i = 0) : suL t n = suL t m := by
  obtain ⟨d, rfl⟩ : ∃ d, n = m + d := ⟨n - m, by omega⟩
  rw [suL_add, suL_congr (u := fun _ => 0) d (fun i hi => h0 _ (by omega) (by omega)), suL_0, Int64.add_zero]
theorem pc_pos {s k : Nat} : ∀ n, k < n → s.testBit k = true → 1 ≤ pc s n
  | 0, h, _ => by omega
  | n + 1, h, hs => by
    show 1 ≤ pc s n + (if s.testBit n = true then 1 else 0)
    by_cases e : k = n
    · subst e; rw [if_pos hs]; omega
    · have := pc_pos n (by omega) hs
      omega
theorem fac_nz : ∀ n, n < 9 → ¬ (facF n).toInt64 = 0 := by decide +kernel
theorem pc_10 {s n : Nat} (hn : n ≤ 10) (hs : s < 2 ^ n) : pc s 10 = pc s n := by
  have := pc_hi hs (10 - n)
  rw [show n + (10 - n) = 10 by omega] at this
  exact this
theorem and_wo : ∀ k, k < 8 → ∀ s, s < 256 → s.testBit k = true → nI s &&& (nI (2 ^ k) ^^^ -1) = nI (s - 2 ^ k) ∧ (s - 2 ^ k).testBit k = false ∧ 2 ^ k ≤ s := by decide +kernel
theorem nb8 {b : Bool} {n : Nat} (hb : b = false) (h : n ≤ 8) : ¬ (b = true ∨ 8 < n) := fun z => z.elim (fun q => by rw [hb] at q; exact absurd q (by decide)) (fun q => by omega)
def rShare (A : Ab) (v u : Int32) : Int64 := if isW (nm A) v = true then (if bbA A v.toNatClampNeg = true ∨ 8 < un (bbA A) (nm A) then -3 else frac (shX A v.toNatClampNeg) (facF (un (bbA A) (nm A))).toInt64 u) else -1
theorem cX_share (hW : WFA A) (hR : RX B A sd σ) (v u : Int32) : MT ll B 24 0 0 yX0_share cX0_share 9 (some .long) [.ref (B.1 + 0), .int v, .int u] σ (oXl B A sd σ (rShare A v u)) := by
  have hL := hR.1
  have hm := hW.nmle
  have h1024 := p1024 hm
  have em := hR.many.trans hW.1.1
  obtain ⟨b, hb, eb, hbb⟩ := hW.bar
  obtain ⟨S, hS, eS, hSb0⟩ := some_S (b := b) hm
  have hSb : ∀ k, k < nm A → S.testBit k = !bbA A k := fun k hk => by rw [hSb0 k hk, hbb k (by omega)]
  have hpS : bitcF (nI S) = nI (un (bbA A) (nm A)) := by rw [(pc_ok S (by omega)).1, pc_10 hm hS, pc_S (nm A) hSb]
  have hun := un_le (bbA A) (nm A)
  refine MT.of (by decide) (Nat.le_of_ble_eq_true rfl) (fun g hg hr => ?_)
  refine y_aload_n hg dX0_share_0 rfl ?_
  refine y_iload_n hg dX0_share_1 rfl ?_
  refine y_cVi hg (cX_isW hW hR _) iX0_isWord q440 (hL.x) cf0 rfl rfl (by simp [Value.category]) (Nat.le_refl _) (Nat.le_refl _) (by decide) dX0_share_2 (fun r σ1 hp => ?_)
  obtain ⟨rfl, rfl⟩ := hp
  refine y_if_ne hg 12 dX0_share_5 (by decide) (fun hc => ?_) (fun hc => ?_)
  · have h1 := b2T hc
    obtain ⟨w, hw, rfl⟩ := (isW_iff hm).mp h1
    have ew : (nI w).toNatClampNeg = w := nI_clamp (by omega)
    refine y_aload_n hg dX0_share_12 rfl ?_
    refine y_cVi hg (cX_all hL) iX0_all q372 (hL.x) cf0 rfl rfl (by simp [Value.category]) (Nat.le_refl _) (Nat.le_refl _) (by decide) dX0_share_13 (fun r σ2 hp => ?_)
    obtain ⟨rfl, rfl⟩ := hp
    refine y_aload_n hg dX0_share_16 rfl ?_
    refine y_getr (j := 2) hg cf0 (hL.x) (by decide) rfl (hL.r_now) q174 dX0_share_17 ?_
    refine y_getiN (j := 1) hg cf1 (hL.s_now.o) (by decide) rfl nf1 dX0_share_20 ?_
    refine y_ti (hR.barred.trans eb) ?_
    refine y_iconst (v := -1) hg dX0_share_23 rfl ?_
    refine y_ixor hg dX0_share_24 ?_
    refine y_iand hg dX0_share_25 ?_
    refine y_ti (show _ = nI S by rw [em]; exact eS) ?_
    refine y_istore_n hg dX0_share_26 (by decide) (lv1 := [(0, _), (1, _), (2, _), (3, _)]) rfl ?_
    refine y_iload_n hg dX0_share_27 rfl ?_
    refine y_cSi hg (cJ_bitCount _) iJ3_bitCount q855 rfl rfl (by simp [Value.category]) (Nat.le_refl _) (Nat.le_refl _) (by decide) dX0_share_28 (fun r σ3 hp => ?_)
    obtain ⟨rfl, rfl⟩ := hp
    refine y_ti hpS ?_
    refine y_istore hg dX0_share_31 (by decide) (lv1 := [(0, _), (1, _), (2, _), (3, _), (4, _)]) rfl ?_
    refine y_iload_n hg dX0_share_33 rfl ?_
    refine y_iload_n hg dX0_share_34 rfl ?_
    refine y_cSi hg (cX_has _ _) iX0_has q344 rfl rfl (by simp [Value.category]) (Nat.le_refl _) (Nat.le_refl _) (by decide) dX0_share_35 (fun r σ4 hp => ?_)
    obtain ⟨rfl, rfl⟩ := hp
    rw [hb_tb (by omega), hSb w hw]
    refine y_if_eq hg 48 dX0_share_38 (by decide) (fun hc2 => ?_) (fun hc2 => ?_)
    · have hbw : bbA A w = true := by
        have := b2F hc2
        cases q : bbA A w with
        | true => rfl
        | false => rw [q] at this; exact absurd rfl this
      refine y_ldc2 hg dX0_share_48 q861 ?_
      refine y_lret hg hr ⟨_, rfl, ?_⟩ dX0_share_51 (Nat.le_refl _) (Nat.le_refl _)
      have eo : rShare A (nI w) u = -3 := by unfold rShare; rw [if_pos h1, ew, if_pos (Or.inl hbw)]
      exact ⟨eo.symm, hR, Fr.rf⟩
    · have hbw : bbA A w = false := by
        have := b2T hc2
        cases q : bbA A w with
        | false => rfl
        | true => rw [q] at this; exact absurd this (by decide)
      have hu1 := un_mono hbw (nm A) hw
      refine y_iload hg dX0_share_41 rfl ?_
      refine y_bipush (v := nI 8) hg dX0_share_43 rfl ?_
      refine y_icmp_le hg 52 dX0_share_45 (by decide) (fun hc3 => ?_) (fun hc3 => ?_)
      · have h8 : un (bbA A) (nm A) ≤ 8 := (nI_leI (by omega) (by decide)).mp hc3
        have eo : rShare A (nI w) u = frac (shX A w) (facF (un (bbA A) (nm A))).toInt64 u := by unfold rShare; rw [if_pos h1, ew, if_neg (nb8 hbw h8)]
        rw [eo] at hr
        have hz : ¬ gcd2 (shX A w) (facF (un (bbA A) (nm A))).toInt64 = 0 := gcd2_nz (fac_nz _ (by omega))
        have eX : suL (shT A w) (S + 1) = shX A w := (suL_cut (by omega) (fun i h1 h2 => by
          unfold shT
          rw [if_neg (fun z => ?_)]
          have := inS_le h2 hSb z.1
          omega)).symm
        refine y_aload_n hg dX0_share_52 rfl ?_
        refine y_iload_n hg dX0_share_53 rfl ?_
        refine y_cVv hg (cX_layWorth hW (WX.rf hR) hS hSb) iX0_layWorth q862 (hL.x) cf0 rfl rfl (by simp [Value.category]) (Nat.le_refl _) (Nat.le_refl _) (by decide) dX0_share_54 (fun σ5 hp => ?_)
        obtain ⟨hw5, hv5⟩ := hp
        have hL := hw5.1.1
        refine y_lconst (v := 0) hg dX0_share_57 rfl ?_
        refine y_lstore hg dX0_share_58 (by decide) (lv1 := [(0, _), (1, _), (2, _), (3, _), (4, _), (5, _)]) rfl ?_
        refine y_iconst (v := nI 0) hg dX0_share_60 rfl ?_
        refine y_istore hg dX0_share_61 (by decide) (lv1 := [(0, _), (1, _), (2, _), (3, _), (4, _), (5, _), (7, _)]) rfl ?_
        refine (loop_up (G := fun i => YY g 9 σ5 0 0 63 [(0, .ref (B.1 + 0)), (1, .int (nI w)), (2, .int u), (3, .int (nI S)), (4, .int (nI (un (bbA A) (nm A)))), (5, .long (suL (shT A w) i)), (7, .int (nI i))] []) (S + 1) (fun i hi ih => ?_) ?_ 0 (Nat.zero_le _))
        · have hin := in_X (bb := bbA A) (s := i) hm (by omega) hSb
          have es0 : suL (shT A w) (i + 1) = suL (shT A w) i + shT A w i := rfl
          have hz0 : shT A w i = 0 → suL (shT A w) (i + 1) = suL (shT A w) i := fun e => by rw [es0, e, Int64.add_zero]
          refine y_iload hg dX0_share_63 rfl ?_
          refine y_iload_n hg dX0_share_65 rfl ?_
          refine y_icmp_gt hg 143 dX0_share_66 (by decide) (fun hT => absurd hT (nI_nlt (by omega) (by omega))) (fun _ => ?_)
          refine y_iload hg dX0_share_69 rfl ?_
          refine y_iload_n hg dX0_share_71 rfl ?_
          refine y_iconst (v := -1) hg dX0_share_72 rfl ?_
          refine y_ixor hg dX0_share_73 ?_
          refine y_iand hg dX0_share_74 ?_
          refine y_if_ne hg 137 dX0_share_75 (by decide) (fun hc4 => ?_) (fun hc4 => ?_)
          · rw [hz0 (by unfold shT; rw [if_neg (fun z => hc4 (hin.mpr z.1))])] at ih
            refine y_iinc hg dX0_share_137 rfl (inc1 _) (by decide) (lv1 := [(0, _), (1, _), (2, _), (3, _), (4, _), (5, _), (7, _)]) rfl ?_
            refine y_goto hg 63 dX0_share_140 (by decide) ?_
            exact ih
          · have hii := hin.mp hc4
            refine y_iload hg dX0_share_78 rfl ?_
            refine y_iload_n hg dX0_share_80 rfl ?_
            refine y_cSi hg (cX_has _ _) iX0_has q344 rfl rfl (by simp [Value.category]) (Nat.le_refl _) (Nat.le_refl _) (by decide) dX0_share_81 (fun r σ6 hp => ?_)
            obtain ⟨rfl, rfl⟩ := hp
            rw [hb_tb (by omega)]
            refine y_if_ne hg 137 dX0_share_84 (by decide) (fun hc5 => ?_) (fun hc5 => ?_)
            · have hq := b2T hc5
              rw [hz0 (by unfold shT; rw [if_neg (fun z => by rw [hq] at z; exact absurd z.2 (by decide))])] at ih
              refine y_iinc hg dX0_share_137 rfl (inc1 _) (by decide) (lv1 := [(0, _), (1, _), (2, _), (3, _), (4, _), (5, _), (7, _)]) rfl ?_
              refine y_goto hg 63 dX0_share_140 (by decide) ?_
              exact ih
            · have hq : i.testBit w = false := by
                have := b2F hc5
                cases q : i.testBit w with
                | false => rfl
                | true => exact absurd q this
              have hi2 : inS (bbA A) (2 ^ w + i) (nm A) = true := by rw [inS_add (by omega) (by omega) hq hbw]; exact hii
              have hlt : 2 ^ w + i < 2 ^ nm A := by
                have := or_add w (by omega) i (by omega) hq
                rw [this]
                exact Nat.or_lt_two_pow (by omega) (Nat.pow_lt_pow_right (by omega) hw)
              have hle := inS_le hlt hSb hi2
              have hpa := pc_add (by omega) (by omega) hq (nm A)
              rw [if_pos hw] at hpa
              have hpl := pc_le (nm A) hi2
              have hpi : bitcF (nI i) = nI (pc i (nm A)) := by rw [(pc_ok i (by omega)).1, pc_10 hm (by omega)]
              have es : suL (shT A w) (i + 1) = suL (shT A w) i + (facF (pc i (nm A))).toInt64 * (facF (un (bbA A) (nm A) - 1 - pc i (nm A))).toInt64 * (lN (tw A (2 ^ w + i)) - lN (tw A i)) := by
                rw [es0]
                unfold shT gS
                rw [if_pos ⟨hii, hq⟩, hpa, Nat.add_sub_cancel, Nat.add_sub_cancel_left]
              rw [es] at ih
              refine y_iload hg dX0_share_87 rfl ?_
              refine y_cSi hg (cJ_bitCount _) iJ3_bitCount q855 rfl rfl (by simp [Value.category]) (Nat.le_refl _) (Nat.le_refl _) (by decide) dX0_share_89 (fun r σ7 hp => ?_)
              obtain ⟨rfl, rfl⟩ := hp
              refine y_ti hpi ?_
              refine y_istore hg dX0_share_92 (by decide) (lv1 := [(0, _), (1, _), (2, _), (3, _), (4, _), (5, _), (7, _), (8, _)]) rfl ?_
              refine y_lload hg dX0_share_94 rfl ?_
              refine y_iload hg dX0_share_96 rfl ?_
              refine y_cSi hg (cX_factorial _ (by omega)) iX0_factorial q866 rfl rfl (by simp [Value.category]) (Nat.le_refl _) (Nat.le_refl _) (by decide) dX0_share_98 (fun r σ8 hp => ?_)
              obtain ⟨rfl, rfl⟩ := hp
              refine y_i2l hg dX0_share_101 ?_
              refine y_iload hg dX0_share_102 rfl ?_
              refine y_iconst (v := nI 1) hg dX0_share_104 rfl ?_
              refine y_isub hg dX0_share_105 ?_
              refine y_ti (pk_sub (by omega)) ?_
              refine y_iload hg dX0_share_106 rfl ?_
              refine y_isub hg dX0_share_108 ?_
              refine y_ti (pk_sub (by omega)) ?_
              refine y_cSi hg (cX_factorial _ (by omega)) iX0_factorial q866 rfl rfl (by simp [Value.category]) (Nat.le_refl _) (Nat.le_refl _) (by decide) dX0_share_109 (fun r σ9 hp => ?_)
              obtain ⟨rfl, rfl⟩ := hp
              refine y_i2l hg dX0_share_112 ?_
              refine y_lmul hg dX0_share_113 ?_
              refine y_aload_n hg dX0_share_114 rfl ?_
              refine y_getr (j := 32) hg cf0 (hL.x) (by decide) rfl (hL.r_worth) q204 dX0_share_115 ?_
              refine y_iload hg dX0_share_118 rfl ?_
              refine y_iconst (v := nI 1) hg dX0_share_120 rfl ?_
              refine y_iload_n hg dX0_share_121 rfl ?_
              refine y_ishl hg dX0_share_122 ?_
              refine y_ior hg dX0_share_123 ?_
              refine y_ti (by rw [sh_nI w (by omega), or_nI, ← or_add w (by omega) i (by omega) hq]) ?_
              refine y_lald hg _ (hL.k_worth) rfl (by omega) dX0_share_124 ?_
              refine y_tl (hv5 _ hle hi2) ?_
              refine y_aload_n hg dX0_share_125 rfl ?_
              refine y_getr (j := 32) hg cf0 (hL.x) (by decide) rfl (hL.r_worth) q204 dX0_share_126 ?_
              refine y_iload hg dX0_share_129 rfl ?_
              refine y_lald hg _ (hL.k_worth) rfl (by omega) dX0_share_131 ?_
              refine y_tl (hv5 _ (by omega) hii) ?_
              refine y_lsub hg dX0_share_132 ?_
              refine y_lmul hg dX0_share_133 ?_
              refine y_ladd hg dX0_share_134 ?_
              refine y_lstore hg dX0_share_135 (by decide) (lv1 := [(0, _), (1, _), (2, _), (3, _), (4, _), (5, _), (7, _), (8, _)]) rfl ?_
              refine y_iinc hg dX0_share_137 rfl (inc1 _) (by decide) (lv1 := [(0, _), (1, _), (2, _), (3, _), (4, _), (5, _), (7, _), (8, _)]) rfl ?_
              refine y_goto hg 63 dX0_share_140 (by decide) ?_
              exact y_sub [0, 1, 2, 3, 4, 5, 6] rfl ih
        · rw [eX]
          refine y_iload hg dX0_share_63 rfl ?_
          refine y_iload_n hg dX0_share_65 rfl ?_
          refine y_icmp_gt hg 143 dX0_share_66 (by decide) (fun _ => ?_) (fun hF => absurd (nI_lt (by omega) (by omega)) hF)
          refine y_lload hg dX0_share_143 rfl ?_
          refine y_iload hg dX0_share_145 rfl ?_
          refine y_cSi hg (cX_factorial _ (by omega)) iX0_factorial q866 rfl rfl (by simp [Value.category]) (Nat.le_refl _) (Nat.le_refl _) (by decide) dX0_share_147 (fun r σ6 hp => ?_)
          obtain ⟨rfl, rfl⟩ := hp
          refine y_i2l hg dX0_share_150 ?_
          refine y_cSl hg (cX_common _ _) iX0_common q869 rfl rfl (by simp [Value.category]) (Nat.le_refl _) (Nat.le_refl _) (by decide) dX0_share_151 (fun r σ7 hp => ?_)
          obtain ⟨rfl, rfl⟩ := hp
          refine y_lstore hg dX0_share_154 (by decide) (lv1 := [(0, _), (1, _), (2, _), (3, _), (4, _), (5, _), (7, _)]) rfl ?_
          refine y_iload_n hg dX0_share_156 rfl ?_
          refine y_if_eq hg 168 dX0_share_157 (by decide) (fun hu => ?_) (fun hu => ?_)
          · refine y_iload hg dX0_share_168 rfl ?_
            refine y_cSi hg (cX_factorial _ (by omega)) iX0_factorial q866 rfl rfl (by simp [Value.category]) (Nat.le_refl _) (Nat.le_refl _) (by decide) dX0_share_170 (fun r σ8 hp => ?_)
            obtain ⟨rfl, rfl⟩ := hp
            refine y_i2l hg dX0_share_173 ?_
            refine y_lload hg dX0_share_174 rfl ?_
            refine y_ldiv hg dX0_share_176 hz ?_
            refine y_lret hg hr ⟨_, rfl, ?_⟩ dX0_share_177 (Nat.le_refl _) (Nat.le_refl _)
            exact ⟨by unfold frac; rw [if_pos hu], hw5.fin⟩
          · refine y_lload hg dX0_share_160 rfl ?_
            refine y_lload hg dX0_share_162 rfl ?_
            refine y_ldiv hg dX0_share_164 hz ?_
            refine y_goto hg 177 dX0_share_165 (by decide) ?_
            refine y_lret hg hr ⟨_, rfl, ?_⟩ dX0_share_177 (Nat.le_refl _) (Nat.le_refl _)
            exact ⟨by unfold frac; rw [if_neg hu], hw5.fin⟩
      · have h8 : 8 < un (bbA A) (nm A) := by
          rcases Nat.lt_or_ge 8 (un (bbA A) (nm A)) with z | z
          · exact z
          · exact absurd ((nI_leI (by omega) (by decide)).mpr z) hc3
        refine y_ldc2 hg dX0_share_48 q861 ?_
        refine y_lret hg hr ⟨_, rfl, ?_⟩ dX0_share_51 (Nat.le_refl _) (Nat.le_refl _)
        have eo : rShare A (nI w) u = -3 := by unfold rShare; rw [if_pos h1, ew, if_pos (Or.inr h8)]
        exact ⟨eo.symm, hR, Fr.rf⟩
  · refine y_ldc2 hg dX0_share_8 q520 ?_
    refine y_lret hg hr ⟨_, rfl, ?_⟩ dX0_share_11 (Nat.le_refl _) (Nat.le_refl _)
    have eo : rShare A v u = -1 := by unfold rShare; rw [if_neg (b2F hc)]
    exact ⟨eo.symm, hR, Fr.rf⟩
theorem cM_share (hW : WFA A) (hR : RMm B A sd σ) (v u : Int32) : MT ll B 24 0 0 yX3_share cX3_share 9 (some .long) [.ref (B.1 + 157), .int v, .int u] σ (oMl B A sd σ (rShare A v u)) := by
  have hM := hR.1
  have hm := hW.nmle
  have hun := un_le (bbA A) (nm A)
  refine MT.of (by decide) (Nat.le_of_ble_eq_true rfl) (fun g hg hr => ?_)
  refine y_aload_n hg dX3_share_0 rfl ?_
  refine y_iload_n hg dX3_share_1 rfl ?_
  refine y_cVi hg (cM_isW hW hR _) iX3_isWord q1174 (hM.m) cf3 rfl rfl (by simp [Value.category]) (Nat.le_refl _) (Nat.le_refl _) (by decide) dX3_share_2 (fun r σ1 hp => ?_)
  obtain ⟨rfl, rfl⟩ := hp
  refine y_if_ne hg 12 dX3_share_5 (by decide) (fun hc => ?_) (fun hc => ?_)
  · have h1 := b2T hc
    obtain ⟨w, hw, rfl⟩ := (isW_iff hm).mp h1
    have ew : (nI w).toNatClampNeg = w := nI_clamp (by omega)
    refine y_aload_n hg dX3_share_12 rfl ?_
    refine y_cVi hg (cM_unbarred hW hR) iX3_unbarred q1335 (hM.m) cf3 rfl rfl (by simp [Value.category]) (Nat.le_refl _) (Nat.le_refl _) (by decide) dX3_share_13 (fun r σ2 hp => ?_)
    obtain ⟨rfl, rfl⟩ := hp
    refine y_istore_n hg dX3_share_16 (by decide) (lv1 := [(0, _), (1, _), (2, _), (3, _)]) rfl ?_
    refine y_aload_n hg dX3_share_17 rfl ?_
    refine y_getr (j := 7) hg cf3 (hM.m) (by decide) rfl (hM.r_now) q918 dX3_share_18 ?_
    refine y_bipush (v := nI 8) hg dX3_share_21 rfl ?_
    refine y_iald hg _ (hM.k_now) rfl (by omega) dX3_share_23 ?_
    refine y_ti (hR.barred) ?_
    refine y_iload_n hg dX3_share_24 rfl ?_
    refine y_cSi hg (cM_has _ _) iX3_has q1100 rfl rfl (by simp [Value.category]) (Nat.le_refl _) (Nat.le_refl _) (by decide) dX3_share_25 (fun r σ3 hp => ?_)
    obtain ⟨rfl, rfl⟩ := hp
    refine y_if_ne hg 37 dX3_share_28 (by decide) (fun hc2 => ?_) (fun hc2 => ?_)
    · have hbw : bbA A w = true := b2T hc2
      refine y_ldc2 hg dX3_share_37 q1342 ?_
      refine y_lret hg hr ⟨_, rfl, ?_⟩ dX3_share_40 (Nat.le_refl _) (Nat.le_refl _)
      have eo : rShare A (nI w) u = -3 := by unfold rShare; rw [if_pos h1, ew, if_pos (Or.inl hbw)]
      exact ⟨eo.symm, hR, FrR.rf⟩
    · have hbw : bbA A w = false := by
        have := b2F hc2
        cases q : bbA A w with
        | false => rfl
        | true => exact absurd q this
      have hu1 := un_mono hbw (nm A) hw
      refine y_iload_n hg dX3_share_31 rfl ?_
      refine y_bipush (v := nI 8) hg dX3_share_32 rfl ?_
      refine y_icmp_le hg 41 dX3_share_34 (by decide) (fun hc3 => ?_) (fun hc3 => ?_)
      · have h8 : un (bbA A) (nm A) ≤ 8 := (nI_leI (by omega) (by decide)).mp hc3
        have hU : 2 ^ un (bbA A) (nm A) ≤ 256 := Nat.pow_le_pow_right (n := 2) (by omega) h8
        have eo : rShare A (nI w) u = frac (shM A w) (facF (un (bbA A) (nm A))).toInt64 u := by unfold rShare; rw [if_pos h1, ew, if_neg (nb8 hbw h8), sh_eq hm hw hbw]
        rw [eo] at hr
        refine y_aload_n hg dX3_share_41 rfl ?_
        refine y_cVv hg (cM_layWorth hW hR h8) iX3_layWorth q1343 (hM.m) cf3 rfl rfl (by simp [Value.category]) (Nat.le_refl _) (Nat.le_refl _) (by decide) dX3_share_42 (fun σ5 hp => ?_)
        obtain ⟨hw5, hv5⟩ := hp
        have hM := hw5.1.1
        refine y_lconst (v := 0) hg dX3_share_45 rfl ?_
        refine y_lstore hg dX3_share_46 (by decide) (lv1 := [(0, _), (1, _), (2, _), (3, _), (4, _)]) rfl ?_
        refine y_iconst (v := nI 0) hg dX3_share_48 rfl ?_
        refine y_istore hg dX3_share_49 (by decide) (lv1 := [(0, _), (1, _), (2, _), (3, _), (4, _), (6, _)]) rfl ?_
        refine (loop_up (G := fun i => YY g 9 σ5 0 0 51 [(0, .ref (B.1 + 157)), (1, .int (nI w)), (2, .int u), (3, .int (nI (un (bbA A) (nm A)))), (4, .long (suL (fun bits => if (so (bbA A) bits (nm A)).testBit w = true then gS A w (so (bbA A) bits (nm A)) else 0) i)), (6, .int (nI i))] []) (2 ^ un (bbA A) (nm A)) (fun i hi ih => ?_) ?_ 0 (Nat.zero_le _))
        · have es0 : suL (fun bits => if (so (bbA A) bits (nm A)).testBit w = true then gS A w (so (bbA A) bits (nm A)) else 0) (i + 1) = suL (fun bits => if (so (bbA A) bits (nm A)).testBit w = true then gS A w (so (bbA A) bits (nm A)) else 0) i + (if (so (bbA A) i (nm A)).testBit w = true then gS A w (so (bbA A) i (nm A)) else 0) := rfl
          rw [es0] at ih
          have hsb := so_tb (bb := bbA A) (bits := i) (nm A) w hw
          rw [hbw, Bool.not_false, Bool.true_and] at hsb
          refine y_iload hg dX3_share_51 rfl ?_
          refine y_iconst (v := nI 1) hg dX3_share_53 rfl ?_
          refine y_iload_n hg dX3_share_54 rfl ?_
          refine y_ishl hg dX3_share_55 ?_
          refine y_ti (sh_nI _ (by omega)) ?_
          refine y_icmp_ge hg 137 dX3_share_56 (by decide) (fun hT => absurd hT (ge_c hi (by omega))) (fun _ => ?_)
          refine y_aload_n hg dX3_share_59 rfl ?_
          refine y_iload hg dX3_share_60 rfl ?_
          refine y_cVi hg (cM_someOf hW hw5.1) iX3_someOf q1347 (hM.m) cf3 rfl rfl (by simp [Value.category]) (Nat.le_refl _) (Nat.le_refl _) (by decide) dX3_share_62 (fun r σ6 hp => ?_)
          obtain ⟨rfl, rfl⟩ := hp
          refine y_istore hg dX3_share_65 (by decide) (lv1 := [(0, _), (1, _), (2, _), (3, _), (4, _), (6, _), (7, _)]) rfl ?_
          refine y_iload hg dX3_share_67 rfl ?_
          refine y_iload_n hg dX3_share_69 rfl ?_
          refine y_cSi hg (cM_has _ _) iX3_has q1100 rfl rfl (by simp [Value.category]) (Nat.le_refl _) (Nat.le_refl _) (by decide) dX3_share_70 (fun r σ7 hp => ?_)
          obtain ⟨rfl, rfl⟩ := hp
          rw [hb_tb (by omega)]
          refine y_if_eq hg 131 dX3_share_73 (by decide) (fun hc4 => ?_) (fun hc4 => ?_)
          · rw [if_neg (b2F hc4), Int64.add_zero] at ih
            refine y_iinc hg dX3_share_131 rfl (inc1 _) (by decide) (lv1 := [(0, _), (1, _), (2, _), (3, _), (4, _), (6, _), (7, _)]) rfl ?_
            refine y_goto hg 51 dX3_share_134 (by decide) ?_
            exact y_sub [0, 1, 2, 3, 4, 5] rfl ih
          · have hq := b2T hc4
            rw [if_pos hq] at ih
            have hqi : i.testBit (un (bbA A) w) = true := hsb.symm.trans hq
            have hpw : 0 < 2 ^ un (bbA A) w := Nat.two_pow_pos _
            obtain ⟨a1, a2, a3⟩ := and_wo (un (bbA A) w) (by omega) i (by omega) hqi
            have hpi : onesF (nI i) 16 = nI (pc i (un (bbA A) (nm A))) := by rw [(pc_ok i (by omega)).2, pc_10 (by omega) hi]
            have hpp := pc_pos (un (bbA A) (nm A)) hu1 hqi
            have hps := pc_so (bb := bbA A) (bits := i) (nm A)
            have hpl : pc i (un (bbA A) (nm A)) ≤ un (bbA A) (nm A) := by
              rw [← hps]
              refine pc_le (nm A) ((inS_iff _).mpr (fun k hk hb => ?_))
              rw [so_tb (nm A) k hk] at hb
              cases q : bbA A k with
              | false => rfl
              | true => rw [q] at hb; simp at hb
            have hwo : so (bbA A) (i - 2 ^ un (bbA A) w) (nm A) = so (bbA A) i (nm A) - 2 ^ w := by
              have := so_wo hbw hqi a2 (fun k hk => by
                have := tb_add (k := k) (show un (bbA A) w < 10 by omega) (show i - 2 ^ un (bbA A) w < 1024 by omega) a2
                rw [show 2 ^ un (bbA A) w + (i - 2 ^ un (bbA A) w) = i by omega, decide_eq_false (fun z => hk z.symm), Bool.or_false] at this
                exact this.symm) (nm A) hw
              omega
            have eg : gS A w (so (bbA A) i (nm A)) = (facF (pc i (un (bbA A) (nm A)) - 1)).toInt64 * (facF (un (bbA A) (nm A) - 1 - (pc i (un (bbA A) (nm A)) - 1))).toInt64 * (lN (tw A (so (bbA A) i (nm A))) - lN (tw A (so (bbA A) (i - 2 ^ un (bbA A) w) (nm A)))) := by
              unfold gS
              rw [hps, hwo]
            rw [eg] at ih
            refine y_iload hg dX3_share_76 rfl ?_
            refine y_cSi hg (cM_ones _) iX3_ones q1339 rfl rfl (by simp [Value.category]) (Nat.le_refl _) (Nat.le_refl _) (by decide) dX3_share_78 (fun r σ8 hp => ?_)
            obtain ⟨rfl, rfl⟩ := hp
            refine y_ti hpi ?_
            refine y_iconst (v := nI 1) hg dX3_share_81 rfl ?_
            refine y_isub hg dX3_share_82 ?_
            refine y_ti (pk_sub (by omega)) ?_
            refine y_istore hg dX3_share_83 (by decide) (lv1 := [(0, _), (1, _), (2, _), (3, _), (4, _), (6, _), (7, _), (8, _)]) rfl ?_
            refine y_lload hg dX3_share_85 rfl ?_
            refine y_iload hg dX3_share_87 rfl ?_
            refine y_cSi hg (cM_factorial _ (by omega)) iX3_factorial q1351 rfl rfl (by simp [Value.category]) (Nat.le_refl _) (Nat.le_refl _) (by decide) dX3_share_89 (fun r σ9 hp => ?_)
            obtain ⟨rfl, rfl⟩ := hp
            refine y_i2l hg dX3_share_92 ?_
            refine y_iload_n hg dX3_share_93 rfl ?_
            refine y_iconst (v := nI 1) hg dX3_share_94 rfl ?_
            refine y_isub hg dX3_share_95 ?_
            refine y_ti (pk_sub (by omega)) ?_
            refine y_iload hg dX3_share_96 rfl ?_
            refine y_isub hg dX3_share_98 ?_
            refine y_ti (pk_sub (by omega)) ?_
            refine y_cSi hg (cM_factorial _ (by omega)) iX3_factorial q1351 rfl rfl (by simp [Value.category]) (Nat.le_refl _) (Nat.le_refl _) (by decide) dX3_share_99 (fun r σ10 hp => ?_)
            obtain ⟨rfl, rfl⟩ := hp
            refine y_i2l hg dX3_share_102 ?_
            refine y_lmul hg dX3_share_103 ?_
            refine y_aload_n hg dX3_share_104 rfl ?_
            refine y_getr (j := 44) hg cf3 (hM.m) (by decide) rfl (hM.r_worth) q955 dX3_share_105 ?_
            refine y_iload hg dX3_share_108 rfl ?_
            refine y_lald hg _ (hM.k_worth) rfl (by omega) dX3_share_110 ?_
            refine y_tl (hv5 _ hi) ?_
            refine y_aload_n hg dX3_share_111 rfl ?_
            refine y_getr (j := 44) hg cf3 (hM.m) (by decide) rfl (hM.r_worth) q955 dX3_share_112 ?_
            refine y_iload hg dX3_share_115 rfl ?_
            refine y_aload_n hg dX3_share_117 rfl ?_
            refine y_iload_n hg dX3_share_118 rfl ?_
            refine y_cVi hg (cM_bitOf hw5.1 (by omega)) iX3_bitOf q1354 (hM.m) cf3 rfl rfl (by simp [Value.category]) (Nat.le_refl _) (Nat.le_refl _) (by decide) dX3_share_119 (fun r σ11 hp => ?_)
            obtain ⟨rfl, rfl⟩ := hp
            refine y_iconst (v := -1) hg dX3_share_122 rfl ?_
            refine y_ixor hg dX3_share_123 ?_
            refine y_iand hg dX3_share_124 ?_
            refine y_ti (a1) ?_
            refine y_lald hg _ (hM.k_worth) rfl (by omega) dX3_share_125 ?_
            refine y_tl (hv5 _ (by omega)) ?_
            refine y_lsub hg dX3_share_126 ?_
            refine y_lmul hg dX3_share_127 ?_
            refine y_ladd hg dX3_share_128 ?_
            refine y_lstore hg dX3_share_129 (by decide) (lv1 := [(0, _), (1, _), (2, _), (3, _), (4, _), (6, _), (7, _), (8, _)]) rfl ?_
            refine y_iinc hg dX3_share_131 rfl (inc1 _) (by decide) (lv1 := [(0, _), (1, _), (2, _), (3, _), (4, _), (6, _), (7, _), (8, _)]) rfl ?_
            refine y_goto hg 51 dX3_share_134 (by decide) ?_
            exact y_sub [0, 1, 2, 3, 4, 5] rfl ih
        · skip
          refine y_iload hg dX3_share_51 rfl ?_
          refine y_iconst (v := nI 1) hg dX3_share_53 rfl ?_
          refine y_iload_n hg dX3_share_54 rfl ?_
          refine y_ishl hg dX3_share_55 ?_
          refine y_ti (sh_nI _ (by omega)) ?_
          refine y_icmp_ge hg 137 dX3_share_56 (by decide) (fun _ => ?_) (fun hF => absurd (le_c (Nat.le_refl _) (by omega)) hF)
          refine y_lload hg dX3_share_137 rfl ?_
          refine y_iload_n hg dX3_share_139 rfl ?_
          refine y_cSi hg (cM_factorial _ (by omega)) iX3_factorial q1351 rfl rfl (by simp [Value.category]) (Nat.le_refl _) (Nat.le_refl _) (by decide) dX3_share_140 (fun r σ6 hp => ?_)
          obtain ⟨rfl, rfl⟩ := hp
          refine y_i2l hg dX3_share_143 ?_
          refine y_iload_n hg dX3_share_144 rfl ?_
          refine y_cSl hg (cM_fraction _ _ _ (fac_nz _ (by omega))) iX3_fraction q1358 rfl rfl (by simp [Value.category]) (Nat.le_refl _) (Nat.le_refl _) (by decide) dX3_share_145 (fun r σ7 hp => ?_)
          obtain ⟨rfl, rfl⟩ := hp
          refine y_lret hg hr ⟨_, rfl, ?_⟩ dX3_share_148 (Nat.le_refl _) (Nat.le_refl _)
          exact ⟨rfl, hw5.fin⟩
      · have h8 : 8 < un (bbA A) (nm A) := by
          rcases Nat.lt_or_ge 8 (un (bbA A) (nm A)) with z | z
          · exact z
          · exact absurd ((nI_leI (by omega) (by decide)).mpr z) hc3
        refine y_ldc2 hg dX3_share_37 q1342 ?_
        refine y_lret hg hr ⟨_, rfl, ?_⟩ dX3_share_40 (Nat.le_refl _) (Nat.le_refl _)
        have eo : rShare A (nI w) u = -3 := by unfold rShare; rw [if_pos h1, ew, if_pos (Or.inr h8)]
        exact ⟨eo.symm, hR, FrR.rf⟩
  · refine y_ldc2 hg dX3_share_8 q1242 ?_
    refine y_lret hg hr ⟨_, rfl, ?_⟩ dX3_share_11 (Nat.le_refl _) (Nat.le_refl _)
    have eo : rShare A v u = -1 := by unfold rShare; rw [if_neg (b2F hc)]
    exact ⟨eo.symm, hR, FrR.rf⟩
end ShareW

