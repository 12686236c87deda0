section Ops3
variable {ll : Launch} {B : Bs} {σ : Mem} {A : Ab} {sd : Int64}
theorem up2_id {A : Ab} {c j : Nat} : up2 A c j (A c j) = A := by
  funext a b
  by_cases e : a = c ∧ b = j
  · rw [e.1, e.2, up2_s]
  · rw [up2_n e]
theorem up2_q {A : Ab} {c j : Nat} {v : Int32} (i : Nat) (h : c = c) (hi : i ≠ j) : up2 (up2 A c j v) c i (A c i) = up2 A c j v := by
  have e : A c i = up2 A c j v c i := (up2_n (by omega)).symm
  rw [e]
  exact up2_id
theorem nm_u {A : Ab} {c j : Nat} {v : Int32} (h : c ≠ 1) (hA : nm A ≤ 10) : nm (up2 A c j v) ≤ 10 := by unfold nm; rw [up2_n (by omega)]; exact hA
theorem xor_0 (x : Int32) : x ^^^ nI 0 = x := by
  apply Int32.toBitVec_inj.mp
  rw [Int32.toBitVec_xor]
  show x.toBitVec ^^^ 0#32 = x.toBitVec
  rw [BitVec.xor_zero]
/-- where allow writes, and which bit -/
def alAt (q k : Nat) : Nat := if q = 0 then 19 else if q = 1 then 20 else 21 + k
def alBit (q : Nat) (k o : Int32) : Int32 := if q = 2 then o else k
def oAllow (A : Ab) (q k o : Int32) : Int32 × Ab := if inL k.toInt64 0 3 = true ∧ inL o.toInt64 0 3 = true then if inL q.toInt64 0 2 = true then
    (((nt A 11 (alAt q.toNatClampNeg k.toNatClampNeg) ^^^ (nI 1 <<< (alBit q.toNatClampNeg k o &&& 31))) >>> (alBit q.toNatClampNeg k o &&& 31)) &&& nI 1, up2 (nt A) 11 (alAt q.toNatClampNeg k.toNatClampNeg) (nt A 11 (alAt q.toNatClampNeg k.toNatClampNeg) ^^^ (nI 1 <<< (alBit q.toNatClampNeg k o &&& 31)))) else (-2, A) else (-1, A)
theorem oAllow_y {q k o : Nat} (hq : q ≤ 2) (hk : k ≤ 3) (ho : o ≤ 3) : oAllow A (nI q) (nI k) (nI o) = (((nt A 11 (alAt q k) ^^^ (nI 1 <<< (alBit q (nI k) (nI o) &&& 31))) >>> (alBit q (nI k) (nI o) &&& 31)) &&& nI 1, up2 (nt A) 11 (alAt q k) (nt A 11 (alAt q k) ^^^ (nI 1 <<< (alBit q (nI k) (nI o) &&& 31)))) := by
  unfold oAllow
  rw [if_pos ⟨(inL_iff 3 rfl (by decide)).mpr ⟨k, hk, rfl⟩, (inL_iff 3 rfl (by decide)).mpr ⟨o, ho, rfl⟩⟩, if_pos ((inL_iff 2 rfl (by decide)).mpr ⟨q, hq, rfl⟩), nI_clamp (by omega), nI_clamp (by omega)]
theorem wAllow (hW : WFA A) (q k o : Int32) : WFA (oAllow A q k o).2 := by
  by_cases h : inL k.toInt64 0 3 = true ∧ inL o.toInt64 0 3 = true
  · by_cases h2 : inL q.toInt64 0 2 = true
    · obtain ⟨k, hk, rfl⟩ := (inL_iff 3 rfl (by decide)).mp h.1
      obtain ⟨o, ho, rfl⟩ := (inL_iff 3 rfl (by decide)).mp h.2
      obtain ⟨q, hq, rfl⟩ := (inL_iff 2 rfl (by decide)).mp h2
      rw [oAllow_y hq hk ho]
      refine wNow (wNt hW) ?_
      have hr := hW.now
      have hx := hW.nx_e.2
      rw [nt_nm, nt_n (by omega) (by omega)]
      have hat : 19 ≤ alAt q k ∧ alAt q k < 25 := by unfold alAt; split <;> (try split) <;> omega
      refine hr.oth (by omega) (fun q => by omega) (fun q => by omega) (fun _ => ?_)
      have hb : ∃ b, b < 16 ∧ A 11 (alAt q k) = nI b := by
        unfold alAt
        split
        · exact hr.2.2.2.2.1
        · split
          · exact hr.2.2.2.2.2.1
          · exact hr.2.2.2.2.2.2 k (by omega)
      obtain ⟨b, hb, eb⟩ := hb
      rw [eb]
      unfold alBit
      split
      · exact xor_sh (n := 4) hb (by omega) (by omega)
      · exact xor_sh (n := 4) hb (by omega) (by omega)
    · unfold oAllow; rw [if_pos h, if_neg h2]; exact hW
  · unfold oAllow; rw [if_neg h]; exact hW
theorem cX_allow (hW : WFA A) (hR : RX B A sd σ) (q k o : Int32) : MT ll B 24 0 0 yX0_allow cX0_allow 5 (some .int) [.ref (B.1 + 0), .int q, .int k, .int o] σ (oX B sd σ (oAllow A q k o)) := by
  have hL := hR.1
  refine MT.of (by decide) (Nat.le_of_ble_eq_true rfl) (fun g hg hr => ?_)
  have BAD : ¬ (inL k.toInt64 0 3 = true ∧ inL o.toInt64 0 3 = true) → YY g 5 σ 0 0 14 [(0, .ref (B.1 + 0)), (1, .int q), (2, .int k), (3, .int o)] [] := by
    intro h
    refine y_iconst (v := -1) hg dX0_allow_14 rfl ?_
    refine y_iret hg hr ⟨_, rfl, ?_⟩ dX0_allow_15 (Nat.le_refl _) (Nat.le_refl _)
    have eo : oAllow A q k o = (-1, A) := by unfold oAllow; rw [if_neg h]
    rw [eo]
    exact ⟨rfl, hR, Fr.rf⟩
  refine y_iload_n hg dX0_allow_0 rfl ?_
  refine y_cSi hg (cX_isKind _) iX0_isKind q471 rfl rfl (by simp [Value.category]) (Nat.le_refl _) (Nat.le_refl _) (by decide) dX0_allow_1 (fun r σ1 hp => ?_)
  obtain ⟨rfl, rfl⟩ := hp
  refine y_if_eq hg 14 dX0_allow_4 (by decide) (fun hc => ?_) (fun hc => ?_)
  · exact BAD (fun z => b2F hc z.1)
  refine y_iload_n hg dX0_allow_7 rfl ?_
  refine y_cSi hg (cX_isKind _) iX0_isKind q471 rfl rfl (by simp [Value.category]) (Nat.le_refl _) (Nat.le_refl _) (by decide) dX0_allow_8 (fun r σ1 hp => ?_)
  obtain ⟨rfl, rfl⟩ := hp
  refine y_if_ne hg 16 dX0_allow_11 (by decide) (fun hc1 => ?_) (fun hc1 => ?_)
  · have h1 := b2T hc
    have h2 := b2T hc1
    refine y_iload_n hg dX0_allow_16 rfl ?_
    refine y_i2l hg dX0_allow_17 ?_
    refine y_lconst (v := 0) hg dX0_allow_18 rfl ?_
    refine y_ldc2 hg dX0_allow_19 q501 ?_
    refine y_cSi hg (cX_isIn _ _ _) iX0_isIn q286 rfl rfl (by simp [Value.category]) (Nat.le_refl _) (Nat.le_refl _) (by decide) dX0_allow_22 (fun r σ1 hp => ?_)
    obtain ⟨rfl, rfl⟩ := hp
    refine y_if_ne hg 31 dX0_allow_25 (by decide) (fun hc2 => ?_) (fun hc2 => ?_)
    · have h3 := b2T hc2
      obtain ⟨k, hk, rfl⟩ := (inL_iff 3 rfl (by decide)).mp h1
      obtain ⟨o, ho, rfl⟩ := (inL_iff 3 rfl (by decide)).mp h2
      obtain ⟨q, hq, rfl⟩ := (inL_iff 2 rfl (by decide)).mp h3
      rw [oAllow_y hq hk ho] at hr
      have hn1 : nm (nt A) ≤ 10 := by rw [nt_nm]; exact hW.nmle
      refine y_aload_n hg dX0_allow_31 rfl ?_
      refine y_cVv hg (cX_act hW hR) iX0_act q479 (hL.x) cf0 rfl rfl (by simp [Value.category]) (Nat.le_refl _) (Nat.le_refl _) (by decide) dX0_allow_32 (fun σ2 hp => ?_)
      obtain ⟨hR1, hf1⟩ := hp
      have hL := hR1.1
      have hq3 : q = 0 ∨ q = 1 ∨ q = 2 := by omega
      rcases hq3 with rfl | rfl | rfl
      · rw [show alAt 0 k = 19 from rfl, show alBit 0 (nI k) (nI o) = nI k from rfl] at hr
        have T : YY g 5 (setI (setI (setI σ2 2 3 (nt A 11 19 ^^^ (nI 1 <<< (nI k &&& 31)))) 2 4 (nt A 11 20)) (2 + 3) k (nt A 11 (21 + k))) 0 0 106 [(0, .ref (B.1 + 0)), (1, .int (nI 0)), (2, .int (nI k)), (3, .int (nI o))] [] := by
          refine y_iload_n hg dX0_allow_106 rfl ?_
          refine y_if_ne hg 120 dX0_allow_107 (by decide) (fun hT => absurd hT ((fun z => z rfl))) (fun _ => ?_)
          refine y_aload_n hg dX0_allow_110 rfl ?_
          refine y_getr (j := 2) hg cf0 (hL.x) (by decide) rfl (hL.r_now) q174 dX0_allow_111 ?_
          refine y_getiN (j := 3) hg cf1 (hL.s_now.o) (by decide) rfl nf3 dX0_allow_114 ?_
          refine y_ti ((gI_n (by omega)).trans ((gI_n (by omega)).trans gI_s)) ?_
          refine y_goto hg 144 dX0_allow_117 (by decide) ?_
          refine y_istore hg dX0_allow_144 (by decide) (lv1 := [(0, _), (1, _), (2, _), (3, _), (4, _)]) rfl ?_
          refine y_iload hg dX0_allow_146 rfl ?_
          refine y_iload_n hg dX0_allow_148 rfl ?_
          refine y_iconst (v := nI 2) hg dX0_allow_149 rfl ?_
          refine y_icmp_ne hg 157 dX0_allow_150 (by decide) (fun _ => ?_) (fun hF => absurd hF ((by decide)))
          refine y_iload_n hg dX0_allow_157 rfl ?_
          refine y_ishr hg dX0_allow_158 ?_
          refine y_iconst (v := nI 1) hg dX0_allow_159 rfl ?_
          refine y_iand hg dX0_allow_160 ?_
          refine y_iret hg hr ⟨_, rfl, ?_⟩ dX0_allow_161 (Nat.le_refl _) (Nat.le_refl _)
          refine ⟨rfl, ?_, ((hf1.stI (by omega)).stI (by omega)).stI (by omega)⟩
          have q1 := hR1.uBegins hn1 (v := nt A 11 19 ^^^ (nI 1 <<< (nI k &&& 31)))
          have q2 := q1.uEnds (nm_u (by omega) hn1) (v := nt A 11 20)
          rw [up2_q 20 rfl (by omega)] at q2
          have q3 := q2.uFollow (nm_u (by omega) hn1) (k := k) (by omega) (v := nt A 11 (21 + k))
          rw [up2_q (21 + k) rfl (by omega)] at q3
          exact q3
        refine y_aload_n hg dX0_allow_35 rfl ?_
        refine y_getr (j := 2) hg cf0 (hL.x) (by decide) rfl (hL.r_now) q174 dX0_allow_36 ?_
        refine y_dup hg dX0_allow_39 rfl ?_
        refine y_getiN (j := 3) hg cf1 (hL.s_now.o) (by decide) rfl nf3 dX0_allow_40 ?_
        refine y_ti (hR1.begins) ?_
        refine y_iload_n hg dX0_allow_43 rfl ?_
        refine y_if_ne hg 53 dX0_allow_44 (by decide) (fun hT => absurd hT ((fun z => z rfl))) (fun _ => ?_)
        refine y_iconst (v := nI 1) hg dX0_allow_47 rfl ?_
        refine y_iload_n hg dX0_allow_48 rfl ?_
        refine y_ishl hg dX0_allow_49 ?_
        refine y_goto hg 54 dX0_allow_50 (by decide) ?_
        refine y_ixor hg dX0_allow_54 ?_
        refine y_putiN (j := 3) hg cf1 (hL.s_now.o) (by decide) rfl rfl nf3 dX0_allow_55 ?_
        refine y_aload_n hg dX0_allow_58 rfl ?_
        refine y_getr (j := 2) hg cf0 (hL.x) (by decide) rfl (hL.r_now) q174 dX0_allow_59 ?_
        refine y_dup hg dX0_allow_62 rfl ?_
        refine y_getiN (j := 4) hg cf1 (hL.s_now.o) (by decide) rfl nf4 dX0_allow_63 ?_
        refine y_ti ((gI_n (by omega)).trans hR1.ends) ?_
        refine y_iload_n hg dX0_allow_66 rfl ?_
        refine y_iconst (v := nI 1) hg dX0_allow_67 rfl ?_
        refine y_icmp_ne hg 77 dX0_allow_68 (by decide) (fun _ => ?_) (fun hF => absurd hF ((by decide)))
        refine y_iconst (v := nI 0) hg dX0_allow_77 rfl ?_
        refine y_ixor hg dX0_allow_78 ?_
        refine y_ti (xor_0 _) ?_
        refine y_putiN (j := 4) hg cf1 (hL.s_now.o) (by decide) rfl rfl nf4 dX0_allow_79 ?_
        refine y_aload_n hg dX0_allow_82 rfl ?_
        refine y_getr (j := 2) hg cf0 (hL.x) (by decide) rfl (hL.r_now) q174 dX0_allow_83 ?_
        refine y_getrN (j := 5) hg cf1 (hL.s_now.o) (by decide) rfl (hL.s_now.r_follows) nf5 dX0_allow_86 ?_
        refine y_iload_n hg dX0_allow_89 rfl ?_
        refine y_dup2 hg dX0_allow_90 rfl rfl ?_
        refine y_iald hg _ (hL.s_now.k_follows) rfl (by omega) dX0_allow_91 ?_
        refine y_ti ((gI_n (by omega)).trans ((gI_n (by omega)).trans (hR1.follows (by omega)))) ?_
        refine y_iload_n hg dX0_allow_92 rfl ?_
        refine y_iconst (v := nI 2) hg dX0_allow_93 rfl ?_
        refine y_icmp_ne hg 103 dX0_allow_94 (by decide) (fun _ => ?_) (fun hF => absurd hF ((by decide)))
        refine y_iconst (v := nI 0) hg dX0_allow_103 rfl ?_
        refine y_ixor hg dX0_allow_104 ?_
        refine y_ti (xor_0 _) ?_
        refine y_iast hg _ (hL.s_now.k_follows) rfl (by omega) dX0_allow_105 ?_
        exact T
      · rw [show alAt 1 k = 20 from rfl, show alBit 1 (nI k) (nI o) = nI k from rfl] at hr
        have T : YY g 5 (setI (setI (setI σ2 2 3 (nt A 11 19)) 2 4 (nt A 11 20 ^^^ (nI 1 <<< (nI k &&& 31)))) (2 + 3) k (nt A 11 (21 + k))) 0 0 106 [(0, .ref (B.1 + 0)), (1, .int (nI 1)), (2, .int (nI k)), (3, .int (nI o))] [] := by
          refine y_iload_n hg dX0_allow_106 rfl ?_
          refine y_if_ne hg 120 dX0_allow_107 (by decide) (fun _ => ?_) (fun hF => absurd hF ((by decide)))
          refine y_iload_n hg dX0_allow_120 rfl ?_
          refine y_iconst (v := nI 1) hg dX0_allow_121 rfl ?_
          refine y_icmp_ne hg 135 dX0_allow_122 (by decide) (fun hT => absurd hT ((fun z => z rfl))) (fun _ => ?_)
          refine y_aload_n hg dX0_allow_125 rfl ?_
          refine y_getr (j := 2) hg cf0 (hL.x) (by decide) rfl (hL.r_now) q174 dX0_allow_126 ?_
          refine y_getiN (j := 4) hg cf1 (hL.s_now.o) (by decide) rfl nf4 dX0_allow_129 ?_
          refine y_ti ((gI_n (by omega)).trans gI_s) ?_
          refine y_goto hg 144 dX0_allow_132 (by decide) ?_
          refine y_istore hg dX0_allow_144 (by decide) (lv1 := [(0, _), (1, _), (2, _), (3, _), (4, _)]) rfl ?_
          refine y_iload hg dX0_allow_146 rfl ?_
          refine y_iload_n hg dX0_allow_148 rfl ?_
          refine y_iconst (v := nI 2) hg dX0_allow_149 rfl ?_
          refine y_icmp_ne hg 157 dX0_allow_150 (by decide) (fun _ => ?_) (fun hF => absurd hF ((by decide)))
          refine y_iload_n hg dX0_allow_157 rfl ?_
          refine y_ishr hg dX0_allow_158 ?_
          refine y_iconst (v := nI 1) hg dX0_allow_159 rfl ?_
          refine y_iand hg dX0_allow_160 ?_
          refine y_iret hg hr ⟨_, rfl, ?_⟩ dX0_allow_161 (Nat.le_refl _) (Nat.le_refl _)
          refine ⟨rfl, ?_, ((hf1.stI (by omega)).stI (by omega)).stI (by omega)⟩
          have q1 := hR1.uBegins hn1 (v := nt A 11 19)
          rw [up2_id] at q1
          have q2 := q1.uEnds hn1 (v := nt A 11 20 ^^^ (nI 1 <<< (nI k &&& 31)))
          have q3 := q2.uFollow (nm_u (by omega) hn1) (k := k) (by omega) (v := nt A 11 (21 + k))
          rw [up2_q (21 + k) rfl (by omega)] at q3
          exact q3
        refine y_aload_n hg dX0_allow_35 rfl ?_
        refine y_getr (j := 2) hg cf0 (hL.x) (by decide) rfl (hL.r_now) q174 dX0_allow_36 ?_
        refine y_dup hg dX0_allow_39 rfl ?_
        refine y_getiN (j := 3) hg cf1 (hL.s_now.o) (by decide) rfl nf3 dX0_allow_40 ?_
        refine y_ti (hR1.begins) ?_
        refine y_iload_n hg dX0_allow_43 rfl ?_
        refine y_if_ne hg 53 dX0_allow_44 (by decide) (fun _ => ?_) (fun hF => absurd hF ((by decide)))
        refine y_iconst (v := nI 0) hg dX0_allow_53 rfl ?_
        refine y_ixor hg dX0_allow_54 ?_
        refine y_ti (xor_0 _) ?_
        refine y_putiN (j := 3) hg cf1 (hL.s_now.o) (by decide) rfl rfl nf3 dX0_allow_55 ?_
        refine y_aload_n hg dX0_allow_58 rfl ?_
        refine y_getr (j := 2) hg cf0 (hL.x) (by decide) rfl (hL.r_now) q174 dX0_allow_59 ?_
        refine y_dup hg dX0_allow_62 rfl ?_
        refine y_getiN (j := 4) hg cf1 (hL.s_now.o) (by decide) rfl nf4 dX0_allow_63 ?_
        refine y_ti ((gI_n (by omega)).trans hR1.ends) ?_
        refine y_iload_n hg dX0_allow_66 rfl ?_
        refine y_iconst (v := nI 1) hg dX0_allow_67 rfl ?_
        refine y_icmp_ne hg 77 dX0_allow_68 (by decide) (fun hT => absurd hT ((fun z => z rfl))) (fun _ => ?_)
        refine y_iconst (v := nI 1) hg dX0_allow_71 rfl ?_
        refine y_iload_n hg dX0_allow_72 rfl ?_
        refine y_ishl hg dX0_allow_73 ?_
        refine y_goto hg 78 dX0_allow_74 (by decide) ?_
        refine y_ixor hg dX0_allow_78 ?_
        refine y_putiN (j := 4) hg cf1 (hL.s_now.o) (by decide) rfl rfl nf4 dX0_allow_79 ?_
        refine y_aload_n hg dX0_allow_82 rfl ?_
        refine y_getr (j := 2) hg cf0 (hL.x) (by decide) rfl (hL.r_now) q174 dX0_allow_83 ?_
        refine y_getrN (j := 5) hg cf1 (hL.s_now.o) (by decide) rfl (hL.s_now.r_follows) nf5 dX0_allow_86 ?_
        refine y_iload_n hg dX0_allow_89 rfl ?_
        refine y_dup2 hg dX0_allow_90 rfl rfl ?_
        refine y_iald hg _ (hL.s_now.k_follows) rfl (by omega) dX0_allow_91 ?_
        refine y_ti ((gI_n (by omega)).trans ((gI_n (by omega)).trans (hR1.follows (by omega)))) ?_
        refine y_iload_n hg dX0_allow_92 rfl ?_
        refine y_iconst (v := nI 2) hg dX0_allow_93 rfl ?_
        refine y_icmp_ne hg 103 dX0_allow_94 (by decide) (fun _ => ?_) (fun hF => absurd hF ((by decide)))
        refine y_iconst (v := nI 0) hg dX0_allow_103 rfl ?_
        refine y_ixor hg dX0_allow_104 ?_
        refine y_ti (xor_0 _) ?_
        refine y_iast hg _ (hL.s_now.k_follows) rfl (by omega) dX0_allow_105 ?_
        exact T
      · rw [show alAt 2 k = 21 + k from rfl, show alBit 2 (nI k) (nI o) = nI o from rfl] at hr
        have T : YY g 5 (setI (setI (setI σ2 2 3 (nt A 11 19)) 2 4 (nt A 11 20)) (2 + 3) k (nt A 11 (21 + k) ^^^ (nI 1 <<< (nI o &&& 31)))) 0 0 106 [(0, .ref (B.1 + 0)), (1, .int (nI 2)), (2, .int (nI k)), (3, .int (nI o))] [] := by
          refine y_iload_n hg dX0_allow_106 rfl ?_
          refine y_if_ne hg 120 dX0_allow_107 (by decide) (fun _ => ?_) (fun hF => absurd hF ((by decide)))
          refine y_iload_n hg dX0_allow_120 rfl ?_
          refine y_iconst (v := nI 1) hg dX0_allow_121 rfl ?_
          refine y_icmp_ne hg 135 dX0_allow_122 (by decide) (fun _ => ?_) (fun hF => absurd hF ((by decide)))
          refine y_aload_n hg dX0_allow_135 rfl ?_
          refine y_getr (j := 2) hg cf0 (hL.x) (by decide) rfl (hL.r_now) q174 dX0_allow_136 ?_
          refine y_getrN (j := 5) hg cf1 (hL.s_now.o) (by decide) rfl (hL.s_now.r_follows) nf5 dX0_allow_139 ?_
          refine y_iload_n hg dX0_allow_142 rfl ?_
          refine y_iald hg _ (hL.s_now.k_follows) rfl (by omega) dX0_allow_143 ?_
          refine y_ti (gI_s) ?_
          refine y_istore hg dX0_allow_144 (by decide) (lv1 := [(0, _), (1, _), (2, _), (3, _), (4, _)]) rfl ?_
          refine y_iload hg dX0_allow_146 rfl ?_
          refine y_iload_n hg dX0_allow_148 rfl ?_
          refine y_iconst (v := nI 2) hg dX0_allow_149 rfl ?_
          refine y_icmp_ne hg 157 dX0_allow_150 (by decide) (fun hT => absurd hT ((fun z => z rfl))) (fun _ => ?_)
          refine y_iload_n hg dX0_allow_153 rfl ?_
          refine y_goto hg 158 dX0_allow_154 (by decide) ?_
          refine y_ishr hg dX0_allow_158 ?_
          refine y_iconst (v := nI 1) hg dX0_allow_159 rfl ?_
          refine y_iand hg dX0_allow_160 ?_
          refine y_iret hg hr ⟨_, rfl, ?_⟩ dX0_allow_161 (Nat.le_refl _) (Nat.le_refl _)
          refine ⟨rfl, ?_, ((hf1.stI (by omega)).stI (by omega)).stI (by omega)⟩
          have q1 := hR1.uBegins hn1 (v := nt A 11 19)
          rw [up2_id] at q1
          have q2 := q1.uEnds hn1 (v := nt A 11 20)
          rw [up2_id] at q2
          exact q2.uFollow hn1 (k := k) (by omega) (v := nt A 11 (21 + k) ^^^ (nI 1 <<< (nI o &&& 31)))
        refine y_aload_n hg dX0_allow_35 rfl ?_
        refine y_getr (j := 2) hg cf0 (hL.x) (by decide) rfl (hL.r_now) q174 dX0_allow_36 ?_
        refine y_dup hg dX0_allow_39 rfl ?_
        refine y_getiN (j := 3) hg cf1 (hL.s_now.o) (by decide) rfl nf3 dX0_allow_40 ?_
        refine y_ti (hR1.begins) ?_
        refine y_iload_n hg dX0_allow_43 rfl ?_
        refine y_if_ne hg 53 dX0_allow_44 (by decide) (fun _ => ?_) (fun hF => absurd hF ((by decide)))
        refine y_iconst (v := nI 0) hg dX0_allow_53 rfl ?_
        refine y_ixor hg dX0_allow_54 ?_
        refine y_ti (xor_0 _) ?_
        refine y_putiN (j := 3) hg cf1 (hL.s_now.o) (by decide) rfl rfl nf3 dX0_allow_55 ?_
        refine y_aload_n hg dX0_allow_58 rfl ?_
        refine y_getr (j := 2) hg cf0 (hL.x) (by decide) rfl (hL.r_now) q174 dX0_allow_59 ?_
        refine y_dup hg dX0_allow_62 rfl ?_
        refine y_getiN (j := 4) hg cf1 (hL.s_now.o) (by decide) rfl nf4 dX0_allow_63 ?_
        refine y_ti ((gI_n (by omega)).trans hR1.ends) ?_
        refine y_iload_n hg dX0_allow_66 rfl ?_
        refine y_iconst (v := nI 1) hg dX0_allow_67 rfl ?_
        refine y_icmp_ne hg 77 dX0_allow_68 (by decide) (fun _ => ?_) (fun hF => absurd hF ((by decide)))
        refine y_iconst (v := nI 0) hg dX0_allow_77 rfl ?_
        refine y_ixor hg dX0_allow_78 ?_
        refine y_ti (xor_0 _) ?_
        refine y_putiN (j := 4) hg cf1 (hL.s_now.o) (by decide) rfl rfl nf4 dX0_allow_79 ?_
        refine y_aload_n hg dX0_allow_82 rfl ?_
        refine y_getr (j := 2) hg cf0 (hL.x) (by decide) rfl (hL.r_now) q174 dX0_allow_83 ?_
        refine y_getrN (j := 5) hg cf1 (hL.s_now.o) (by decide) rfl (hL.s_now.r_follows) nf5 dX0_allow_86 ?_
        refine y_iload_n hg dX0_allow_89 rfl ?_
        refine y_dup2 hg dX0_allow_90 rfl rfl ?_
        refine y_iald hg _ (hL.s_now.k_follows) rfl (by omega) dX0_allow_91 ?_
        refine y_ti ((gI_n (by omega)).trans ((gI_n (by omega)).trans (hR1.follows (by omega)))) ?_
        refine y_iload_n hg dX0_allow_92 rfl ?_
        refine y_iconst (v := nI 2) hg dX0_allow_93 rfl ?_
        refine y_icmp_ne hg 103 dX0_allow_94 (by decide) (fun hT => absurd hT ((fun z => z rfl))) (fun _ => ?_)
        refine y_iconst (v := nI 1) hg dX0_allow_97 rfl ?_
        refine y_iload_n hg dX0_allow_98 rfl ?_
        refine y_ishl hg dX0_allow_99 ?_
        refine y_goto hg 104 dX0_allow_100 (by decide) ?_
        refine y_ixor hg dX0_allow_104 ?_
        refine y_iast hg _ (hL.s_now.k_follows) rfl (by omega) dX0_allow_105 ?_
        exact T
    · refine y_bipush (v := -2) hg dX0_allow_28 rfl ?_
      refine y_iret hg hr ⟨_, rfl, ?_⟩ dX0_allow_30 (Nat.le_refl _) (Nat.le_refl _)
      have eo : oAllow A q k o = (-2, A) := by unfold oAllow; rw [if_pos ⟨h1, h2⟩, if_neg (b2F hc2)]
      rw [eo]
      exact ⟨rfl, hR, Fr.rf⟩
  · exact BAD (fun z => b2F hc1 z.2)
theorem cM_allow (hW : WFA A) (hR : RMm B A sd σ) (q k o : Int32) : MT ll B 24 0 0 yX3_allow cX3_allow 6 (some .int) [.ref (B.1 + 157), .int q, .int k, .int o] σ (oM B sd σ (oAllow A q k o)) := by
  have hM := hR.1
  refine MT.of (by decide) (Nat.le_of_ble_eq_true rfl) (fun g hg hr => ?_)
  have BAD : ¬ (inL k.toInt64 0 3 = true ∧ inL o.toInt64 0 3 = true) → YY g 6 σ 0 0 14 [(0, .ref (B.1 + 157)), (1, .int q), (2, .int k), (3, .int o)] [] := by
    intro h
    refine y_iconst (v := -1) hg dX3_allow_14 rfl ?_
    refine y_iret hg hr ⟨_, rfl, ?_⟩ dX3_allow_15 (Nat.le_refl _) (Nat.le_refl _)
    have eo : oAllow A q k o = (-1, A) := by unfold oAllow; rw [if_neg h]
    rw [eo]
    exact ⟨rfl, hR, FrR.rf⟩
  refine y_iload_n hg dX3_allow_0 rfl ?_
  refine y_cSi hg (cM_isKind _) iX3_isKind q1096 rfl rfl (by simp [Value.category]) (Nat.le_refl _) (Nat.le_refl _) (by decide) dX3_allow_1 (fun r σ1 hp => ?_)
  obtain ⟨rfl, rfl⟩ := hp
  refine y_if_eq hg 14 dX3_allow_4 (by decide) (fun hc => ?_) (fun hc => ?_)
  · exact BAD (fun z => b2F hc z.1)
  refine y_iload_n hg dX3_allow_7 rfl ?_
  refine y_cSi hg (cM_isKind _) iX3_isKind q1096 rfl rfl (by simp [Value.category]) (Nat.le_refl _) (Nat.le_refl _) (by decide) dX3_allow_8 (fun r σ1 hp => ?_)
  obtain ⟨rfl, rfl⟩ := hp
  refine y_if_ne hg 16 dX3_allow_11 (by decide) (fun hc1 => ?_) (fun hc1 => ?_)
  · have h1 := b2T hc
    have h2 := b2T hc1
    refine y_iload_n hg dX3_allow_16 rfl ?_
    refine y_i2l hg dX3_allow_17 ?_
    refine y_lconst (v := 0) hg dX3_allow_18 rfl ?_
    refine y_ldc2 hg dX3_allow_19 q1227 ?_
    refine y_cSi hg (cM_in _ _ _) iX3_in q1052 rfl rfl (by simp [Value.category]) (Nat.le_refl _) (Nat.le_refl _) (by decide) dX3_allow_22 (fun r σ1 hp => ?_)
    obtain ⟨rfl, rfl⟩ := hp
    refine y_if_ne hg 31 dX3_allow_25 (by decide) (fun hc2 => ?_) (fun hc2 => ?_)
    · have h3 := b2T hc2
      obtain ⟨k, hk, rfl⟩ := (inL_iff 3 rfl (by decide)).mp h1
      obtain ⟨o, ho, rfl⟩ := (inL_iff 3 rfl (by decide)).mp h2
      obtain ⟨q, hq, rfl⟩ := (inL_iff 2 rfl (by decide)).mp h3
      rw [oAllow_y hq hk ho] at hr
      refine y_aload_n hg dX3_allow_31 rfl ?_
      refine y_cVv hg (cM_note hW hR) iX3_note q1206 (hM.m) cf3 rfl rfl (by simp [Value.category]) (Nat.le_refl _) (Nat.le_refl _) (by decide) dX3_allow_32 (fun σ2 hp => ?_)
      obtain ⟨hR1, hf1⟩ := hp
      have hM := hR1.1
      have hat : alAt q k < 25 := by unfold alAt; split <;> (try split) <;> omega
      have J : ∀ (b : Int32), b = alBit q (nI k) (nI o) → YY g 6 σ2 0 0 70 [(0, .ref (B.1 + 157)), (1, .int (nI q)), (2, .int (nI k)), (3, .int (nI o)), (4, .int (nI (alAt q k)))] [.int b] := by
        intro b hb
        subst hb
        refine y_istore hg dX3_allow_70 (by decide) (lv1 := [(0, _), (1, _), (2, _), (3, _), (4, _), (5, _)]) rfl ?_
        refine y_aload_n hg dX3_allow_72 rfl ?_
        refine y_getr (j := 7) hg cf3 (hM.m) (by decide) rfl (hM.r_now) q918 dX3_allow_73 ?_
        refine y_iload hg dX3_allow_76 rfl ?_
        refine y_dup2 hg dX3_allow_78 rfl rfl ?_
        refine y_iald hg _ (hM.k_now) rfl (by omega) dX3_allow_79 ?_
        refine y_ti (hR1.now hat) ?_
        refine y_iconst (v := nI 1) hg dX3_allow_80 rfl ?_
        refine y_iload hg dX3_allow_81 rfl ?_
        refine y_ishl hg dX3_allow_83 ?_
        refine y_ixor hg dX3_allow_84 ?_
        refine y_iast hg _ (hM.k_now) rfl (by omega) dX3_allow_85 ?_
        refine y_aload_n hg dX3_allow_86 rfl ?_
        refine y_getr (j := 7) hg cf3 (hM.m) (by decide) rfl (hM.r_now) q918 dX3_allow_87 ?_
        refine y_iload hg dX3_allow_90 rfl ?_
        refine y_iald hg _ (hM.k_now) rfl (by omega) dX3_allow_92 ?_
        refine y_ti (gI_s) ?_
        refine y_iload hg dX3_allow_93 rfl ?_
        refine y_ishr hg dX3_allow_95 ?_
        refine y_iconst (v := nI 1) hg dX3_allow_96 rfl ?_
        refine y_iand hg dX3_allow_97 ?_
        refine y_iret hg hr ⟨_, rfl, ?_⟩ dX3_allow_98 (Nat.le_refl _) (Nat.le_refl _)
        exact ⟨rfl, hR1.uNow hat, hf1.stI (by omega)⟩
      have J2 : ∀ (a : Int32), a = nI (alAt q k) → YY g 6 σ2 0 0 58 [(0, .ref (B.1 + 157)), (1, .int (nI q)), (2, .int (nI k)), (3, .int (nI o))] [.int a] := by
        intro a ha
        subst ha
        refine y_istore hg dX3_allow_58 (by decide) (lv1 := [(0, _), (1, _), (2, _), (3, _), (4, _)]) rfl ?_
        refine y_iload_n hg dX3_allow_60 rfl ?_
        refine y_iconst (v := nI 2) hg dX3_allow_61 rfl ?_
        refine y_icmp_ne hg 69 dX3_allow_62 (by decide) (fun hc5 => ?_) (fun hc5 => ?_)
        · refine y_iload_n hg dX3_allow_69 rfl ?_
          exact J _ (by unfold alBit; rw [if_neg (fun z => hc5 (by rw [z]))])
        · refine y_iload_n hg dX3_allow_65 rfl ?_
          refine y_goto hg 70 dX3_allow_66 (by decide) ?_
          exact J _ (by unfold alBit; rw [if_pos (nI_inj (by omega) (by decide) hc5)])
      refine y_iload_n hg dX3_allow_35 rfl ?_
      refine y_if_ne hg 44 dX3_allow_36 (by decide) (fun hc3 => ?_) (fun hc3 => ?_)
      · refine y_iload_n hg dX3_allow_44 rfl ?_
        refine y_iconst (v := nI 1) hg dX3_allow_45 rfl ?_
        refine y_icmp_ne hg 54 dX3_allow_46 (by decide) (fun hc4 => ?_) (fun hc4 => ?_)
        · refine y_bipush (v := nI 21) hg dX3_allow_54 rfl ?_
          refine y_iload_n hg dX3_allow_56 rfl ?_
          refine y_iadd hg dX3_allow_57 ?_
          refine y_ti (nI_add _ _) ?_
          exact J2 _ (by unfold alAt; rw [if_neg (fun z => hc3 (by rw [z]; rfl)), if_neg (fun z => hc4 (by rw [z]))])
        · refine y_bipush (v := nI 20) hg dX3_allow_49 rfl ?_
          refine y_goto hg 58 dX3_allow_51 (by decide) ?_
          exact J2 _ (by unfold alAt; rw [if_neg (fun z => hc3 (by rw [z]; rfl)), if_pos (nI_inj (by omega) (by decide) hc4)])
      · refine y_bipush (v := nI 19) hg dX3_allow_39 rfl ?_
        refine y_goto hg 58 dX3_allow_41 (by decide) ?_
        exact J2 _ (by unfold alAt; rw [if_pos (nI_inj (b := 0) (by omega) (by decide) hc3)])
    · refine y_bipush (v := -2) hg dX3_allow_28 rfl ?_
      refine y_iret hg hr ⟨_, rfl, ?_⟩ dX3_allow_30 (Nat.le_refl _) (Nat.le_refl _)
      have eo : oAllow A q k o = (-2, A) := by unfold oAllow; rw [if_pos ⟨h1, h2⟩, if_neg (b2F hc2)]
      rw [eo]
      exact ⟨rfl, hR, FrR.rf⟩
  · exact BAD (fun z => b2F hc1 z.2)
end Ops3

