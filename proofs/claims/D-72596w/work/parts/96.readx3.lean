section ReadX3
variable {ll : Launch} {B : Bs} {σ : Mem} {A : Ab} {sd : Int64} {σ0 : Mem}
theorem RdX.fr {σ' : Mem} {q n : Nat} {S : Ab} {Q : Nat → Nat → Prop} (h : RdX σ q n S) (hn : 156 < σ.2.1) (hn10 : n ≤ 10) (hf : FrR Q σ σ') (hQ : ∀ a j, Q a j → 100 + 6 * n ≤ a) : RdX σ' q n S := by
  have hi : ∀ a j, a < 100 + 6 * n → a < 157 → σ'.2.2.1 a j = σ.2.2.1 a j := fun a j ha ha2 => hf.i (by omega) (fun z => by have := hQ _ _ z; omega)
  refine ⟨(hi 0 18 (by omega) (by omega)).trans h.1, (hi 0 19 (by omega) (by omega)).trans h.2.1, fun j hj => ?_, fun w hw => ?_⟩
  · have hr := rA_in 20 j
    rw [← h.2.2.1 j hj, ro_at, ro_at]
    exact hi _ _ (by omega) (by omega)
  · obtain ⟨a, b, c, d⟩ := h.2.2.2 w hw
    exact ⟨(hi _ _ (by omega) (by omega)).trans a, (hi _ _ (by omega) (by omega)).trans b, fun k hk => (hi _ _ (by omega) (by omega)).trans (c k hk), fun x hx => (hi _ _ (by omega) (by omega)).trans (d x hx)⟩
/-- the word that X is reading -/
def CwX (σ : Mem) (n : Nat) (S : Ab) : Prop := σ.2.2.1 (100 + 6 * n) 1 = nI (sz S n) ∧ S 2 n = nI (sz S n) ∧ (∀ k, k < sz S n → σ.2.2.1 (100 + 6 * n + 1) k = S 5 (6 * n + k)) ∧ ∀ x, x < 8 → σ.2.2.1 (100 + 6 * n + 2) x = hasF S n x
theorem CwX.set {n k j : Nat} {v : Int32} {S : Ab} (h : CwX σ n S) (hk : k < 100 ∨ (k = 100 + 6 * n ∧ j = 2)) : CwX (setI σ k j v) n S :=
  ⟨(gI_n (by omega)).trans h.1, h.2.1, fun i hi => (gI_n (by omega)).trans (h.2.2.1 i hi), fun x hx => (gI_n (by omega)).trans (h.2.2.2 x hx)⟩
theorem adL_5 {S : Ab} {n t i : Nat} (hi : i ≠ 6 * n + sz S n) : adL S n t 5 i = S 5 i := by unfold adL; rw [up2_n (by omega), up2_n (by omega)]
theorem adL_5s {S : Ab} {n t : Nat} : adL S n t 5 (6 * n + sz S n) = nI (t - 97) := by unfold adL; rw [up2_n (by omega), up2_s]
theorem CwX.add {n t : Nat} {S : Ab} (h : CwX σ n S) (h6 : sz S n < 6) (ht : 97 ≤ t) (ht2 : t < 105) : CwX (setI (setI (setI σ (100 + 6 * n + 1) (sz S n) (nI (t - 97))) (100 + 6 * n) 1 (nI (sz S n + 1))) (100 + 6 * n + 2) (t - 97) (σ.2.2.1 (100 + 6 * n + 2) (t - 97) + 1)) n (adL S n t) := by
  have es := adL_sz (t := t) h6
  refine ⟨?_, ?_, fun k hk => ?_, fun x hx => ?_⟩
  · rw [gI_n (by omega), gI_s, es]
  · rw [es]; exact up2_s
  · rw [es] at hk
    rw [gI_n (by omega), gI_n (by omega)]
    by_cases e : k = sz S n
    · subst e; rw [gI_s, adL_5s]
    · rw [gI_n (by omega), adL_5 (by omega)]; exact h.2.2.1 k (by omega)
  · unfold hasF
    rw [es]
    show _ = nI (hct (adL S n t) n x (sz S n) + (if adL S n t 5 (6 * n + sz S n) = nI x then 1 else 0))
    rw [hct_c (S := S) (sz S n) (fun k hk => adL_5 (by omega)), adL_5s]
    have hx0 := h.2.2.2 x hx
    by_cases e : x = t - 97
    · subst e
      rw [gI_s, if_pos rfl, hx0]
      exact nI_add _ 1
    · rw [gI_n (by omega), gI_n (by omega), gI_n (by omega), if_neg (fun z => e ((nI_inj (by omega) (by omega) z).symm)), hx0]
      rfl
set_option maxHeartbeats 1000000 in
theorem cX_readWord (hW : WFA A) (hw0 : WXs B A sd σ0 σ) {q n : Nat} {S : Ab} (hS : WFS n S) (hd : RdX σ q n S) (hq : q ≤ 180) : MT ll B 3 0 0 yX0_readWord cX0_readWord 5 (some .boolean) [.ref (B.1 + 0)] σ (pRd B A sd σ0 (if n < 10 then wK A n (spl A n 6 (q + 1) (up2 S 2 n (nI 0))).1 (spl A n 6 (q + 1) (up2 S 2 n (nI 0))).2 else (false, q, 0, zA))) := by
  have hL := hw0.1.1
  have hn := hL.n
  have hn10 := hS.1
  unfold pRd
  by_cases h10 : n < 10
  · rw [if_pos h10]
    obtain ⟨P, hP⟩ : ∃ P, P = wK A n (spl A n 6 (q + 1) (up2 S 2 n (nI 0))).1 (spl A n 6 (q + 1) (up2 S 2 n (nI 0))).2 := ⟨_, rfl⟩
    rw [← hP]
    refine MT.of (by decide) (Nat.le_of_ble_eq_true rfl) (fun g hg hr => ?_)
    have J : ∀ (q : Nat) (S : Ab) (s : Mem) (x2 : Int32), q ≤ 190 → sz S n ≤ 6 → WXs B A sd σ0 s → RdX s q n S → CwX s n S → wK A n q S = P → YY g 5 s 0 0 86 [(0, .ref (B.1 + 0)), (1, .ref (B.1 + (100 + 6 * n))), (2, .int x2)] [] := by
      intro q S s x2 hq hs6 hws hds hcs hwk
      have hL := hws.1.1
      have hn := hL.n
      have hwo := hL.w_readWords h10
      refine y_aload_n hg dX0_readWord_86 rfl ?_
      refine y_bipush (v := nI 65) hg dX0_readWord_87 rfl ?_
      refine y_iconst (v := nI 4) hg dX0_readWord_89 rfl ?_
      refine y_cVi hg (cX_next hW hws.1 hds.1 (by omega) n65) iX0_next q320 (hL.x) cf0 rfl rfl (by simp [Value.category]) (Nat.le_refl _) (Nat.le_refl _) (by decide) dX0_readWord_90 (fun r s1 hp => ?_)
      obtain ⟨rfl, rfl⟩ := hp
      unfold wK at hwk
      by_cases e0 : (rnx A 65 4 q).isSome = true ∧ 0 < sz S n
      · rw [if_pos e0] at hwk
        obtain ⟨e1, e2, e3, e4⟩ := rnx_s e0.1
        rw [e1]
        refine y_ti (x' := nI (rtx A q - 65)) rfl ?_
        refine y_istore_n hg dX0_readWord_93 (by decide) (lv1 := [(0, _), (1, _), (2, _), (3, _)]) rfl ?_
        refine y_aload_n hg dX0_readWord_94 rfl ?_
        refine y_getiN (j := 1) hg cf2 (hwo.o) (by decide) rfl nf7 dX0_readWord_95 ?_
        refine y_ti (hcs.1) ?_
        refine y_if_eq hg 107 dX0_readWord_98 (by decide) (fun hT => absurd hT (nI_ne0 e0.2 (by omega))) (fun _ => ?_)
        refine y_iload_n hg dX0_readWord_101 rfl ?_
        refine y_bipush (v := -9) hg dX0_readWord_102 rfl ?_
        refine y_icmp_ne hg 109 dX0_readWord_104 (by decide) (fun _ => ?_) (fun hF => absurd hF (m9_n (by omega)))
        refine y_aload_n hg dX0_readWord_109 rfl ?_
        refine y_dup hg dX0_readWord_110 rfl ?_
        refine y_geti (j := 18) hg cf0 (hL.x) (by decide) rfl q190 dX0_readWord_111 ?_
        refine y_ti (hds.1) ?_
        refine y_iconst (v := nI 1) hg dX0_readWord_114 rfl ?_
        refine y_iadd hg dX0_readWord_115 ?_
        refine y_ti (nI_add _ _) ?_
        refine y_puti (j := 18) hg cf0 (hL.x) (by decide) rfl rfl q190 dX0_readWord_116 ?_
        have hw1 : WXs B A sd σ0 (setI s1 0 18 (nI (q + 1))) := hws.st hW (by unfold XR; omega)
        have hd1 : RdX (setI s1 0 18 (nI (q + 1))) (q + 1) n S := hds.at
        have hc1 : CwX (setI s1 0 18 (nI (q + 1))) n S := hcs.set (by omega)
        have hL := hw1.1.1
        have hn := hL.n
        have hwo := hL.w_readWords h10
        generalize setI s1 0 18 (nI (q + 1)) = s2 at hw1 hd1 hc1 hL hn hwo ⊢
        refine y_aload_n hg dX0_readWord_119 rfl ?_
        refine y_iload_n hg dX0_readWord_120 rfl ?_
        refine y_putiN (j := 2) hg cf2 (hwo.o) (by decide) rfl rfl nf8 dX0_readWord_121 ?_
        have hw2 : WXs B A sd σ0 (setI s2 (100 + 6 * n) 2 (nI (rtx A q - 65))) := hw1.st hW (by unfold XR; omega)
        have hd2 : RdX (setI s2 (100 + 6 * n) 2 (nI (rtx A q - 65))) (q + 1) n S := hd1.fr hn hn10 (Q := fun a j => a = 100 + 6 * n) ((FrR.rf).stI rfl) (fun a j z => by omega)
        have hc2 : CwX (setI s2 (100 + 6 * n) 2 (nI (rtx A q - 65))) n S := hc1.set (by omega)
        have hk2 : (setI s2 (100 + 6 * n) 2 (nI (rtx A q - 65))).2.2.1 (100 + 6 * n) 2 = nI (rtx A q - 65) := gI_s
        have hL := hw2.1.1
        have hn := hL.n
        have hwo := hL.w_readWords h10
        generalize setI s2 (100 + 6 * n) 2 (nI (rtx A q - 65)) = s3 at hw2 hd2 hc2 hk2 hL hn hwo ⊢
        refine y_aload_n hg dX0_readWord_124 rfl ?_
        refine y_bipush (v := nI 48) hg dX0_readWord_125 rfl ?_
        refine y_bipush (v := nI 10) hg dX0_readWord_127 rfl ?_
        refine y_cVi hg (cX_next hW hw2.1 hd2.1 (by omega) n48) iX0_next q320 (hL.x) cf0 rfl rfl (by simp [Value.category]) (Nat.le_refl _) (Nat.le_refl _) (by decide) dX0_readWord_129 (fun r s4 hp => ?_)
        obtain ⟨rfl, rfl⟩ := hp
        by_cases f0 : (rnx A 48 10 (q + 1)).isSome = true
        · rw [if_pos f0] at hwk
          obtain ⟨f1, f2, f3, f4⟩ := rnx_s f0
          rw [f1]
          refine y_ti (x' := nI (rtx A (q + 1) - 48)) rfl ?_
          subst hwk
          refine y_istore hg dX0_readWord_132 (by decide) (lv1 := [(0, _), (1, _), (2, _), (3, _), (4, _)]) rfl ?_
          refine y_iload hg dX0_readWord_134 rfl ?_
          refine y_bipush (v := -9) hg dX0_readWord_136 rfl ?_
          refine y_icmp_ne hg 143 dX0_readWord_138 (by decide) (fun _ => ?_) (fun hF => absurd hF (m9_n (by omega)))
          refine y_aload_n hg dX0_readWord_143 rfl ?_
          refine y_dup hg dX0_readWord_144 rfl ?_
          refine y_geti (j := 18) hg cf0 (hL.x) (by decide) rfl q190 dX0_readWord_145 ?_
          refine y_ti (hd2.1) ?_
          refine y_iconst (v := nI 1) hg dX0_readWord_148 rfl ?_
          refine y_iadd hg dX0_readWord_149 ?_
          refine y_ti (nI_add _ _) ?_
          refine y_puti (j := 18) hg cf0 (hL.x) (by decide) rfl rfl q190 dX0_readWord_150 ?_
          have hw3 : WXs B A sd σ0 (setI s4 0 18 (nI (q + 1 + 1))) := hw2.st hW (by unfold XR; omega)
          have hd3 : RdX (setI s4 0 18 (nI (q + 1 + 1))) (q + 1 + 1) n S := hd2.at
          have hc3 : CwX (setI s4 0 18 (nI (q + 1 + 1))) n S := hc2.set (by omega)
          have hk3 : (setI s4 0 18 (nI (q + 1 + 1))).2.2.1 (100 + 6 * n) 2 = nI (rtx A q - 65) := (gI_n (by omega)).trans hk2
          have hL := hw3.1.1
          have hn := hL.n
          generalize setI s4 0 18 (nI (q + 1 + 1)) = s5 at hw3 hd3 hc3 hk3 hL hn ⊢
          refine y_aload_n hg dX0_readWord_153 rfl ?_
          refine y_getr (j := 21) hg cf0 (hL.x) (by decide) rfl (hL.r_read) q193 dX0_readWord_154 ?_
          refine y_getrN (j := 2) hg cf1 (hL.s_read.o) (by decide) rfl (hL.s_read.r_ranks) nf2 dX0_readWord_157 ?_
          refine y_aload_n hg dX0_readWord_160 rfl ?_
          refine y_geti (j := 19) hg cf0 (hL.x) (by decide) rfl q191 dX0_readWord_161 ?_
          refine y_ti (hd3.2.1) ?_
          refine y_iload hg dX0_readWord_164 rfl ?_
          refine y_iast hg _ (hL.s_read.k_ranks) rfl (by omega) dX0_readWord_166 ?_
          have ha : rA 20 (9 + n) = 22 := by unfold rA; rw [if_neg (by omega), if_neg (by omega), if_pos (by omega)]
          have hb' : rB (9 + n) = n := by unfold rB; rw [if_neg (by omega), if_neg (by omega), if_pos (by omega)]; omega
          have hw4 : WXs B A sd σ0 (setI s5 22 n (nI (rtx A (q + 1) - 48))) := hw3.st hW (by unfold XR; omega)
          have hd4 : RdX (setI s5 22 n (nI (rtx A (q + 1) - 48))) (q + 1 + 1) n (up2 S 11 (9 + n) (nI (rtx A (q + 1) - 48))) := hd3.row (by omega) ha hb'
          have hc4 : CwX (setI s5 22 n (nI (rtx A (q + 1) - 48))) n S := hc3.set (by omega)
          have hk4 : (setI s5 22 n (nI (rtx A (q + 1) - 48))).2.2.1 (100 + 6 * n) 2 = nI (rtx A q - 65) := (gI_n (by omega)).trans hk3
          have hL := hw4.1.1
          generalize setI s5 22 n (nI (rtx A (q + 1) - 48)) = s6 at hw4 hd4 hc4 hk4 hL ⊢
          refine y_aload_n hg dX0_readWord_167 rfl ?_
          refine y_dup hg dX0_readWord_168 rfl ?_
          refine y_geti (j := 19) hg cf0 (hL.x) (by decide) rfl q191 dX0_readWord_169 ?_
          refine y_ti (hd4.2.1) ?_
          refine y_iconst (v := nI 1) hg dX0_readWord_172 rfl ?_
          refine y_iadd hg dX0_readWord_173 ?_
          refine y_ti (nI_add _ _) ?_
          refine y_puti (j := 19) hg cf0 (hL.x) (by decide) rfl rfl q191 dX0_readWord_174 ?_
          refine y_iconst (v := nI 1) hg dX0_readWord_177 rfl ?_
          refine y_zret hg hr rfl ⟨_, rfl, ?_⟩ dX0_readWord_178 (Nat.le_refl _) (Nat.le_refl _)
          refine ⟨rfl, hw4.st hW (by unfold XR; omega), (gI_n (by omega)).trans hd4.1, fun _ => ⟨(gI_n (by omega)).trans hd4.1, gI_s, fun j hj => ?_, fun w hw => ?_⟩⟩
          · have := hd4.2.2.1 j hj
            have hr := rA_in 20 j
            rw [ro_at] at this ⊢
            rw [gI_n (by omega)]
            exact this
          · have hw : w < n + 1 := hw
            by_cases e : w = n
            · subst e
              have hW1 : WdX (setI s6 0 19 (nI (w + 1))) w (up2 S 3 w (nI (rtx A q - 65))) := by
                refine ⟨(gI_n (by omega)).trans (hc4.1.trans hc4.2.1.symm), (gI_n (by omega)).trans (hk4.trans up2_s.symm), fun k hk => (gI_n (by omega)).trans (hc4.2.2.1 k hk), fun x hx => (gI_n (by omega)).trans ((hc4.2.2.2 x hx).trans ?_)⟩
                unfold hasF
                rw [hct_c (S := S) (S' := up2 S 3 w (nI (rtx A q - 65))) _ (fun k hk => rfl)]
                rfl
              exact hW1.cg rfl rfl (fun k hk => rfl)
            · exact ((hd4.2.2.2 w (by omega)).set (by omega)).cg rfl (show up2 (up2 S 3 n (nI (rtx A q - 65))) 11 (9 + n) (nI (rtx A (q + 1) - 48)) 3 w = up2 S 11 (9 + n) (nI (rtx A (q + 1) - 48)) 3 w by rw [up2_n (by omega), up2_n (by omega), up2_n (by omega)]) (fun k hk => rfl)
        · rw [if_neg f0] at hwk
          rw [rnx_n f0]
          refine y_ti (x' := -9) rfl ?_
          subst hwk
          refine y_istore hg dX0_readWord_132 (by decide) (lv1 := [(0, _), (1, _), (2, _), (3, _), (4, _)]) rfl ?_
          refine y_iload hg dX0_readWord_134 rfl ?_
          refine y_bipush (v := -9) hg dX0_readWord_136 rfl ?_
          refine y_icmp_ne hg 143 dX0_readWord_138 (by decide) (fun hT => absurd hT (fun z => z rfl)) (fun _ => ?_)
          refine y_iconst (v := nI 0) hg dX0_readWord_141 rfl ?_
          refine y_zret hg hr rfl ⟨_, rfl, ?_⟩ dX0_readWord_142 (Nat.le_refl _) (Nat.le_refl _)
          exact ⟨rfl, hw2, hd2.1, fun z => absurd z Bool.false_ne_true⟩
      · rw [if_neg e0] at hwk
        subst hwk
        by_cases z0 : 0 < sz S n
        · have e1 : ¬ (rnx A 65 4 q).isSome = true := fun z => e0 ⟨z, z0⟩
          rw [rnx_n e1]
          refine y_ti (x' := -9) rfl ?_
          refine y_istore_n hg dX0_readWord_93 (by decide) (lv1 := [(0, _), (1, _), (2, _), (3, _)]) rfl ?_
          refine y_aload_n hg dX0_readWord_94 rfl ?_
          refine y_getiN (j := 1) hg cf2 (hwo.o) (by decide) rfl nf7 dX0_readWord_95 ?_
          refine y_ti (hcs.1) ?_
          refine y_if_eq hg 107 dX0_readWord_98 (by decide) (fun hT => absurd hT (nI_ne0 z0 (by omega))) (fun _ => ?_)
          refine y_iload_n hg dX0_readWord_101 rfl ?_
          refine y_bipush (v := -9) hg dX0_readWord_102 rfl ?_
          refine y_icmp_ne hg 109 dX0_readWord_104 (by decide) (fun hT => absurd hT (fun z => z rfl)) (fun _ => ?_)
          refine y_iconst (v := nI 0) hg dX0_readWord_107 rfl ?_
          refine y_zret hg hr rfl ⟨_, rfl, ?_⟩ dX0_readWord_108 (Nat.le_refl _) (Nat.le_refl _)
          exact ⟨rfl, hws, hds.1, fun z => absurd z Bool.false_ne_true⟩
        · refine y_istore_n hg dX0_readWord_93 (by decide) (lv1 := [(0, _), (1, _), (2, _), (3, _)]) rfl ?_
          refine y_aload_n hg dX0_readWord_94 rfl ?_
          refine y_getiN (j := 1) hg cf2 (hwo.o) (by decide) rfl nf7 dX0_readWord_95 ?_
          refine y_ti (hcs.1) ?_
          refine y_if_eq hg 107 dX0_readWord_98 (by decide) (fun _ => ?_) (fun hF => absurd (by rw [show sz S n = 0 by omega]; rfl) hF)
          refine y_iconst (v := nI 0) hg dX0_readWord_107 rfl ?_
          refine y_zret hg hr rfl ⟨_, rfl, ?_⟩ dX0_readWord_108 (Nat.le_refl _) (Nat.le_refl _)
          exact ⟨rfl, hws, hds.1, fun z => absurd z Bool.false_ne_true⟩
    have LOOP : ∀ (f q : Nat) (S : Ab) (s : Mem), q + f ≤ 190 → sz S n + f = 6 → (∀ w, w < n → sz S w ≤ 6) → WXs B A sd σ0 s → RdX s q n S → CwX s n S → wK A n (spl A n f q S).1 (spl A n f q S).2 = P → YY g 5 s 0 0 44 [(0, .ref (B.1 + 0)), (1, .ref (B.1 + (100 + 6 * n))), (2, .int (oN (rnx A 97 8 q)))] [] := by
      intro f
      induction f with
      | zero =>
        intro q S s hq hs hz6 hws hds hcs hwk
        have hL := hws.1.1
        have hwo := hL.w_readWords h10
        by_cases e : (rnx A 97 8 q).isSome = true
        · obtain ⟨e1, e2, e3, e4⟩ := rnx_s e
          have e9 : oN (rnx A 97 8 q) = nI (rtx A q - 97) := by rw [e1]; rfl
          refine y_iload_n hg dX0_readWord_44 rfl ?_
          refine y_bipush (v := -9) hg dX0_readWord_45 rfl ?_
          refine y_icmp_eq hg 86 dX0_readWord_47 (by decide) (fun hT => absurd hT (by rw [e9]; exact m9_n (by omega))) (fun _ => ?_)
          refine y_aload_n hg dX0_readWord_50 rfl ?_
          refine y_getiN (j := 1) hg cf2 (hwo.o) (by decide) rfl nf7 dX0_readWord_51 ?_
          refine y_ti (hcs.1) ?_
          refine y_bipush (v := nI 6) hg dX0_readWord_54 rfl ?_
          refine y_icmp_ge hg 86 dX0_readWord_56 (by decide) (fun _ => ?_) (fun hF => absurd (nI_le (by omega) (by omega)) hF)
          exact J q S s _ (by omega) (by omega) hws hds hcs hwk
        · have e9 : oN (rnx A 97 8 q) = -9 := by rw [rnx_n e]; rfl
          refine y_iload_n hg dX0_readWord_44 rfl ?_
          refine y_bipush (v := -9) hg dX0_readWord_45 rfl ?_
          refine y_icmp_eq hg 86 dX0_readWord_47 (by decide) (fun _ => ?_) (fun hF => absurd (e9) hF)
          exact J q S s _ (by omega) (by omega) hws hds hcs hwk
      | succ f ih =>
        intro q S s hq hs hz6 hws hds hcs hwk
        have hL := hws.1.1
        have hn := hL.n
        have hwo := hL.w_readWords h10
        rw [spl] at hwk
        by_cases e : (rnx A 97 8 q).isSome = true
        · rw [if_pos e] at hwk
          obtain ⟨e1, e2, e3, e4⟩ := rnx_s e
          have e9 : oN (rnx A 97 8 q) = nI (rtx A q - 97) := by rw [e1]; rfl
          rw [e9]
          refine y_iload_n hg dX0_readWord_44 rfl ?_
          refine y_bipush (v := -9) hg dX0_readWord_45 rfl ?_
          refine y_icmp_eq hg 86 dX0_readWord_47 (by decide) (fun hT => absurd hT (m9_n (by omega))) (fun _ => ?_)
          refine y_aload_n hg dX0_readWord_50 rfl ?_
          refine y_getiN (j := 1) hg cf2 (hwo.o) (by decide) rfl nf7 dX0_readWord_51 ?_
          refine y_ti (hcs.1) ?_
          refine y_bipush (v := nI 6) hg dX0_readWord_54 rfl ?_
          refine y_icmp_ge hg 86 dX0_readWord_56 (by decide) (fun hT => absurd hT (nI_ge (by omega) (by omega))) (fun _ => ?_)
          refine y_aload_n hg dX0_readWord_59 rfl ?_
          refine y_iload_n hg dX0_readWord_60 rfl ?_
          refine y_cVv hg (cX_add hwo hcs.1 (by omega) (by omega)) iX2_add q324 (hwo.o) cf2 rfl rfl (by simp [Value.category]) (Nat.le_refl _) (Nat.le_refl _) (by decide) dX0_readWord_61 (fun s1 hp1 => ?_)
          have hw1 : WXs B A sd σ0 s1 := by
            rw [hp1]
            exact ((hws.st hW (by unfold XR; omega)).st hW (by unfold XR; omega)).st hW (by unfold XR; omega)
          have hd1 : RdX s1 q n (adL S n (rtx A q)) := by
            rw [hp1]
            have z := hds.fr (σ' := setI (setI (setI s (100 + 6 * n + 1) (sz S n) (nI (rtx A q - 97))) (100 + 6 * n) 1 (nI (sz S n + 1))) (100 + 6 * n + 2) (rtx A q - 97) (s.2.2.1 (100 + 6 * n + 2) (rtx A q - 97) + 1)) hn hn10 (Q := fun a j => 100 + 6 * n ≤ a) ((((FrR.rf).stI (by omega)).stI (by omega)).stI (by omega)) (fun a j z => z)
            refine ⟨z.1, z.2.1, fun j hj => z.2.2.1 j hj, fun w hw => (z.2.2.2 w hw).cg ?_ rfl (fun k hk => adL_5 ?_)⟩
            · unfold adL; rw [up2_n (by omega), up2_n (by omega)]
            · have := hz6 w hw
              omega
          have hc1 : CwX s1 n (adL S n (rtx A q)) := by
            rw [hp1]
            exact hcs.add (by omega) e3 (by omega)
          have hz1 : ∀ w, w < n → sz (adL S n (rtx A q)) w ≤ 6 := fun w hw => by
            rw [sz_c (S := S) (by unfold adL; rw [up2_n (by omega), up2_n (by omega)])]
            exact hz6 w hw
          have hs1 : sz (adL S n (rtx A q)) n + f = 6 := by rw [adL_sz (by omega)]; omega
          clear hp1
          have hL := hw1.1.1
          have hwo := hL.w_readWords h10
          refine y_aload_n hg dX0_readWord_64 rfl ?_
          refine y_dup hg dX0_readWord_65 rfl ?_
          refine y_geti (j := 18) hg cf0 (hL.x) (by decide) rfl q190 dX0_readWord_66 ?_
          refine y_ti (hd1.1) ?_
          refine y_iconst (v := nI 1) hg dX0_readWord_69 rfl ?_
          refine y_iadd hg dX0_readWord_70 ?_
          refine y_ti (nI_add _ _) ?_
          refine y_puti (j := 18) hg cf0 (hL.x) (by decide) rfl rfl q190 dX0_readWord_71 ?_
          have hw2 : WXs B A sd σ0 (setI s1 0 18 (nI (q + 1))) := hw1.st hW (by unfold XR; omega)
          have hd2 : RdX (setI s1 0 18 (nI (q + 1))) (q + 1) n (adL S n (rtx A q)) := hd1.at
          have hc2 : CwX (setI s1 0 18 (nI (q + 1))) n (adL S n (rtx A q)) := hc1.set (by omega)
          have hL := hw2.1.1
          have hwo := hL.w_readWords h10
          generalize setI s1 0 18 (nI (q + 1)) = s2 at hw2 hd2 hc2 hL hwo ⊢
          refine y_aload_n hg dX0_readWord_74 rfl ?_
          refine y_bipush (v := nI 97) hg dX0_readWord_75 rfl ?_
          refine y_bipush (v := nI 8) hg dX0_readWord_77 rfl ?_
          refine y_cVi hg (cX_next hW hw2.1 hd2.1 (by omega) n97) iX0_next q320 (hL.x) cf0 rfl rfl (by simp [Value.category]) (Nat.le_refl _) (Nat.le_refl _) (by decide) dX0_readWord_79 (fun r s3 hp => ?_)
          obtain ⟨rfl, rfl⟩ := hp
          refine y_istore_n hg dX0_readWord_82 (by decide) (lv1 := [(0, _), (1, _), (2, _)]) rfl ?_
          refine y_goto hg 44 dX0_readWord_83 (by decide) ?_
          exact ih _ _ _ (by omega) hs1 hz1 hw2 hd2 hc2 hwk
        · rw [if_neg e] at hwk
          have e9 : oN (rnx A 97 8 q) = -9 := by rw [rnx_n e]; rfl
          refine y_iload_n hg dX0_readWord_44 rfl ?_
          refine y_bipush (v := -9) hg dX0_readWord_45 rfl ?_
          refine y_icmp_eq hg 86 dX0_readWord_47 (by decide) (fun _ => ?_) (fun hF => absurd (e9) hF)
          exact J q S s _ (by omega) (by omega) hws hds hcs hwk
    refine y_aload_n hg dX0_readWord_0 rfl ?_
    refine y_geti (j := 19) hg cf0 (hL.x) (by decide) rfl q191 dX0_readWord_1 ?_
    refine y_ti (hd.2.1) ?_
    refine y_bipush (v := nI 10) hg dX0_readWord_4 rfl ?_
    refine y_icmp_ne hg 11 dX0_readWord_6 (by decide) (fun _ => ?_) (fun hF => absurd hF (fun z => by have := nI_inj (by omega) (by omega) z; omega))
    refine y_aload_n hg dX0_readWord_11 rfl ?_
    refine y_getr (j := 20) hg cf0 (hL.x) (by decide) rfl (hL.r_readWords) q192 dX0_readWord_12 ?_
    refine y_aload_n hg dX0_readWord_15 rfl ?_
    refine y_geti (j := 19) hg cf0 (hL.x) (by decide) rfl q191 dX0_readWord_16 ?_
    refine y_ti (hd.2.1) ?_
    refine y_aald3 hg _ (hL.k_readWords) rfl (by omega) (hL.e_readWords (by omega)) dX0_readWord_19 ?_
    refine y_astore_n hg dX0_readWord_20 (by decide) (lv1 := [(0, _), (1, _)]) rfl ?_
    refine y_aload_n hg dX0_readWord_21 rfl ?_
    refine y_cVv hg (cX_begin (hL.w_readWords (show n < 10 by omega)) (by omega)) iX2_begin q316 ((hL.w_readWords (by omega)).o) cf2 rfl rfl (by simp [Value.category]) (Nat.le_refl _) (Nat.le_refl _) (by decide) dX0_readWord_22 (fun σ1 hp => ?_)
    obtain ⟨hf1, hb1, hb2⟩ := hp
    have hw1 : WXs B A sd σ0 σ1 := hw0.goR hW hf1 (fun a j z => by unfold XR; omega)
    have e0 : sz (up2 S 2 n (nI 0)) n = 0 := by show (up2 S 2 n (nI 0) 2 n).toNatClampNeg = 0; rw [up2_s]; rfl
    have hd1 : RdX σ1 q n (up2 S 2 n (nI 0)) := by
      have z := hd.fr hn hn10 hf1 (fun a j z => by omega)
      exact ⟨z.1, z.2.1, z.2.2.1, fun w hw => (z.2.2.2 w hw).cg (up2_n (by omega)) rfl (fun k hk => rfl)⟩
    have hc1 : CwX σ1 n (up2 S 2 n (nI 0)) := ⟨by rw [e0]; exact hb1, by rw [e0]; exact up2_s, fun k hk => by omega, fun x hx => by unfold hasF; rw [e0]; exact hb2 x hx⟩
    have hL := hw1.1.1
    have hwo := hL.w_readWords h10
    refine y_aload_n hg dX0_readWord_25 rfl ?_
    refine y_dup hg dX0_readWord_26 rfl ?_
    refine y_geti (j := 18) hg cf0 (hL.x) (by decide) rfl q190 dX0_readWord_27 ?_
    refine y_ti (hd1.1) ?_
    refine y_iconst (v := nI 1) hg dX0_readWord_30 rfl ?_
    refine y_iadd hg dX0_readWord_31 ?_
    refine y_ti (nI_add _ _) ?_
    refine y_puti (j := 18) hg cf0 (hL.x) (by decide) rfl rfl q190 dX0_readWord_32 ?_
    have hw2 : WXs B A sd σ0 (setI σ1 0 18 (nI (q + 1))) := hw1.st hW (by unfold XR; omega)
    have hd2 : RdX (setI σ1 0 18 (nI (q + 1))) (q + 1) n (up2 S 2 n (nI 0)) := hd1.at
    have hc2 : CwX (setI σ1 0 18 (nI (q + 1))) n (up2 S 2 n (nI 0)) := hc1.set (by omega)
    have hL := hw2.1.1
    have hwo := hL.w_readWords h10
    generalize setI σ1 0 18 (nI (q + 1)) = σ2 at hw2 hd2 hc2 hL hwo ⊢
    refine y_aload_n hg dX0_readWord_35 rfl ?_
    refine y_bipush (v := nI 97) hg dX0_readWord_36 rfl ?_
    refine y_bipush (v := nI 8) hg dX0_readWord_38 rfl ?_
    refine y_cVi hg (cX_next hW hw2.1 hd2.1 (by omega) n97) iX0_next q320 (hL.x) cf0 rfl rfl (by simp [Value.category]) (Nat.le_refl _) (Nat.le_refl _) (by decide) dX0_readWord_40 (fun r σ3 hp => ?_)
    obtain ⟨rfl, rfl⟩ := hp
    refine y_istore_n hg dX0_readWord_43 (by decide) (lv1 := [(0, _), (1, _), (2, _)]) rfl ?_
    exact LOOP 6 (q + 1) _ _ (by omega) (by omega) (fun w hw => by rw [sz_c (S := S) (up2_n (by omega))]; exact (hS.2.2 w hw).1.2.2) hw2 hd2 hc2 hP.symm
  · rw [if_neg h10]
    refine MT.of (by decide) (Nat.le_of_ble_eq_true rfl) (fun g hg hr => ?_)
    refine y_aload_n hg dX0_readWord_0 rfl ?_
    refine y_geti (j := 19) hg cf0 (hL.x) (by decide) rfl q191 dX0_readWord_1 ?_
    refine y_ti (hd.2.1) ?_
    refine y_bipush (v := nI 10) hg dX0_readWord_4 rfl ?_
    refine y_icmp_ne hg 11 dX0_readWord_6 (by decide) (fun hT => absurd hT (fun z => z (by rw [show n = 10 by omega]))) (fun _ => ?_)
    refine y_iconst (v := nI 0) hg dX0_readWord_9 rfl ?_
    refine y_zret hg hr rfl ⟨_, rfl, ?_⟩ dX0_readWord_10 (Nat.le_refl _) (Nat.le_refl _)
    exact ⟨rfl, hw0, hd.1, fun z => absurd z Bool.false_ne_true⟩
end ReadX3
section ReadX4
variable {A : Ab}
theorem spl_wf {n : Nat} : ∀ f q S, sz S n + f = 6 → WFm 119 1 0 n S → WFm 119 1 0 n (spl A n f q S).2
  | 0, q, S, _, h => h
  | f + 1, q, S, hs, h => by
    rw [spl]
    by_cases e : (rnx A 97 8 q).isSome = true
    · rw [if_pos e]
      obtain ⟨-, -, e3, e4⟩ := rnx_s e
      have em : mIn 119 1 0 n S (rtx A q) = (true, 1, 0, n, adL S n (rtx A q)) := by unfold mIn; rw [if_pos rfl, if_neg (by decide), if_pos ⟨by omega, by omega⟩]
      have z := wf_in (t := rtx A q) h (by omega) (by rw [em])
      rw [em] at z
      exact spl_wf f (q + 1) _ (by rw [adL_sz (by omega)]; omega) z
    · rw [if_neg e]; exact h
theorem wK_wf {n q : Nat} {S : Ab} (h : WFm 119 1 0 n S) (hok : (wK A n q S).1 = true) : WFS (wK A n q S).2.2.1 (wK A n q S).2.2.2 := by
  unfold wK at hok ⊢
  by_cases e : (rnx A 65 4 q).isSome = true ∧ 0 < sz S n
  · rw [if_pos e] at hok ⊢
    obtain ⟨-, -, e3, e4⟩ := rnx_s e.1
    by_cases f : (rnx A 48 10 (q + 1)).isSome = true
    · rw [if_pos f]
      obtain ⟨-, -, f3, f4⟩ := rnx_s f
      have em : mIn 119 1 0 n S (rtx A q) = (true, 2, 0, n, up2 S 3 n (nI (rtx A q - 65))) := by unfold mIn; rw [if_pos rfl, if_neg (by decide), if_neg (by omega), decide_eq_true ⟨by omega, e.2⟩]
      have z := wf_in (t := rtx A q) h (by omega) (by rw [em])
      rw [em] at z
      have em2 : mIn 119 2 0 n (up2 S 3 n (nI (rtx A q - 65))) (rtx A (q + 1)) = (true, 0, 0, n + 1, up2 (up2 S 3 n (nI (rtx A q - 65))) 11 (9 + n) (nI (rtx A (q + 1) - 48))) := by unfold mIn; rw [if_pos rfl, if_pos rfl, decide_eq_true ⟨by omega, by omega⟩]
      have z2 := wf_in (p := 119) (pl := 2) (fi := 0) (t := rtx A (q + 1)) z (by omega) (by rw [em2])
      rw [em2] at z2
      exact z2.1
    · rw [if_neg f] at hok
      exact absurd hok Bool.false_ne_true
  · rw [if_neg e] at hok
    exact absurd hok Bool.false_ne_true
theorem xKd_wf {j n q : Nat} {S : Ab} (h : WFS n S) (hj : 19 ≤ j) (hj2 : j < 25) (hok : (xKd A j n q S).1 = true) : WFS (xKd A j n q S).2.2.1 (xKd A j n q S).2.2.2 := by
  unfold xKd at hok ⊢
  by_cases e : (rnx A 65 4 q).isSome = true ∧ hasB (S 11 j) (nI (rtx A q - 65)) = false
  · rw [if_pos e]
    obtain ⟨-, -, e3, e4⟩ := rnx_s e.1
    have hm : WFm 0 0 0 n S := ⟨h, by omega, fun z => by omega⟩
    exact (wf_kd hm hj hj2 (by unfold kOK; rw [e.2, decide_eq_true ⟨by omega, by omega⟩]; rfl)).1
  · rw [if_neg e] at hok
    exact absurd hok Bool.false_ne_true
theorem xPart_wf {n q : Nat} {S : Ab} (h : WFS n S) (hok : (xPart A n S q).1 = true) : WFS (xPart A n S q).2.2.1 (xPart A n S q).2.2.2 := by
  have hm : WFm 0 0 0 n S := ⟨h, by omega, fun z => by omega⟩
  unfold xPart at hok ⊢
  cases hs : okS n S (rtx A q) with
  | false => rw [hs, if_pos rfl] at hok; exact absurd hok Bool.false_ne_true
  | true =>
    rw [hs, if_neg (by decide)] at hok
    rw [if_neg (by decide)]
    have hms := wf_sign hm hs
    by_cases t1 : rtx A q = 119
    · rw [if_pos t1] at hok ⊢
      have es : stS n S (rtx A q) = up2 S 2 n (nI 0) := by unfold stS; rw [if_pos t1]
      rw [es, t1] at hms
      exact wK_wf (spl_wf 6 (q + 1) _ (by show (up2 S 2 n (nI 0) 2 n).toNatClampNeg + 6 = 6; rw [up2_s]; rfl) hms) hok
    · rw [if_neg t1] at hok ⊢
      have es : stS n S (rtx A q) = S := by unfold stS; rw [if_neg t1]
      rw [es] at hms
      by_cases t2 : rtx A q = 43
      · rw [if_pos t2] at hok ⊢
        rw [t2] at hms
        by_cases e : (rnx A 97 8 (q + 1)).isSome = true
        · rw [if_pos e]
          obtain ⟨-, -, e3, e4⟩ := rnx_s e
          have em : mIn 43 1 0 n S (rtx A (q + 1)) = (true, 0, 0, n, up2 S 11 (rtx A (q + 1) - 97) (S 11 (rtx A (q + 1) - 97) + nI 1)) := by unfold mIn; rw [if_neg (by decide), if_pos rfl, decide_eq_true ⟨by omega, by omega⟩]
          have z := wf_in (t := rtx A (q + 1)) hms (by omega) (by rw [em])
          rw [em] at z
          exact z.1
        · rw [if_neg e] at hok
          exact absurd hok Bool.false_ne_true
      · rw [if_neg t2] at hok ⊢
        by_cases t3 : rtx A q = 94
        · rw [if_pos t3] at hok ⊢
          exact xKd_wf h (by omega) (by omega) hok
        · rw [if_neg t3] at hok ⊢
          by_cases t4 : rtx A q = 46
          · rw [if_pos t4] at hok ⊢
            exact xKd_wf h (by omega) (by omega) hok
          · rw [if_neg t4] at hok ⊢
            by_cases e : (rnx A 65 4 (q + 1)).isSome = true ∧ ¬ S 11 (21 + (rtx A (q + 1) - 65)) = nI 15
            · rw [if_pos e] at hok ⊢
              obtain ⟨-, -, e3, e4⟩ := rnx_s e.1
              exact xKd_wf h (by omega) (by omega) hok
            · rw [if_neg e] at hok
              exact absurd hok Bool.false_ne_true
end ReadX4

