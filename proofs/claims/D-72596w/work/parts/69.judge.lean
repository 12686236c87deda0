section Judge
variable {ll : Launch} {B : Bs} {σ : Mem} {A : Ab} {sd : Int64}
/-- one thing that is judged: whether it can be done or is so, and the row then -/
def dj (A : Ab) (f : Nat → Int32) (h a b v : Nat) : Bool × (Nat → Int32) :=
  if h = 1 then (if a < 8 ∧ b = 0 ∧ v = 0 ∧ ¬ bagS f = nI 12 then (true, upf f a (f a + nI 1)) else (false, f))
  else if h = 2 then (if a < 8 ∧ b = 0 ∧ v = 0 ∧ ¬ f a = 0 then (true, upf f a (f a - nI 1)) else (false, f))
  else if h = 3 then (if a < nm A ∧ b = 0 ∧ v = 0 then (true, upf f 8 (f 8 ^^^ (nI 1 <<< (nI a &&& 31)))) else (false, f))
  else if h = 4 then (decide (a = 0 ∧ tot (pb A f (uN f)) = 10 * b + v), f)
  else if h = 5 then (decide (a < nm A ∧ b = 0 ∧ v < 2 ∧ (tot (pb A f (uWo f a)) < tot (pb A f (uN f)) ↔ v = 1)), f)
  else if h = 6 then (if a < 4 ∧ b < 4 ∧ v = 0 then (true, upf f (21 + a) (f (21 + a) ^^^ (nI 1 <<< (nI b &&& 31)))) else (false, f))
  else if h = 7 then (decide (a = 0 ∧ bw (pb A f (uN f)) = nI (10 * b + v)), f)
  else (false, f)
theorem dj_wf {f : Nat → Int32} {h a b v : Nat} (hm : nm A ≤ 10) (hf : WFr (nm A) f) : WFr (nm A) (dj A f h a b v).2 := by
  have hs := hf.2.1
  unfold dj
  split
  · split
    · rename_i q
      have h2 := q.2.2.2
      rw [bagS_nI hf.1] at h2
      have := lt_of_ne hs h2
      have hge : bg f a ≤ sm (bg f) 8 := sm_ge 8 q.1
      show WFr _ (upf f a (f a + nI 1))
      rw [hf.1 a q.1, nI_add]
      exact hf.letter q.1 (by omega)
    · exact hf
  · split
    · split
      · rename_i q
        have h0 : 0 < bg f a := by
          rcases Nat.eq_zero_or_pos (bg f a) with z | z
          · exact absurd (by rw [hf.1 a q.1, z]; rfl) q.2.2.2
          · exact z
        show WFr _ (upf f a (f a - nI 1))
        rw [hf.1 a q.1, pk_sub (by omega)]
        exact hf.letter q.1 (by omega)
      · exact hf
    · split
      · split
        · rename_i q
          obtain ⟨c, hc, e⟩ := hf.2.2.1
          exact hf.oth (by omega) (fun _ => by rw [e]; exact xor_sh hc q.1 (by omega)) (fun z => by omega) (fun z => by omega)
        · exact hf
      · split
        · exact hf
        · split
          · exact hf
          · split
            · split
              · rename_i q
                obtain ⟨c, hc, e⟩ := hf.2.2.2.2.2.2 a q.1
                exact hf.oth (by omega) (fun z => by omega) (fun z => by omega) (fun _ => by rw [e]; exact xor_sh (n := 4) hc q.2.1 (by omega))
              · exact hf
            · split
              · exact hf
              · exact hf
theorem dj1 (A : Ab) (f : Nat → Int32) (a b v : Nat) : dj A f 1 a b v = (if a < 8 ∧ b = 0 ∧ v = 0 ∧ ¬ bagS f = nI 12 then (true, upf f a (f a + nI 1)) else (false, f)) := rfl
theorem dj2 (A : Ab) (f : Nat → Int32) (a b v : Nat) : dj A f 2 a b v = (if a < 8 ∧ b = 0 ∧ v = 0 ∧ ¬ f a = 0 then (true, upf f a (f a - nI 1)) else (false, f)) := rfl
theorem dj3 (A : Ab) (f : Nat → Int32) (a b v : Nat) : dj A f 3 a b v = (if a < nm A ∧ b = 0 ∧ v = 0 then (true, upf f 8 (f 8 ^^^ (nI 1 <<< (nI a &&& 31)))) else (false, f)) := rfl
theorem dj4 (A : Ab) (f : Nat → Int32) (a b v : Nat) : dj A f 4 a b v = (decide (a = 0 ∧ tot (pb A f (uN f)) = 10 * b + v), f) := rfl
theorem dj5 (A : Ab) (f : Nat → Int32) (a b v : Nat) : dj A f 5 a b v = (decide (a < nm A ∧ b = 0 ∧ v < 2 ∧ (tot (pb A f (uWo f a)) < tot (pb A f (uN f)) ↔ v = 1)), f) := rfl
theorem dj6 (A : Ab) (f : Nat → Int32) (a b v : Nat) : dj A f 6 a b v = (if a < 4 ∧ b < 4 ∧ v = 0 then (true, upf f (21 + a) (f (21 + a) ^^^ (nI 1 <<< (nI b &&& 31)))) else (false, f)) := rfl
theorem dj7 (A : Ab) (f : Nat → Int32) (a b v : Nat) : dj A f 7 a b v = (decide (a = 0 ∧ bw (pb A f (uN f)) = nI (10 * b + v)), f) := rfl
theorem djo (A : Ab) (f : Nat → Int32) {h : Nat} (hh : h = 0 ∨ 7 < h) (a b v : Nat) : dj A f h a b v = (false, f) := by
  unfold dj
  rw [if_neg (by omega), if_neg (by omega), if_neg (by omega), if_neg (by omega), if_neg (by omega), if_neg (by omega), if_neg (by omega)]
theorem isL_n {n a : Nat} (ha : a < 1000) (hn : n < 1000) {M : Int64} (hM : M.toInt = n) : inL (nI a).toInt64 0 M = decide (a ≤ n) := by
  by_cases h : a ≤ n
  · rw [decide_eq_true h, (inL_iff n hM (by omega)).mpr ⟨a, h, rfl⟩]
  · rw [decide_eq_false h]
    cases e : inL (nI a).toInt64 0 M with
    | false => rfl
    | true =>
      obtain ⟨c, hc, e2⟩ := (inL_iff n hM (by omega)).mp e
      have := nI_inj (by omega) (by omega) e2
      omega
theorem isW_n {n a : Nat} (ha : a < 1000) (hn : n ≤ 10) : isW n (nI a) = decide (a < n) := by
  by_cases h : a < n
  · rw [decide_eq_true h, (isW_iff hn).mpr ⟨a, h, rfl⟩]
  · rw [decide_eq_false h]
    cases e : isW n (nI a) with
    | false => rfl
    | true =>
      obtain ⟨c, hc, e2⟩ := (isW_iff hn).mp e
      have := nI_inj (by omega) (by omega) e2
      omega
/-- the trial row of M -/
def TM (B : Bs) (A : Ab) (sd : Int64) (σ0 σ : Mem) (f : Nat → Int32) : Prop := WM B A sd σ0 σ ∧ ∀ j, j < 25 → σ.2.2.1 164 j = f j
theorem TM.st {σ0 : Mem} {f : Nat → Int32} (h : TM B A sd σ0 σ f) {j : Nat} {v : Int32} : TM B A sd σ0 (setI σ 164 j v) (upf f j v) := by
  refine ⟨h.1.go (Q := ME) ((FrR.rf).stI (by unfold ME; omega)) (fun a j z => z), fun i hi => ?_⟩
  by_cases e : i = j
  · subst e; rw [gI_s, upf_s]
  · rw [gI_n (by omega), upf_n e]; exact h.2 i hi
theorem TM.go {σ0 σ' : Mem} {f : Nat → Int32} {Q : Nat → Nat → Prop} (h : TM B A sd σ0 σ f) (hf : FrR Q σ σ') (hq : ∀ a j, Q a j → ME a j ∧ a ≠ 164) : TM B A sd σ0 σ' f :=
  ⟨h.1.go hf (fun a j z => (hq a j z).1), fun j hj => (hf.i (by have := h.1.1.1.n; omega) (fun z => (hq _ _ z).2 rfl)).trans (h.2 j hj)⟩
theorem nz {a : Nat} (h : a < 1000) : (nI a = 0) = (a = 0) := propext (nI_eq (show a < 2 ^ 31 by omega) (show 0 < 2 ^ 31 by decide))
theorem cM_tbag {l : Launch} {σ0 : Mem} {f : Nat → Int32} (hR : TM B A sd σ0 σ f) : MT l B 0 0 0 yX3_bagOf cX3_bagOf 3 (some .int) [.ref (B.1 + 164)] σ (pI fun r σ' => r = bagS f ∧ σ' = σ) := by
  have h := cM_bagOf (l := l) (B := B) hR.1.1.1.k_trial (by omega)
  rw [show fo (fun x n => n + σ.2.2.1 164 x) 0 8 = bagS f from fo_congr 8 (fun x a hx => by rw [hR.2 x (by omega)])] at h
  exact h
theorem cM_judged (hW : WFA A) {σ0 : Mem} {f : Nat → Int32} (hT : TM B A sd σ0 σ f) (hf : WFr (nm A) f) {h a b v : Nat} (hh : h ≤ 9) (ha : a ≤ 9) (hb : b ≤ 9) (hv : v ≤ 9) : MT ll B 20 0 0 yX3_judged cX3_judged 6 (some .boolean) [.ref (B.1 + 157), .int (nI h), .int (nI a), .int (nI b), .int (nI v)] σ (pI fun r σ' => r = b2 (dj A f h a b v).1 ∧ TM B A sd σ0 σ' (dj A f h a b v).2) := by
  have hM := hT.1.1.1
  have hm := hW.nmle
  have hP : WFP (pb A f (uN f)) := pb_wr hW hf
  have ht := tot_b hP
  have h12 : sm (bg (pb A f (uN f)).2.2.2.1) 8 ≤ 12 := hf.2.1
  refine MT.of (by decide) (Nat.le_of_ble_eq_true rfl) (fun g hg hr => ?_)
  refine y_iload_n hg dX3_judged_0 rfl ?_
  have hcase : (h = 0 ∨ 7 < h) ∨ h = 1 ∨ h = 2 ∨ h = 3 ∨ h = 4 ∨ h = 5 ∨ h = 6 ∨ h = 7 := by omega
  rcases hcase with ho | rfl | rfl | rfl | rfl | rfl | rfl | rfl
  · rw [djo A f ho] at hr
    refine y_tsOut hg 331 dX3_judged_1 ((by rw [nI_toInt (by omega)]; omega)) (by decide) ?_
    refine y_iconst (v := nI 0) hg dX3_judged_331 rfl ?_
    refine y_zret hg hr rfl ⟨_, rfl, ?_⟩ dX3_judged_332 (Nat.le_refl _) (Nat.le_refl _)
    exact ⟨rfl, hT⟩
  · rw [dj1] at hr
    have BAD : ¬ (a < 8 ∧ b = 0 ∧ v = 0 ∧ ¬ bagS f = nI 12) → YY g 6 σ 0 0 72 [(0, .ref (B.1 + 157)), (1, .int (nI 1)), (2, .int (nI a)), (3, .int (nI b)), (4, .int (nI v))] [] := by
      intro z
      rw [if_neg z] at hr
      refine y_iconst (v := nI 0) hg dX3_judged_72 rfl ?_
      refine y_zret hg hr rfl ⟨_, rfl, ?_⟩ dX3_judged_73 (Nat.le_refl _) (Nat.le_refl _)
      exact ⟨rfl, hT⟩
    refine y_tsIn hg 44 dX3_judged_1 (by decide) (by decide) rfl (by decide) ?_
    refine y_iload_n hg dX3_judged_44 rfl ?_
    refine y_cSi hg (cM_isLetter _) iX3_isLetter q1198 rfl rfl (by simp [Value.category]) (Nat.le_refl _) (Nat.le_refl _) (by decide) dX3_judged_45 (fun r σ1 hp => ?_)
    obtain ⟨rfl, rfl⟩ := hp
    rw [isL_n (n := 7) (by omega) (by decide) rfl]
    refine y_if_eq hg 72 dX3_judged_48 (by decide) (fun hc => ?_) (fun hc => ?_)
    · exact BAD (fun z => b2F hc (decide_eq_true (by omega)))
    have h1 := of_decide_eq_true (b2T hc)
    refine y_iload_n hg dX3_judged_51 rfl ?_
    refine y_if_ne hg 72 dX3_judged_52 (by decide) (fun hc1 => ?_) (fun hc1 => ?_)
    · exact BAD (fun z => hc1 (by rw [z.2.1]; rfl))
    rw [nz (by omega)] at hc1
    refine y_iload hg dX3_judged_55 rfl ?_
    refine y_if_ne hg 72 dX3_judged_57 (by decide) (fun hc2 => ?_) (fun hc2 => ?_)
    · exact BAD (fun z => hc2 (by rw [z.2.2.1]; rfl))
    rw [nz (by omega)] at hc2
    refine y_aload_n hg dX3_judged_60 rfl ?_
    refine y_getr (j := 8) hg cf3 (hM.m) (by decide) rfl (hM.r_trial) q919 dX3_judged_61 ?_
    refine y_cSi hg (cM_tbag hT) iX3_bagOf q1071 rfl rfl (by simp [Value.category]) (Nat.le_refl _) (Nat.le_refl _) (by decide) dX3_judged_64 (fun r σ1 hp => ?_)
    obtain ⟨rfl, rfl⟩ := hp
    refine y_bipush (v := nI 12) hg dX3_judged_67 rfl ?_
    refine y_icmp_ne hg 74 dX3_judged_69 (by decide) (fun hc3 => ?_) (fun hc3 => ?_)
    · rw [if_pos ⟨by omega, hc1, hc2, hc3⟩] at hr
      refine y_aload_n hg dX3_judged_74 rfl ?_
      refine y_getr (j := 8) hg cf3 (hM.m) (by decide) rfl (hM.r_trial) q919 dX3_judged_75 ?_
      refine y_iload_n hg dX3_judged_78 rfl ?_
      refine y_dup2 hg dX3_judged_79 rfl rfl ?_
      refine y_iald hg _ (hM.k_trial) rfl (by omega) dX3_judged_80 ?_
      refine y_ti (hT.2 a (by omega)) ?_
      refine y_iconst (v := nI 1) hg dX3_judged_81 rfl ?_
      refine y_iadd hg dX3_judged_82 ?_
      refine y_iast hg _ (hM.k_trial) rfl (by omega) dX3_judged_83 ?_
      refine y_iconst (v := nI 1) hg dX3_judged_84 rfl ?_
      refine y_zret hg hr rfl ⟨_, rfl, ?_⟩ dX3_judged_85 (Nat.le_refl _) (Nat.le_refl _)
      exact ⟨rfl, hT.st⟩
    · exact BAD (fun z => z.2.2.2 hc3)
  · rw [dj2] at hr
    have BAD : ¬ (a < 8 ∧ b = 0 ∧ v = 0 ∧ ¬ f a = 0) → YY g 6 σ 0 0 111 [(0, .ref (B.1 + 157)), (1, .int (nI 2)), (2, .int (nI a)), (3, .int (nI b)), (4, .int (nI v))] [] := by
      intro z
      rw [if_neg z] at hr
      refine y_iconst (v := nI 0) hg dX3_judged_111 rfl ?_
      refine y_zret hg hr rfl ⟨_, rfl, ?_⟩ dX3_judged_112 (Nat.le_refl _) (Nat.le_refl _)
      exact ⟨rfl, hT⟩
    refine y_tsIn hg 86 dX3_judged_1 (by decide) (by decide) rfl (by decide) ?_
    refine y_iload_n hg dX3_judged_86 rfl ?_
    refine y_cSi hg (cM_isLetter _) iX3_isLetter q1198 rfl rfl (by simp [Value.category]) (Nat.le_refl _) (Nat.le_refl _) (by decide) dX3_judged_87 (fun r σ1 hp => ?_)
    obtain ⟨rfl, rfl⟩ := hp
    rw [isL_n (n := 7) (by omega) (by decide) rfl]
    refine y_if_eq hg 111 dX3_judged_90 (by decide) (fun hc => ?_) (fun hc => ?_)
    · exact BAD (fun z => b2F hc (decide_eq_true (by omega)))
    have h1 := of_decide_eq_true (b2T hc)
    refine y_iload_n hg dX3_judged_93 rfl ?_
    refine y_if_ne hg 111 dX3_judged_94 (by decide) (fun hc1 => ?_) (fun hc1 => ?_)
    · exact BAD (fun z => hc1 (by rw [z.2.1]; rfl))
    rw [nz (by omega)] at hc1
    refine y_iload hg dX3_judged_97 rfl ?_
    refine y_if_ne hg 111 dX3_judged_99 (by decide) (fun hc2 => ?_) (fun hc2 => ?_)
    · exact BAD (fun z => hc2 (by rw [z.2.2.1]; rfl))
    rw [nz (by omega)] at hc2
    refine y_aload_n hg dX3_judged_102 rfl ?_
    refine y_getr (j := 8) hg cf3 (hM.m) (by decide) rfl (hM.r_trial) q919 dX3_judged_103 ?_
    refine y_iload_n hg dX3_judged_106 rfl ?_
    refine y_iald hg _ (hM.k_trial) rfl (by omega) dX3_judged_107 ?_
    refine y_ti (hT.2 a (by omega)) ?_
    refine y_if_ne hg 113 dX3_judged_108 (by decide) (fun hc3 => ?_) (fun hc3 => ?_)
    · rw [if_pos ⟨by omega, hc1, hc2, hc3⟩] at hr
      refine y_aload_n hg dX3_judged_113 rfl ?_
      refine y_getr (j := 8) hg cf3 (hM.m) (by decide) rfl (hM.r_trial) q919 dX3_judged_114 ?_
      refine y_iload_n hg dX3_judged_117 rfl ?_
      refine y_dup2 hg dX3_judged_118 rfl rfl ?_
      refine y_iald hg _ (hM.k_trial) rfl (by omega) dX3_judged_119 ?_
      refine y_ti (hT.2 a (by omega)) ?_
      refine y_iconst (v := nI 1) hg dX3_judged_120 rfl ?_
      refine y_isub hg dX3_judged_121 ?_
      refine y_iast hg _ (hM.k_trial) rfl (by omega) dX3_judged_122 ?_
      refine y_iconst (v := nI 1) hg dX3_judged_123 rfl ?_
      refine y_zret hg hr rfl ⟨_, rfl, ?_⟩ dX3_judged_124 (Nat.le_refl _) (Nat.le_refl _)
      exact ⟨rfl, hT.st⟩
    · exact BAD (fun z => z.2.2.2 hc3)
  · rw [dj3] at hr
    have BAD : ¬ (a < nm A ∧ b = 0 ∧ v = 0) → YY g 6 σ 0 0 142 [(0, .ref (B.1 + 157)), (1, .int (nI 3)), (2, .int (nI a)), (3, .int (nI b)), (4, .int (nI v))] [] := by
      intro z
      rw [if_neg z] at hr
      refine y_iconst (v := nI 0) hg dX3_judged_142 rfl ?_
      refine y_zret hg hr rfl ⟨_, rfl, ?_⟩ dX3_judged_143 (Nat.le_refl _) (Nat.le_refl _)
      exact ⟨rfl, hT⟩
    refine y_tsIn hg 125 dX3_judged_1 (by decide) (by decide) rfl (by decide) ?_
    refine y_aload_n hg dX3_judged_125 rfl ?_
    refine y_iload_n hg dX3_judged_126 rfl ?_
    refine y_cVi hg (cM_isW hW hT.1.1 _) iX3_isWord q1174 (hM.m) cf3 rfl rfl (by simp [Value.category]) (Nat.le_refl _) (Nat.le_refl _) (by decide) dX3_judged_127 (fun r σ1 hp => ?_)
    obtain ⟨rfl, rfl⟩ := hp
    rw [isW_n (by omega) hm]
    refine y_if_eq hg 142 dX3_judged_130 (by decide) (fun hc => ?_) (fun hc => ?_)
    · exact BAD (fun z => b2F hc (decide_eq_true z.1))
    have h1 := of_decide_eq_true (b2T hc)
    refine y_iload_n hg dX3_judged_133 rfl ?_
    refine y_if_ne hg 142 dX3_judged_134 (by decide) (fun hc1 => ?_) (fun hc1 => ?_)
    · exact BAD (fun z => hc1 (by rw [z.2.1]; rfl))
    rw [nz (by omega)] at hc1
    refine y_iload hg dX3_judged_137 rfl ?_
    refine y_if_eq hg 144 dX3_judged_139 (by decide) (fun hc2 => ?_) (fun hc2 => ?_)
    · rw [nz (by omega)] at hc2
      rw [if_pos ⟨h1, hc1, hc2⟩] at hr
      refine y_aload_n hg dX3_judged_144 rfl ?_
      refine y_getr (j := 8) hg cf3 (hM.m) (by decide) rfl (hM.r_trial) q919 dX3_judged_145 ?_
      refine y_bipush (v := nI 8) hg dX3_judged_148 rfl ?_
      refine y_dup2 hg dX3_judged_150 rfl rfl ?_
      refine y_iald hg _ (hM.k_trial) rfl (by omega) dX3_judged_151 ?_
      refine y_ti (hT.2 8 (by omega)) ?_
      refine y_iconst (v := nI 1) hg dX3_judged_152 rfl ?_
      refine y_iload_n hg dX3_judged_153 rfl ?_
      refine y_ishl hg dX3_judged_154 ?_
      refine y_ixor hg dX3_judged_155 ?_
      refine y_iast hg _ (hM.k_trial) rfl (by omega) dX3_judged_156 ?_
      refine y_iconst (v := nI 1) hg dX3_judged_157 rfl ?_
      refine y_zret hg hr rfl ⟨_, rfl, ?_⟩ dX3_judged_158 (Nat.le_refl _) (Nat.le_refl _)
      exact ⟨rfl, hT.st⟩
    · exact BAD (fun z => hc2 (by rw [z.2.2]; rfl))
  · rw [dj4] at hr
    have J : ∀ (t : Mem) (w : Int32), TM B A sd σ0 t f → w = b2 (decide (a = 0 ∧ tot (pb A f (uN f)) = 10 * b + v)) → YY g 6 t 0 0 188 [(0, .ref (B.1 + 157)), (1, .int (nI 4)), (2, .int (nI a)), (3, .int (nI b)), (4, .int (nI v))] [.int w] := by
      intro t w ht2 hw
      subst hw
      refine y_zret hg hr (nz_b2 _) ⟨_, rfl, ?_⟩ dX3_judged_188 (Nat.le_refl _) (Nat.le_refl _)
      exact ⟨rfl, ht2⟩
    refine y_tsIn hg 159 dX3_judged_1 (by decide) (by decide) rfl (by decide) ?_
    refine y_iload_n hg dX3_judged_159 rfl ?_
    refine y_if_ne hg 187 dX3_judged_160 (by decide) (fun hc => ?_) (fun hc => ?_)
    · rw [nz (by omega)] at hc
      refine y_iconst (v := nI 0) hg dX3_judged_187 rfl ?_
      exact J _ _ hT (by rw [decide_eq_false (fun z => hc z.1)]; rfl)
    rw [nz (by omega)] at hc
    refine y_aload_n hg dX3_judged_163 rfl ?_
    refine y_aload_n hg dX3_judged_164 rfl ?_
    refine y_getr (j := 8) hg cf3 (hM.m) (by decide) rfl (hM.r_trial) q919 dX3_judged_165 ?_
    refine y_cVl hg (cM_manyOf (P := pb A f (uN f)) hM (Or.inr rfl) hP (hT.1.1.wm hW) hT.2 RMm.hu0) iX3_manyOf q1142 (hM.m) cf3 rfl rfl (by simp [Value.category]) (Nat.le_refl _) (Nat.le_refl _) (by decide) dX3_judged_168 (fun r σ5 hp => ?_)
    obtain ⟨rfl, hX, hC, hf5⟩ := hp
    have hT5 := hT.go hf5 (fun a j z => by unfold MyP MkP at z; unfold ME; omega)
    refine y_bipush (v := nI 10) hg dX3_judged_171 rfl ?_
    refine y_iload_n hg dX3_judged_173 rfl ?_
    refine y_imul hg dX3_judged_174 ?_
    refine y_ti (pk_mul _ _) ?_
    refine y_iload hg dX3_judged_175 rfl ?_
    refine y_iadd hg dX3_judged_177 ?_
    refine y_ti (nI_add _ _) ?_
    refine y_i2l hg dX3_judged_178 ?_
    refine y_tl (nI_l (by omega)) ?_
    refine y_lc_ne hg 187 dX3_judged_179 dX3_judged_180 (by decide) (fun hc2 => ?_) (fun hc2 => ?_)
    · refine y_iconst (v := nI 0) hg dX3_judged_187 rfl ?_
      exact J _ _ hT5 (by rw [decide_eq_false (fun z => hc2 (by rw [z.2]))]; rfl)
    · refine y_iconst (v := nI 1) hg dX3_judged_183 rfl ?_
      refine y_goto hg 188 dX3_judged_184 (by decide) ?_
      exact J _ _ hT5 (by rw [decide_eq_true ⟨hc, (pk_lEQ (by omega) (by omega)).mp hc2⟩]; rfl)
  · rw [dj5] at hr
    have ht2 := tot_b (P := pb A f (uWo f a)) hP
    have J : ∀ (t : Mem) (w : Int32), TM B A sd σ0 t f → w = b2 (decide (a < nm A ∧ b = 0 ∧ v < 2 ∧ (tot (pb A f (uWo f a)) < tot (pb A f (uN f)) ↔ v = 1))) → YY g 6 t 0 0 245 [(0, .ref (B.1 + 157)), (1, .int (nI 5)), (2, .int (nI a)), (3, .int (nI b)), (4, .int (nI v))] [.int w] := by
      intro t w ht2 hw
      subst hw
      refine y_zret hg hr (nz_b2 _) ⟨_, rfl, ?_⟩ dX3_judged_245 (Nat.le_refl _) (Nat.le_refl _)
      exact ⟨rfl, ht2⟩
    have BAD : ∀ (t : Mem), TM B A sd σ0 t f → ¬ (a < nm A ∧ b = 0 ∧ v < 2 ∧ (tot (pb A f (uWo f a)) < tot (pb A f (uN f)) ↔ v = 1)) → YY g 6 t 0 0 244 [(0, .ref (B.1 + 157)), (1, .int (nI 5)), (2, .int (nI a)), (3, .int (nI b)), (4, .int (nI v))] [] := by
      intro t ht z
      refine y_iconst (v := nI 0) hg dX3_judged_244 rfl ?_
      exact J _ _ ht (by rw [decide_eq_false z]; rfl)
    refine y_tsIn hg 189 dX3_judged_1 (by decide) (by decide) rfl (by decide) ?_
    refine y_aload_n hg dX3_judged_189 rfl ?_
    refine y_iload_n hg dX3_judged_190 rfl ?_
    refine y_cVi hg (cM_isW hW hT.1.1 _) iX3_isWord q1174 (hM.m) cf3 rfl rfl (by simp [Value.category]) (Nat.le_refl _) (Nat.le_refl _) (by decide) dX3_judged_191 (fun r σ1 hp => ?_)
    obtain ⟨rfl, rfl⟩ := hp
    rw [isW_n (by omega) hm]
    refine y_if_eq hg 244 dX3_judged_194 (by decide) (fun hc => ?_) (fun hc => ?_)
    · exact BAD _ hT (fun z => b2F hc (decide_eq_true z.1))
    have h1 := of_decide_eq_true (b2T hc)
    refine y_iload_n hg dX3_judged_197 rfl ?_
    refine y_if_ne hg 244 dX3_judged_198 (by decide) (fun hc1 => ?_) (fun hc1 => ?_)
    · exact BAD _ hT (fun z => hc1 (by rw [z.2.1]; rfl))
    rw [nz (by omega)] at hc1
    refine y_iload hg dX3_judged_201 rfl ?_
    refine y_iconst (v := nI 2) hg dX3_judged_203 rfl ?_
    refine y_icmp_ge hg 244 dX3_judged_204 (by decide) (fun hc2 => ?_) (fun hc2 => ?_)
    · exact BAD _ hT (fun z => nI_ge z.2.2.1 (by decide) hc2)
    have hv2 : v < 2 := Nat.lt_of_not_le (fun z => hc2 (nI_le z (by omega)))
    have lp : 0 < rWith A f a ↔ tot (pb A f (uWo f a)) < tot (pb A f (uN f)) := lsub_pos ht ht2
    have K : ∀ (t : Mem) (p q : Bool), TM B A sd σ0 t f → (p = decide (tot (pb A f (uWo f a)) < tot (pb A f (uN f)))) → q = decide (v = 1) → YY g 6 t 0 0 237 [(0, .ref (B.1 + 157)), (1, .int (nI 5)), (2, .int (nI a)), (3, .int (nI b)), (4, .int (nI v))] [.int (b2 q), .int (b2 p)] := by
      intro t p q ht2 hp hq
      refine y_icmp_ne hg 244 dX3_judged_237 (by decide) (fun hc4 => ?_) (fun hc4 => ?_)
      · refine BAD _ ht2 (fun z => hc4 ?_)
        rw [hp, hq, b2_inj, decide_eq_decide]
        exact z.2.2.2
      · refine y_iconst (v := nI 1) hg dX3_judged_240 rfl ?_
        refine y_goto hg 245 dX3_judged_241 (by decide) ?_
        rw [hp, hq, b2_inj, decide_eq_decide] at hc4
        exact J _ _ ht2 (by rw [decide_eq_true ⟨h1, hc1, hv2, hc4⟩]; rfl)
    have K1 : ∀ (t : Mem) (p : Bool), TM B A sd σ0 t f → (p = decide (tot (pb A f (uWo f a)) < tot (pb A f (uN f)))) → YY g 6 t 0 0 226 [(0, .ref (B.1 + 157)), (1, .int (nI 5)), (2, .int (nI a)), (3, .int (nI b)), (4, .int (nI v))] [.int (b2 p)] := by
      intro t p ht2 hp
      refine y_iload hg dX3_judged_226 rfl ?_
      refine y_iconst (v := nI 1) hg dX3_judged_228 rfl ?_
      refine y_icmp_ne hg 236 dX3_judged_229 (by decide) (fun hc4 => ?_) (fun hc4 => ?_)
      · refine y_iconst (v := nI 0) hg dX3_judged_236 rfl ?_
        exact K _ p false ht2 hp (decide_eq_false (fun z => hc4 (by rw [z]))).symm
      · refine y_iconst (v := nI 1) hg dX3_judged_232 rfl ?_
        refine y_goto hg 237 dX3_judged_233 (by decide) ?_
        exact K _ p true ht2 hp (decide_eq_true (nI_inj (by omega) (by decide) hc4)).symm
    refine y_aload_n hg dX3_judged_207 rfl ?_
    refine y_aload_n hg dX3_judged_208 rfl ?_
    refine y_getr (j := 8) hg cf3 (hM.m) (by decide) rfl (hM.r_trial) q919 dX3_judged_209 ?_
    refine y_iload_n hg dX3_judged_212 rfl ?_
    refine y_cVl hg (cM_withWord hW hT.1 (Or.inr rfl) hT.2 hP h1) iX3_withWord q1138 (hM.m) cf3 rfl rfl (by simp [Value.category]) (Nat.le_refl _) (Nat.le_refl _) (by decide) dX3_judged_213 (fun r σ5 hp => ?_)
    obtain ⟨rfl, hw5, h164⟩ := hp
    have hT5 : TM B A sd σ0 σ5 f := ⟨hw5, fun j hj => by rw [h164]; exact hT.2 j hj⟩
    refine y_lconst (v := 0) hg dX3_judged_216 rfl ?_
    refine y_lc_le hg 225 dX3_judged_217 dX3_judged_218 (by decide) (fun hc3 => ?_) (fun hc3 => ?_)
    · refine y_iconst (v := nI 0) hg dX3_judged_225 rfl ?_
      exact K1 _ false hT5 (decide_eq_false (fun z => Int64.not_lt.mpr hc3 (lp.mpr z))).symm
    · refine y_iconst (v := nI 1) hg dX3_judged_221 rfl ?_
      refine y_goto hg 226 dX3_judged_222 (by decide) ?_
      exact K1 _ true hT5 (decide_eq_true (lp.mp (Int64.not_le.mp hc3))).symm
  · rw [dj6] at hr
    have BAD : ¬ (a < 4 ∧ b < 4 ∧ v = 0) → YY g 6 σ 0 0 265 [(0, .ref (B.1 + 157)), (1, .int (nI 6)), (2, .int (nI a)), (3, .int (nI b)), (4, .int (nI v))] [] := by
      intro z
      rw [if_neg z] at hr
      refine y_iconst (v := nI 0) hg dX3_judged_265 rfl ?_
      refine y_zret hg hr rfl ⟨_, rfl, ?_⟩ dX3_judged_266 (Nat.le_refl _) (Nat.le_refl _)
      exact ⟨rfl, hT⟩
    refine y_tsIn hg 246 dX3_judged_1 (by decide) (by decide) rfl (by decide) ?_
    refine y_iload_n hg dX3_judged_246 rfl ?_
    refine y_cSi hg (cM_isKind _) iX3_isKind q1096 rfl rfl (by simp [Value.category]) (Nat.le_refl _) (Nat.le_refl _) (by decide) dX3_judged_247 (fun r σ1 hp => ?_)
    obtain ⟨rfl, rfl⟩ := hp
    rw [isL_n (n := 3) (by omega) (by decide) rfl]
    refine y_if_eq hg 265 dX3_judged_250 (by decide) (fun hc => ?_) (fun hc => ?_)
    · exact BAD (fun z => b2F hc (decide_eq_true (by omega)))
    have h1 := of_decide_eq_true (b2T hc)
    refine y_iload_n hg dX3_judged_253 rfl ?_
    refine y_cSi hg (cM_isKind _) iX3_isKind q1096 rfl rfl (by simp [Value.category]) (Nat.le_refl _) (Nat.le_refl _) (by decide) dX3_judged_254 (fun r σ1 hp => ?_)
    obtain ⟨rfl, rfl⟩ := hp
    rw [isL_n (n := 3) (by omega) (by decide) rfl]
    refine y_if_eq hg 265 dX3_judged_257 (by decide) (fun hc1 => ?_) (fun hc1 => ?_)
    · exact BAD (fun z => b2F hc1 (decide_eq_true (by omega)))
    have h2 := of_decide_eq_true (b2T hc1)
    refine y_iload hg dX3_judged_260 rfl ?_
    refine y_if_eq hg 267 dX3_judged_262 (by decide) (fun hc2 => ?_) (fun hc2 => ?_)
    · rw [nz (by omega)] at hc2
      rw [if_pos ⟨by omega, by omega, hc2⟩] at hr
      refine y_aload_n hg dX3_judged_267 rfl ?_
      refine y_getr (j := 8) hg cf3 (hM.m) (by decide) rfl (hM.r_trial) q919 dX3_judged_268 ?_
      refine y_bipush (v := nI 21) hg dX3_judged_271 rfl ?_
      refine y_iload_n hg dX3_judged_273 rfl ?_
      refine y_iadd hg dX3_judged_274 ?_
      refine y_ti (nI_add _ _) ?_
      refine y_dup2 hg dX3_judged_275 rfl rfl ?_
      refine y_iald hg _ (hM.k_trial) rfl (by omega) dX3_judged_276 ?_
      refine y_ti (hT.2 (21 + a) (by omega)) ?_
      refine y_iconst (v := nI 1) hg dX3_judged_277 rfl ?_
      refine y_iload_n hg dX3_judged_278 rfl ?_
      refine y_ishl hg dX3_judged_279 ?_
      refine y_ixor hg dX3_judged_280 ?_
      refine y_iast hg _ (hM.k_trial) rfl (by omega) dX3_judged_281 ?_
      refine y_iconst (v := nI 1) hg dX3_judged_282 rfl ?_
      refine y_zret hg hr rfl ⟨_, rfl, ?_⟩ dX3_judged_283 (Nat.le_refl _) (Nat.le_refl _)
      exact ⟨rfl, hT.st⟩
    · exact BAD (fun z => hc2 (by rw [z.2.2]; rfl))
  · rw [dj7] at hr
    have J : ∀ (t : Mem) (w z : Int32), TM B A sd σ0 t f → w = b2 (decide (a = 0 ∧ bw (pb A f (uN f)) = nI (10 * b + v))) → YY g 6 t 0 0 330 [(0, .ref (B.1 + 157)), (1, .int (nI 7)), (2, .int (nI a)), (3, .int (nI b)), (4, .int (nI v)), (5, .int z)] [.int w] := by
      intro t w z ht2 hw
      subst hw
      refine y_zret hg hr (nz_b2 _) ⟨_, rfl, ?_⟩ dX3_judged_330 (Nat.le_refl _) (Nat.le_refl _)
      exact ⟨rfl, ht2⟩
    refine y_tsIn hg 284 dX3_judged_1 (by decide) (by decide) rfl (by decide) ?_
    refine y_aload_n hg dX3_judged_284 rfl ?_
    refine y_aload_n hg dX3_judged_285 rfl ?_
    refine y_getr (j := 8) hg cf3 (hM.m) (by decide) rfl (hM.r_trial) q919 dX3_judged_286 ?_
    refine y_cVv hg (cM_look (P := pb A f (uN f)) hM (Or.inr rfl) hP (hT.1.1.wm hW) hT.2 RMm.hu0) iX3_look q1118 (hM.m) cf3 rfl rfl (by simp [Value.category]) (Nat.le_refl _) (Nat.le_refl _) (by decide) dX3_judged_289 (fun σ2 hp => ?_)
    obtain ⟨hX, hf2⟩ := hp
    have hT2 := hT.go hf2 (fun a j q => by unfold MkP at q; unfold ME; omega)
    have hM := hT2.1.1.1
    refine y_aload_n hg dX3_judged_292 rfl ?_
    refine y_cVi hg (cM_findBest hP (pb_r hW hf) h12 hX) iX3_findBest q1248 (hM.m) cf3 rfl rfl (by simp [Value.category]) (Nat.le_refl _) (Nat.le_refl _) (by decide) dX3_judged_293 (fun r σ3 hp => ?_)
    obtain ⟨rfl, hf3, hF⟩ := hp
    refine y_istore hg dX3_judged_296 (by decide) (lv1 := [(0, _), (1, _), (2, _), (3, _), (4, _), (5, _)]) rfl ?_
    have hT3 := hT2.go hf3 (fun a j q => by unfold ME; omega)
    have hX3 := hX.fr hf3 (fun a j q => by unfold EM; omega)
    have hM := hT3.1.1.1
    by_cases hbw : bw (pb A f (uN f)) = -9
    · have nb : ¬ bw (pb A f (uN f)) = nI (10 * b + v) := fun z => m9_ne (by omega) (z.symm.trans hbw)
      rw [if_pos hbw]
      refine y_iload_n hg dX3_judged_298 rfl ?_
      refine y_if_ne hg 329 dX3_judged_299 (by decide) (fun hc => ?_) (fun hc => ?_)
      · refine y_iconst (v := nI 0) hg dX3_judged_329 rfl ?_
        exact J _ _ _ hT3 (by rw [decide_eq_false (fun z => nb z.2)]; rfl)
      · refine y_iload hg dX3_judged_302 rfl ?_
        refine y_bipush (v := -9) hg dX3_judged_304 rfl ?_
        refine y_icmp_eq hg 329 dX3_judged_306 (by decide) (fun _ => ?_) (fun hF => absurd (rfl) hF)
        refine y_iconst (v := nI 0) hg dX3_judged_329 rfl ?_
        exact J _ _ _ hT3 (by rw [decide_eq_false (fun z => nb z.2)]; rfl)
    · rw [if_neg hbw]
      obtain ⟨f1, f2, f3⟩ := best_f hP h12 hbw
      have g2 : FdM σ3 (pb A f (uN f)) (cbest (pb A f (uN f))) (qb (pb A f (uN f))) (lnB (pb A f (uN f))) := hF hbw
      show YY g 6 σ3 0 0 298 [(0, .ref (B.1 + 157)), (1, .int (nI 7)), (2, .int (nI a)), (3, .int (nI b)), (4, .int (nI v)), (5, .int (nI (lnB (pb A f (uN f)))))] []
      refine y_iload_n hg dX3_judged_298 rfl ?_
      refine y_if_ne hg 329 dX3_judged_299 (by decide) (fun hc => ?_) (fun hc => ?_)
      · rw [nz (by omega)] at hc
        refine y_iconst (v := nI 0) hg dX3_judged_329 rfl ?_
        exact J _ _ _ hT3 (by rw [decide_eq_false (fun z => hc z.1)]; rfl)
      · rw [nz (by omega)] at hc
        refine y_iload hg dX3_judged_302 rfl ?_
        refine y_bipush (v := -9) hg dX3_judged_304 rfl ?_
        refine y_icmp_eq hg 329 dX3_judged_306 (by decide) (fun hT => absurd hT (m9_ne (by omega))) (fun _ => ?_)
        refine y_aload_n hg dX3_judged_309 rfl ?_
        refine y_iload hg dX3_judged_310 rfl ?_
        refine y_cVi hg (cM_worthOf hP hX3 f1 g2 f2) iX3_worthOf q1260 (hM.m) cf3 rfl rfl (by simp [Value.category]) (Nat.le_refl _) (Nat.le_refl _) (by decide) dX3_judged_312 (fun r σ4 hp => ?_)
        obtain ⟨rfl, rfl⟩ := hp
        refine y_bipush (v := nI 10) hg dX3_judged_315 rfl ?_
        refine y_iload_n hg dX3_judged_317 rfl ?_
        refine y_imul hg dX3_judged_318 ?_
        refine y_ti (pk_mul _ _) ?_
        refine y_iload hg dX3_judged_319 rfl ?_
        refine y_iadd hg dX3_judged_321 ?_
        refine y_ti (nI_add _ _) ?_
        refine y_icmp_ne hg 329 dX3_judged_322 (by decide) (fun hc2 => ?_) (fun hc2 => ?_)
        · refine y_iconst (v := nI 0) hg dX3_judged_329 rfl ?_
          exact J _ _ _ hT3 (by rw [decide_eq_false (fun z => hc2 (by rw [← f3]; exact z.2))]; rfl)
        · refine y_iconst (v := nI 1) hg dX3_judged_325 rfl ?_
          refine y_goto hg 330 dX3_judged_326 (by decide) ?_
          exact J _ _ _ hT3 (by rw [decide_eq_true ⟨hc, by rw [f3]; exact hc2⟩]; rfl)
end Judge

