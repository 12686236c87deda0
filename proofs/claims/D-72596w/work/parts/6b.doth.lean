section DoThing
variable {ll : Launch} {B : Bs} {σ : Mem} {A : Ab} {sd : Int64} {σ0 : Mem} {f : Nat → Int32}
theorem cX_doThing (hW : WFA A) (hT : TX B A sd σ0 σ f) (hf : WFr (nm A) f) {h a b v : Nat} (hh : h ≤ 9) (ha : a ≤ 9) (hb : b ≤ 9) (hv : v ≤ 9) : MT ll B 20 0 0 yX0_doThing cX0_doThing 12 (some .boolean) [.ref (B.1 + 0), .int (nI h), .int (nI a), .int (nI b), .int (nI v)] σ (pI fun r σ' => r = b2 (dj A f h a b v).1 ∧ TX B A sd σ0 σ' (dj A f h a b v).2) := by
  have hL := hT.1.1.1
  have hm := hW.nmle
  have hP : WFP (pb A f (uN f)) := pb_wr hW hf
  have ht := tot_b hP
  have h12 : sm (bg (pb A f (uN f)).2.2.2.1) 8 ≤ 12 := hf.2.1
  refine MT.of (by decide) (Nat.le_of_ble_eq_true rfl) (fun g hg hr => ?_)
  have ST : ∀ al : Bool, al = decide (b = 0 ∧ v = 0) → YY g 12 σ 0 0 14 [(0, .ref (B.1 + 0)), (1, .int (nI h)), (2, .int (nI a)), (3, .int (nI b)), (4, .int (nI v))] [.int (b2 al)] := by
    intro al hal
    refine y_istore hg dX0_doThing_14 (by decide) (lv1 := [(0, _), (1, _), (2, _), (3, _), (4, _), (5, _)]) rfl ?_
    refine y_iload_n hg dX0_doThing_16 rfl ?_
    have hcase : (h = 0 ∨ 7 < h) ∨ h = 1 ∨ h = 2 ∨ h = 3 ∨ h = 4 ∨ h = 5 ∨ h = 6 ∨ h = 7 := by omega
    rcases hcase with ho | rfl | rfl | rfl | rfl | rfl | rfl | rfl
    · rw [djo A f ho] at hr
      refine y_tsOut hg 450 dX0_doThing_17 ((by rw [nI_toInt (by omega)]; omega)) (by decide) ?_
      refine y_iconst (v := nI 0) hg dX0_doThing_450 rfl ?_
      refine y_zret hg hr rfl ⟨_, rfl, ?_⟩ dX0_doThing_451 (Nat.le_refl _) (Nat.le_refl _)
      exact ⟨rfl, hT⟩
    · rw [dj1] at hr
      have NO : ¬ (a < 8 ∧ b = 0 ∧ v = 0 ∧ ¬ bagS f = nI 12) → YY g 12 σ 0 0 88 [(0, .ref (B.1 + 0)), (1, .int (nI 1)), (2, .int (nI a)), (3, .int (nI b)), (4, .int (nI v)), (5, .int (b2 al))] [] := by
        intro z
        rw [if_neg z] at hr
        refine y_iconst (v := nI 0) hg dX0_doThing_88 rfl ?_
        refine y_istore hg dX0_doThing_89 (by decide) (lv1 := [(0, _), (1, _), (2, _), (3, _), (4, _), (5, _), (6, _)]) rfl ?_
        refine y_aload_n hg dX0_doThing_91 rfl ?_
        refine y_getr (j := 3) hg cf0 (hL.x) (by decide) rfl (hL.r_trial) q175 dX0_doThing_92 ?_
        refine y_getrN (j := 0) hg cf1 (hL.s_trial.o) (by decide) rfl (hL.s_trial.r_bag) nf0 dX0_doThing_95 ?_
        refine y_iload hg dX0_doThing_98 rfl ?_
        refine y_if_eq hg 107 dX0_doThing_100 (by decide) (fun _ => ?_) (fun hF => absurd (rfl) hF)
        refine y_iconst (v := nI 0) hg dX0_doThing_107 rfl ?_
        refine y_dup2 hg dX0_doThing_108 rfl rfl ?_
        refine y_iald hg _ (hL.s_trial.k_bag) rfl (by omega) dX0_doThing_109 ?_
        refine y_ti (hT.bag (by omega)) ?_
        refine y_iload hg dX0_doThing_110 rfl ?_
        refine y_if_eq hg 119 dX0_doThing_112 (by decide) (fun _ => ?_) (fun hF => absurd (rfl) hF)
        refine y_iconst (v := nI 0) hg dX0_doThing_119 rfl ?_
        refine y_iadd hg dX0_doThing_120 ?_
        refine y_ti (add_0 _) ?_
        refine y_iast hg _ (hL.s_trial.k_bag) rfl (by omega) dX0_doThing_121 ?_
        refine y_iload hg dX0_doThing_122 rfl ?_
        refine y_zret hg hr rfl ⟨_, rfl, ?_⟩ dX0_doThing_124 (Nat.le_refl _) (Nat.le_refl _)
        refine ⟨rfl, ?_⟩
        have q := hT.stB hW (x := 0) (v := f 0) (by omega)
        rw [upf_id] at q
        exact q
      refine y_tsIn hg 60 dX0_doThing_17 (by decide) (by decide) rfl (by decide) ?_
      refine y_iload_n hg dX0_doThing_60 rfl ?_
      refine y_cSi hg (cX_isLetter _) iX0_isLetter q467 rfl rfl (by simp [Value.category]) (Nat.le_refl _) (Nat.le_refl _) (by decide) dX0_doThing_61 (fun r σ1 hp => ?_)
      obtain ⟨rfl, rfl⟩ := hp
      rw [isL_n (n := 7) (by omega) (by decide) rfl]
      refine y_if_eq hg 88 dX0_doThing_64 (by decide) (fun hc => ?_) (fun hc => ?_)
      · exact NO (fun z => b2F hc (decide_eq_true (by omega)))
      have h1 := of_decide_eq_true (b2T hc)
      refine y_iload hg dX0_doThing_67 rfl ?_
      refine y_if_eq hg 88 dX0_doThing_69 (by decide) (fun hc1 => ?_) (fun hc1 => ?_)
      · exact NO (fun z => b2F hc1 (by rw [hal]; exact decide_eq_true ⟨z.2.1, z.2.2.1⟩))
      have h2 := of_decide_eq_true (hal.symm.trans (b2T hc1))
      refine y_aload_n hg dX0_doThing_72 rfl ?_
      refine y_getr (j := 3) hg cf0 (hL.x) (by decide) rfl (hL.r_trial) q175 dX0_doThing_73 ?_
      refine y_cVi hg (cX_tbag hT) iX1_size q332 (hL.s_trial.o) cf1 rfl rfl (by simp [Value.category]) (Nat.le_refl _) (Nat.le_refl _) (by decide) dX0_doThing_76 (fun r σ1 hp => ?_)
      obtain ⟨rfl, rfl⟩ := hp
      rw [bagS_nI hf.1]
      refine y_bipush (v := nI 12) hg dX0_doThing_79 rfl ?_
      refine y_icmp_ge hg 88 dX0_doThing_81 (by decide) (fun hc2 => ?_) (fun hc2 => ?_)
      · exact NO (fun z => z.2.2.2 (by rw [bagS_nI hf.1]; have := (nI_leI (by omega) (by have := hf.2.1; omega)).mp hc2; rw [show sm (bg f) 8 = 12 by have := hf.2.1; omega]))
      · have hs : ¬ bagS f = nI 12 := fun z => hc2 (by rw [← bagS_nI hf.1, z]; exact nI_le (Nat.le_refl _) (by decide))
        rw [if_pos ⟨by omega, h2.1, h2.2, hs⟩] at hr
        refine y_iconst (v := nI 1) hg dX0_doThing_84 rfl ?_
        refine y_goto hg 89 dX0_doThing_85 (by decide) ?_
        refine y_istore hg dX0_doThing_89 (by decide) (lv1 := [(0, _), (1, _), (2, _), (3, _), (4, _), (5, _), (6, _)]) rfl ?_
        refine y_aload_n hg dX0_doThing_91 rfl ?_
        refine y_getr (j := 3) hg cf0 (hL.x) (by decide) rfl (hL.r_trial) q175 dX0_doThing_92 ?_
        refine y_getrN (j := 0) hg cf1 (hL.s_trial.o) (by decide) rfl (hL.s_trial.r_bag) nf0 dX0_doThing_95 ?_
        refine y_iload hg dX0_doThing_98 rfl ?_
        refine y_if_eq hg 107 dX0_doThing_100 (by decide) (fun hT => absurd hT ((by decide))) (fun _ => ?_)
        refine y_iload_n hg dX0_doThing_103 rfl ?_
        refine y_goto hg 108 dX0_doThing_104 (by decide) ?_
        refine y_dup2 hg dX0_doThing_108 rfl rfl ?_
        refine y_iald hg _ (hL.s_trial.k_bag) rfl (by omega) dX0_doThing_109 ?_
        refine y_ti (hT.bag (by omega)) ?_
        refine y_iload hg dX0_doThing_110 rfl ?_
        refine y_if_eq hg 119 dX0_doThing_112 (by decide) (fun hT => absurd hT ((by decide))) (fun _ => ?_)
        refine y_iconst (v := nI 1) hg dX0_doThing_115 rfl ?_
        refine y_goto hg 120 dX0_doThing_116 (by decide) ?_
        refine y_iadd hg dX0_doThing_120 ?_
        refine y_iast hg _ (hL.s_trial.k_bag) rfl (by omega) dX0_doThing_121 ?_
        refine y_iload hg dX0_doThing_122 rfl ?_
        refine y_zret hg hr rfl ⟨_, rfl, ?_⟩ dX0_doThing_124 (Nat.le_refl _) (Nat.le_refl _)
        exact ⟨rfl, hT.stB hW (by omega)⟩
    · rw [dj2] at hr
      have NO : ¬ (a < 8 ∧ b = 0 ∧ v = 0 ∧ ¬ f a = 0) → YY g 12 σ 0 0 153 [(0, .ref (B.1 + 0)), (1, .int (nI 2)), (2, .int (nI a)), (3, .int (nI b)), (4, .int (nI v)), (5, .int (b2 al))] [] := by
        intro z
        rw [if_neg z] at hr
        refine y_iconst (v := nI 0) hg dX0_doThing_153 rfl ?_
        refine y_istore hg dX0_doThing_154 (by decide) (lv1 := [(0, _), (1, _), (2, _), (3, _), (4, _), (5, _), (7, _)]) rfl ?_
        refine y_aload_n hg dX0_doThing_156 rfl ?_
        refine y_getr (j := 3) hg cf0 (hL.x) (by decide) rfl (hL.r_trial) q175 dX0_doThing_157 ?_
        refine y_getrN (j := 0) hg cf1 (hL.s_trial.o) (by decide) rfl (hL.s_trial.r_bag) nf0 dX0_doThing_160 ?_
        refine y_iload hg dX0_doThing_163 rfl ?_
        refine y_if_eq hg 172 dX0_doThing_165 (by decide) (fun _ => ?_) (fun hF => absurd (rfl) hF)
        refine y_iconst (v := nI 0) hg dX0_doThing_172 rfl ?_
        refine y_dup2 hg dX0_doThing_173 rfl rfl ?_
        refine y_iald hg _ (hL.s_trial.k_bag) rfl (by omega) dX0_doThing_174 ?_
        refine y_ti (hT.bag (by omega)) ?_
        refine y_iload hg dX0_doThing_175 rfl ?_
        refine y_if_eq hg 184 dX0_doThing_177 (by decide) (fun _ => ?_) (fun hF => absurd (rfl) hF)
        refine y_iconst (v := nI 0) hg dX0_doThing_184 rfl ?_
        refine y_isub hg dX0_doThing_185 ?_
        refine y_ti (sub_0 _) ?_
        refine y_iast hg _ (hL.s_trial.k_bag) rfl (by omega) dX0_doThing_186 ?_
        refine y_iload hg dX0_doThing_187 rfl ?_
        refine y_zret hg hr rfl ⟨_, rfl, ?_⟩ dX0_doThing_189 (Nat.le_refl _) (Nat.le_refl _)
        refine ⟨rfl, ?_⟩
        have q := hT.stB hW (x := 0) (v := f 0) (by omega)
        rw [upf_id] at q
        exact q
      refine y_tsIn hg 125 dX0_doThing_17 (by decide) (by decide) rfl (by decide) ?_
      refine y_iload_n hg dX0_doThing_125 rfl ?_
      refine y_cSi hg (cX_isLetter _) iX0_isLetter q467 rfl rfl (by simp [Value.category]) (Nat.le_refl _) (Nat.le_refl _) (by decide) dX0_doThing_126 (fun r σ1 hp => ?_)
      obtain ⟨rfl, rfl⟩ := hp
      rw [isL_n (n := 7) (by omega) (by decide) rfl]
      refine y_if_eq hg 153 dX0_doThing_129 (by decide) (fun hc => ?_) (fun hc => ?_)
      · exact NO (fun z => b2F hc (decide_eq_true (by omega)))
      have h1 := of_decide_eq_true (b2T hc)
      refine y_iload hg dX0_doThing_132 rfl ?_
      refine y_if_eq hg 153 dX0_doThing_134 (by decide) (fun hc1 => ?_) (fun hc1 => ?_)
      · exact NO (fun z => b2F hc1 (by rw [hal]; exact decide_eq_true ⟨z.2.1, z.2.2.1⟩))
      have h2 := of_decide_eq_true (hal.symm.trans (b2T hc1))
      have hfa := hf.1 a (by omega)
      have hba := hf.bagle (x := a) (by omega)
      refine y_aload_n hg dX0_doThing_137 rfl ?_
      refine y_getr (j := 3) hg cf0 (hL.x) (by decide) rfl (hL.r_trial) q175 dX0_doThing_138 ?_
      refine y_getrN (j := 0) hg cf1 (hL.s_trial.o) (by decide) rfl (hL.s_trial.r_bag) nf0 dX0_doThing_141 ?_
      refine y_iload_n hg dX0_doThing_144 rfl ?_
      refine y_iald hg _ (hL.s_trial.k_bag) rfl (by omega) dX0_doThing_145 ?_
      refine y_ti (hT.bag (by omega)) ?_
      refine y_if_le hg 153 dX0_doThing_146 (by decide) (fun hc2 => ?_) (fun hc2 => ?_)
      · exact NO (fun z => z.2.2.2 (by rw [hfa] at hc2 ⊢; have := (nI_leI (b := 0) (by omega) (by decide)).mp hc2; rw [show bg f a = 0 by omega]; rfl))
      · have hs : ¬ f a = 0 := fun z => hc2 (by rw [z]; decide)
        rw [if_pos ⟨by omega, h2.1, h2.2, hs⟩] at hr
        refine y_iconst (v := nI 1) hg dX0_doThing_149 rfl ?_
        refine y_goto hg 154 dX0_doThing_150 (by decide) ?_
        refine y_istore hg dX0_doThing_154 (by decide) (lv1 := [(0, _), (1, _), (2, _), (3, _), (4, _), (5, _), (7, _)]) rfl ?_
        refine y_aload_n hg dX0_doThing_156 rfl ?_
        refine y_getr (j := 3) hg cf0 (hL.x) (by decide) rfl (hL.r_trial) q175 dX0_doThing_157 ?_
        refine y_getrN (j := 0) hg cf1 (hL.s_trial.o) (by decide) rfl (hL.s_trial.r_bag) nf0 dX0_doThing_160 ?_
        refine y_iload hg dX0_doThing_163 rfl ?_
        refine y_if_eq hg 172 dX0_doThing_165 (by decide) (fun hT => absurd hT ((by decide))) (fun _ => ?_)
        refine y_iload_n hg dX0_doThing_168 rfl ?_
        refine y_goto hg 173 dX0_doThing_169 (by decide) ?_
        refine y_dup2 hg dX0_doThing_173 rfl rfl ?_
        refine y_iald hg _ (hL.s_trial.k_bag) rfl (by omega) dX0_doThing_174 ?_
        refine y_ti (hT.bag (by omega)) ?_
        refine y_iload hg dX0_doThing_175 rfl ?_
        refine y_if_eq hg 184 dX0_doThing_177 (by decide) (fun hT => absurd hT ((by decide))) (fun _ => ?_)
        refine y_iconst (v := nI 1) hg dX0_doThing_180 rfl ?_
        refine y_goto hg 185 dX0_doThing_181 (by decide) ?_
        refine y_isub hg dX0_doThing_185 ?_
        refine y_iast hg _ (hL.s_trial.k_bag) rfl (by omega) dX0_doThing_186 ?_
        refine y_iload hg dX0_doThing_187 rfl ?_
        refine y_zret hg hr rfl ⟨_, rfl, ?_⟩ dX0_doThing_189 (Nat.le_refl _) (Nat.le_refl _)
        exact ⟨rfl, hT.stB hW (by omega)⟩
    · rw [dj3] at hr
      have NO : ¬ (a < nm A ∧ b = 0 ∧ v = 0) → YY g 12 σ 0 0 207 [(0, .ref (B.1 + 0)), (1, .int (nI 3)), (2, .int (nI a)), (3, .int (nI b)), (4, .int (nI v)), (5, .int (b2 al))] [] := by
        intro z
        rw [if_neg z] at hr
        refine y_iconst (v := nI 0) hg dX0_doThing_207 rfl ?_
        refine y_istore hg dX0_doThing_208 (by decide) (lv1 := [(0, _), (1, _), (2, _), (3, _), (4, _), (5, _), (8, _)]) rfl ?_
        refine y_aload_n hg dX0_doThing_210 rfl ?_
        refine y_getr (j := 3) hg cf0 (hL.x) (by decide) rfl (hL.r_trial) q175 dX0_doThing_211 ?_
        refine y_dup hg dX0_doThing_214 rfl ?_
        refine y_getiN (j := 1) hg cf1 (hL.s_trial.o) (by decide) rfl nf1 dX0_doThing_215 ?_
        refine y_ti (hT.barred) ?_
        refine y_iload hg dX0_doThing_218 rfl ?_
        refine y_if_eq hg 229 dX0_doThing_220 (by decide) (fun _ => ?_) (fun hF => absurd (rfl) hF)
        refine y_iconst (v := nI 0) hg dX0_doThing_229 rfl ?_
        refine y_ixor hg dX0_doThing_230 ?_
        refine y_ti (xor_0 _) ?_
        refine y_putiN (j := 1) hg cf1 (hL.s_trial.o) (by decide) rfl rfl nf1 dX0_doThing_231 ?_
        refine y_iload hg dX0_doThing_234 rfl ?_
        refine y_zret hg hr rfl ⟨_, rfl, ?_⟩ dX0_doThing_236 (Nat.le_refl _) (Nat.le_refl _)
        refine ⟨rfl, ?_⟩
        have q := hT.stS hW (v := f 8)
        rw [upf_id] at q
        exact q
      refine y_tsIn hg 190 dX0_doThing_17 (by decide) (by decide) rfl (by decide) ?_
      refine y_aload_n hg dX0_doThing_190 rfl ?_
      refine y_iload_n hg dX0_doThing_191 rfl ?_
      refine y_cVi hg (cX_isW hW hT.1.1 _) iX0_isWord q440 (hL.x) cf0 rfl rfl (by simp [Value.category]) (Nat.le_refl _) (Nat.le_refl _) (by decide) dX0_doThing_192 (fun r σ1 hp => ?_)
      obtain ⟨rfl, rfl⟩ := hp
      rw [isW_n (by omega) hm]
      refine y_if_eq hg 207 dX0_doThing_195 (by decide) (fun hc => ?_) (fun hc => ?_)
      · exact NO (fun z => b2F hc (decide_eq_true z.1))
      have h1 := of_decide_eq_true (b2T hc)
      refine y_iload hg dX0_doThing_198 rfl ?_
      refine y_if_eq hg 207 dX0_doThing_200 (by decide) (fun hc1 => ?_) (fun hc1 => ?_)
      · exact NO (fun z => b2F hc1 (by rw [hal]; exact decide_eq_true ⟨z.2.1, z.2.2⟩))
      have h2 := of_decide_eq_true (hal.symm.trans (b2T hc1))
      rw [if_pos ⟨h1, h2.1, h2.2⟩] at hr
      refine y_iconst (v := nI 1) hg dX0_doThing_203 rfl ?_
      refine y_goto hg 208 dX0_doThing_204 (by decide) ?_
      refine y_istore hg dX0_doThing_208 (by decide) (lv1 := [(0, _), (1, _), (2, _), (3, _), (4, _), (5, _), (8, _)]) rfl ?_
      refine y_aload_n hg dX0_doThing_210 rfl ?_
      refine y_getr (j := 3) hg cf0 (hL.x) (by decide) rfl (hL.r_trial) q175 dX0_doThing_211 ?_
      refine y_dup hg dX0_doThing_214 rfl ?_
      refine y_getiN (j := 1) hg cf1 (hL.s_trial.o) (by decide) rfl nf1 dX0_doThing_215 ?_
      refine y_ti (hT.barred) ?_
      refine y_iload hg dX0_doThing_218 rfl ?_
      refine y_if_eq hg 229 dX0_doThing_220 (by decide) (fun hT => absurd hT ((by decide))) (fun _ => ?_)
      refine y_iconst (v := nI 1) hg dX0_doThing_223 rfl ?_
      refine y_iload_n hg dX0_doThing_224 rfl ?_
      refine y_ishl hg dX0_doThing_225 ?_
      refine y_goto hg 230 dX0_doThing_226 (by decide) ?_
      refine y_ixor hg dX0_doThing_230 ?_
      refine y_putiN (j := 1) hg cf1 (hL.s_trial.o) (by decide) rfl rfl nf1 dX0_doThing_231 ?_
      refine y_iload hg dX0_doThing_234 rfl ?_
      refine y_zret hg hr rfl ⟨_, rfl, ?_⟩ dX0_doThing_236 (Nat.le_refl _) (Nat.le_refl _)
      exact ⟨rfl, hT.stS hW⟩
    · rw [dj4] at hr
      have J : ∀ (t : Mem) (w : Int32), TX B A sd σ0 t f → w = b2 (decide (a = 0 ∧ tot (pb A f (uN f)) = 10 * b + v)) → YY g 12 t 0 0 266 [(0, .ref (B.1 + 0)), (1, .int (nI 4)), (2, .int (nI a)), (3, .int (nI b)), (4, .int (nI v)), (5, .int (b2 al))] [.int w] := by
        intro t w ht2 hw
        subst hw
        refine y_zret hg hr (nz_b2 _) ⟨_, rfl, ?_⟩ dX0_doThing_266 (Nat.le_refl _) (Nat.le_refl _)
        exact ⟨rfl, ht2⟩
      refine y_tsIn hg 237 dX0_doThing_17 (by decide) (by decide) rfl (by decide) ?_
      refine y_aload_n hg dX0_doThing_237 rfl ?_
      refine y_cVv hg (cX_lookTrial hW hT hf) iX0_lookTrial q826 (hL.x) cf0 rfl rfl (by simp [Value.category]) (Nat.le_refl _) (Nat.le_refl _) (by decide) dX0_doThing_238 (fun σ2 hp => ?_)
      obtain ⟨q1, q2, q3, hT2⟩ := hp
      have hL := hT2.1.1.1
      refine y_iload_n hg dX0_doThing_241 rfl ?_
      refine y_if_ne hg 265 dX0_doThing_242 (by decide) (fun hc => ?_) (fun hc => ?_)
      · rw [nz (by omega)] at hc
        refine y_iconst (v := nI 0) hg dX0_doThing_265 rfl ?_
        exact J _ _ hT2 (by rw [decide_eq_false (fun z => hc z.1)]; rfl)
      rw [nz (by omega)] at hc
      refine y_aload_n hg dX0_doThing_245 rfl ?_
      refine y_cVl hg (cX_countAll hP q1 q2) iX0_countAll q404 (hL.x) cf0 rfl rfl (by simp [Value.category]) (Nat.le_refl _) (Nat.le_refl _) (by decide) dX0_doThing_246 (fun r σ3 hp => ?_)
      obtain ⟨rfl, hf3, hC3⟩ := hp
      have hT3 := hT2.go hW hf3.1 (fun a j z => by unfold XE; omega) (by rw [hf3.2]) (by rw [hf3.2])
      refine y_bipush (v := nI 10) hg dX0_doThing_249 rfl ?_
      refine y_iload_n hg dX0_doThing_251 rfl ?_
      refine y_imul hg dX0_doThing_252 ?_
      refine y_ti (pk_mul _ _) ?_
      refine y_iload hg dX0_doThing_253 rfl ?_
      refine y_iadd hg dX0_doThing_255 ?_
      refine y_ti (nI_add _ _) ?_
      refine y_i2l hg dX0_doThing_256 ?_
      refine y_tl (nI_l (by omega)) ?_
      refine y_lc_ne hg 265 dX0_doThing_257 dX0_doThing_258 (by decide) (fun hc2 => ?_) (fun hc2 => ?_)
      · refine y_iconst (v := nI 0) hg dX0_doThing_265 rfl ?_
        exact J _ _ hT3 (by rw [decide_eq_false (fun z => hc2 (by rw [z.2]))]; rfl)
      · refine y_iconst (v := nI 1) hg dX0_doThing_261 rfl ?_
        refine y_goto hg 266 dX0_doThing_262 (by decide) ?_
        exact J _ _ hT3 (by rw [decide_eq_true ⟨hc, (pk_lEQ (by omega) (by omega)).mp hc2⟩]; rfl)
    · rw [dj5] at hr
      have hP2 : WFP (pb A f (uWo f a)) := hP
      have ht2 := tot_b hP2
      have J : ∀ (t : Mem) (w : Int32) (y : Int64), TX B A sd σ0 t f → w = b2 (decide (a < nm A ∧ b = 0 ∧ v < 2 ∧ (tot (pb A f (uWo f a)) < tot (pb A f (uN f)) ↔ v = 1))) → YY g 12 t 0 0 359 [(0, .ref (B.1 + 0)), (1, .int (nI 5)), (2, .int (nI a)), (3, .int (nI b)), (4, .int (nI v)), (5, .int (b2 al)), (9, .long y)] [.int w] := by
        intro t w y ht2 hw
        subst hw
        refine y_zret hg hr (nz_b2 _) ⟨_, rfl, ?_⟩ dX0_doThing_359 (Nat.le_refl _) (Nat.le_refl _)
        exact ⟨rfl, ht2⟩
      have BAD : ¬ (a < nm A ∧ b = 0 ∧ v < 2) → YY g 12 σ 0 0 285 [(0, .ref (B.1 + 0)), (1, .int (nI 5)), (2, .int (nI a)), (3, .int (nI b)), (4, .int (nI v)), (5, .int (b2 al))] [] := by
        intro z
        refine y_iconst (v := nI 0) hg dX0_doThing_285 rfl ?_
        refine y_zret hg hr rfl ⟨_, rfl, ?_⟩ dX0_doThing_286 (Nat.le_refl _) (Nat.le_refl _)
        exact ⟨by rw [decide_eq_false (fun q => z ⟨q.1, q.2.1, q.2.2.1⟩)]; rfl, hT⟩
      have K : ∀ (t : Mem) (y : Int64) (p q : Bool), a < nm A → b = 0 → v < 2 → TX B A sd σ0 t f → (p = decide (tot (pb A f (uWo f a)) < tot (pb A f (uN f)))) → q = decide (v = 1) → YY g 12 t 0 0 351 [(0, .ref (B.1 + 0)), (1, .int (nI 5)), (2, .int (nI a)), (3, .int (nI b)), (4, .int (nI v)), (5, .int (b2 al)), (9, .long y)] [.int (b2 q), .int (b2 p)] := by
        intro t y p q h1 hc1 hv2 ht2 hp hq
        refine y_icmp_ne hg 358 dX0_doThing_351 (by decide) (fun hc4 => ?_) (fun hc4 => ?_)
        · refine y_iconst (v := nI 0) hg dX0_doThing_358 rfl ?_
          have nz4 : ¬ (a < nm A ∧ b = 0 ∧ v < 2 ∧ (tot (pb A f (uWo f a)) < tot (pb A f (uN f)) ↔ v = 1)) := by
            intro z
            apply hc4
            rw [hp, hq, b2_inj, decide_eq_decide]
            exact z.2.2.2
          exact J _ _ _ ht2 (by rw [decide_eq_false nz4]; rfl)
        · refine y_iconst (v := nI 1) hg dX0_doThing_354 rfl ?_
          refine y_goto hg 359 dX0_doThing_355 (by decide) ?_
          rw [hp, hq, b2_inj, decide_eq_decide] at hc4
          exact J _ _ _ ht2 (by rw [decide_eq_true ⟨h1, hc1, hv2, hc4⟩]; rfl)
      have K1 : ∀ (t : Mem) (y : Int64) (p : Bool), a < nm A → b = 0 → v < 2 → TX B A sd σ0 t f → (p = decide (tot (pb A f (uWo f a)) < tot (pb A f (uN f)))) → YY g 12 t 0 0 340 [(0, .ref (B.1 + 0)), (1, .int (nI 5)), (2, .int (nI a)), (3, .int (nI b)), (4, .int (nI v)), (5, .int (b2 al)), (9, .long y)] [.int (b2 p)] := by
        intro t y p h1 hc1 hv2 ht2 hp
        refine y_iload hg dX0_doThing_340 rfl ?_
        refine y_iconst (v := nI 1) hg dX0_doThing_342 rfl ?_
        refine y_icmp_ne hg 350 dX0_doThing_343 (by decide) (fun hc4 => ?_) (fun hc4 => ?_)
        · refine y_iconst (v := nI 0) hg dX0_doThing_350 rfl ?_
          exact K _ _ p false h1 hc1 hv2 ht2 hp (decide_eq_false (fun z => hc4 (by rw [z]))).symm
        · refine y_iconst (v := nI 1) hg dX0_doThing_346 rfl ?_
          refine y_goto hg 351 dX0_doThing_347 (by decide) ?_
          exact K _ _ p true h1 hc1 hv2 ht2 hp (decide_eq_true (nI_inj (by omega) (by decide) hc4)).symm
      have GO : a < nm A → b = 0 → v < 2 → YY g 12 σ 0 0 287 [(0, .ref (B.1 + 0)), (1, .int (nI 5)), (2, .int (nI a)), (3, .int (nI b)), (4, .int (nI v)), (5, .int (b2 al))] [] := by
        intro h1 hc1 hv2
        refine y_aload_n hg dX0_doThing_287 rfl ?_
        refine y_cVv hg (cX_lookTrial hW hT hf) iX0_lookTrial q826 (hL.x) cf0 rfl rfl (by simp [Value.category]) (Nat.le_refl _) (Nat.le_refl _) (by decide) dX0_doThing_288 (fun σ2 hp => ?_)
        obtain ⟨q1, q2, q3, hT2⟩ := hp
        have hL := hT2.1.1.1
        refine y_aload_n hg dX0_doThing_291 rfl ?_
        refine y_cVl hg (cX_countAll hP q1 q2) iX0_countAll q404 (hL.x) cf0 rfl rfl (by simp [Value.category]) (Nat.le_refl _) (Nat.le_refl _) (by decide) dX0_doThing_292 (fun r σ3 hp => ?_)
        obtain ⟨rfl, hf3, hC3⟩ := hp
        refine y_lstore hg dX0_doThing_295 (by decide) (lv1 := [(0, _), (1, _), (2, _), (3, _), (4, _), (5, _), (9, _)]) rfl ?_
        have hT3 := hT2.go hW hf3.1 (fun a j z => by unfold XE; omega) (by rw [hf3.2]) (by rw [hf3.2])
        have hL := hT3.1.1.1
        have em := hT3.1.1.many.trans hW.1.1
        refine y_aload_n hg dX0_doThing_297 rfl ?_
        refine y_aload_n hg dX0_doThing_298 rfl ?_
        refine y_getr (j := 3) hg cf0 (hL.x) (by decide) rfl (hL.r_trial) q175 dX0_doThing_299 ?_
        refine y_aload_n hg dX0_doThing_302 rfl ?_
        refine y_cVi hg (cX_all hL) iX0_all q372 (hL.x) cf0 rfl rfl (by simp [Value.category]) (Nat.le_refl _) (Nat.le_refl _) (by decide) dX0_doThing_303 (fun r σ4 hp => ?_)
        obtain ⟨rfl, rfl⟩ := hp
        refine y_aload_n hg dX0_doThing_306 rfl ?_
        refine y_getr (j := 3) hg cf0 (hL.x) (by decide) rfl (hL.r_trial) q175 dX0_doThing_307 ?_
        refine y_getiN (j := 1) hg cf1 (hL.s_trial.o) (by decide) rfl nf1 dX0_doThing_310 ?_
        refine y_ti (hT3.barred) ?_
        refine y_iconst (v := -1) hg dX0_doThing_313 rfl ?_
        refine y_ixor hg dX0_doThing_314 ?_
        refine y_iand hg dX0_doThing_315 ?_
        refine y_iconst (v := nI 1) hg dX0_doThing_316 rfl ?_
        refine y_iload_n hg dX0_doThing_317 rfl ?_
        refine y_ishl hg dX0_doThing_318 ?_
        refine y_iconst (v := -1) hg dX0_doThing_319 rfl ?_
        refine y_ixor hg dX0_doThing_320 ?_
        refine y_iand hg dX0_doThing_321 ?_
        refine y_cVv hg (cX_look (P := pb A f (uWo f a)) hL hL.s_trial (Or.inr rfl) hP2 (hT3.1.1.wx hW) hT3.2 (fun w hw => by rw [em]; exact u_but hm hw h1)) iX0_look_2 q376 (hL.x) cf0 rfl rfl (by simp [Value.category]) (Nat.le_refl _) (Nat.le_refl _) (by decide) dX0_doThing_322 (fun σ5 hp => ?_)
        obtain ⟨p1, p2, p3, p4, p5, p6⟩ := hp
        have hT5 := hT3.go hW p4 (fun a j z => by unfold LkP at z; unfold XE; omega) p5 p6
        have hL := hT5.1.1.1
        refine y_aload_n hg dX0_doThing_325 rfl ?_
        refine y_cVl hg (cX_countAll hP2 p1 p2) iX0_countAll q404 (hL.x) cf0 rfl rfl (by simp [Value.category]) (Nat.le_refl _) (Nat.le_refl _) (by decide) dX0_doThing_326 (fun r σ6 hp => ?_)
        obtain ⟨rfl, hf6, hC6⟩ := hp
        have hT6 := hT5.go hW hf6.1 (fun a j z => by unfold XE; omega) (by rw [hf6.2]) (by rw [hf6.2])
        refine y_lload hg dX0_doThing_329 rfl ?_
        refine y_lc_ge hg 339 dX0_doThing_331 dX0_doThing_332 (by decide) (fun hc => ?_) (fun hc => ?_)
        · refine y_iconst (v := nI 0) hg dX0_doThing_339 rfl ?_
          have := (pk_lLE (by omega) (by omega)).mp hc
          exact K1 _ _ false h1 hc1 hv2 hT6 (decide_eq_false (by omega)).symm
        · refine y_iconst (v := nI 1) hg dX0_doThing_335 rfl ?_
          refine y_goto hg 340 dX0_doThing_336 (by decide) ?_
          have q : ¬ tot (pb A f (uN f)) ≤ tot (pb A f (uWo f a)) := fun z => hc ((pk_lLE (by omega) (by omega)).mpr z)
          exact K1 _ _ true h1 hc1 hv2 hT6 (decide_eq_true (by omega)).symm
      refine y_tsIn hg 267 dX0_doThing_17 (by decide) (by decide) rfl (by decide) ?_
      refine y_aload_n hg dX0_doThing_267 rfl ?_
      refine y_iload_n hg dX0_doThing_268 rfl ?_
      refine y_cVi hg (cX_isW hW hT.1.1 _) iX0_isWord q440 (hL.x) cf0 rfl rfl (by simp [Value.category]) (Nat.le_refl _) (Nat.le_refl _) (by decide) dX0_doThing_269 (fun r σ1 hp => ?_)
      obtain ⟨rfl, rfl⟩ := hp
      rw [isW_n (by omega) hm]
      refine y_if_eq hg 285 dX0_doThing_272 (by decide) (fun hc => ?_) (fun hc => ?_)
      · exact BAD (fun z => b2F hc (decide_eq_true z.1))
      have h1 := of_decide_eq_true (b2T hc)
      refine y_iload_n hg dX0_doThing_275 rfl ?_
      refine y_if_ne hg 285 dX0_doThing_276 (by decide) (fun hc1 => ?_) (fun hc1 => ?_)
      · exact BAD (fun z => hc1 (by rw [z.2.1]; rfl))
      rw [nz (by omega)] at hc1
      refine y_iload hg dX0_doThing_279 rfl ?_
      refine y_iconst (v := nI 1) hg dX0_doThing_281 rfl ?_
      refine y_icmp_le hg 287 dX0_doThing_282 (by decide) (fun hc2 => ?_) (fun hc2 => ?_)
      · have := (nI_leI (by omega) (by decide)).mp hc2
        exact GO h1 hc1 (by omega)
      · exact BAD (fun z => hc2 (nI_le (by omega) (by decide)))
    · rw [dj6] at hr
      have NO : ¬ (a < 4 ∧ b < 4 ∧ v = 0) → YY g 12 σ 0 0 383 [(0, .ref (B.1 + 0)), (1, .int (nI 6)), (2, .int (nI a)), (3, .int (nI b)), (4, .int (nI v)), (5, .int (b2 al))] [] := by
        intro z
        rw [if_neg z] at hr
        refine y_iconst (v := nI 0) hg dX0_doThing_383 rfl ?_
        refine y_istore hg dX0_doThing_384 (by decide) (lv1 := [(0, _), (1, _), (2, _), (3, _), (4, _), (5, _), (11, _)]) rfl ?_
        refine y_aload_n hg dX0_doThing_386 rfl ?_
        refine y_getr (j := 3) hg cf0 (hL.x) (by decide) rfl (hL.r_trial) q175 dX0_doThing_387 ?_
        refine y_getrN (j := 5) hg cf1 (hL.s_trial.o) (by decide) rfl (hL.s_trial.r_follows) nf5 dX0_doThing_390 ?_
        refine y_iload hg dX0_doThing_393 rfl ?_
        refine y_if_eq hg 402 dX0_doThing_395 (by decide) (fun _ => ?_) (fun hF => absurd (rfl) hF)
        refine y_iconst (v := nI 0) hg dX0_doThing_402 rfl ?_
        refine y_dup2 hg dX0_doThing_403 rfl rfl ?_
        refine y_iald hg _ (hL.s_trial.k_follows) rfl (by omega) dX0_doThing_404 ?_
        refine y_ti (hT.follows (by omega)) ?_
        refine y_iload hg dX0_doThing_405 rfl ?_
        refine y_if_eq hg 416 dX0_doThing_407 (by decide) (fun _ => ?_) (fun hF => absurd (rfl) hF)
        refine y_iconst (v := nI 0) hg dX0_doThing_416 rfl ?_
        refine y_ixor hg dX0_doThing_417 ?_
        refine y_ti (xor_0 _) ?_
        refine y_iast hg _ (hL.s_trial.k_follows) rfl (by omega) dX0_doThing_418 ?_
        refine y_iload hg dX0_doThing_419 rfl ?_
        refine y_zret hg hr rfl ⟨_, rfl, ?_⟩ dX0_doThing_421 (Nat.le_refl _) (Nat.le_refl _)
        refine ⟨rfl, ?_⟩
        have q := hT.stF hW (k := 0) (v := f (21 + 0)) (by omega)
        rw [upf_id] at q
        exact q
      refine y_tsIn hg 360 dX0_doThing_17 (by decide) (by decide) rfl (by decide) ?_
      refine y_iload_n hg dX0_doThing_360 rfl ?_
      refine y_cSi hg (cX_isKind _) iX0_isKind q471 rfl rfl (by simp [Value.category]) (Nat.le_refl _) (Nat.le_refl _) (by decide) dX0_doThing_361 (fun r σ1 hp => ?_)
      obtain ⟨rfl, rfl⟩ := hp
      rw [isL_n (n := 3) (by omega) (by decide) rfl]
      refine y_if_eq hg 383 dX0_doThing_364 (by decide) (fun hc => ?_) (fun hc => ?_)
      · exact NO (fun z => b2F hc (decide_eq_true (by omega)))
      have h1 := of_decide_eq_true (b2T hc)
      refine y_iload_n hg dX0_doThing_367 rfl ?_
      refine y_cSi hg (cX_isKind _) iX0_isKind q471 rfl rfl (by simp [Value.category]) (Nat.le_refl _) (Nat.le_refl _) (by decide) dX0_doThing_368 (fun r σ1 hp => ?_)
      obtain ⟨rfl, rfl⟩ := hp
      rw [isL_n (n := 3) (by omega) (by decide) rfl]
      refine y_if_eq hg 383 dX0_doThing_371 (by decide) (fun hc1 => ?_) (fun hc1 => ?_)
      · exact NO (fun z => b2F hc1 (decide_eq_true (by omega)))
      have h2 := of_decide_eq_true (b2T hc1)
      refine y_iload hg dX0_doThing_374 rfl ?_
      refine y_if_ne hg 383 dX0_doThing_376 (by decide) (fun hc2 => ?_) (fun hc2 => ?_)
      · exact NO (fun z => hc2 (by rw [z.2.2]; rfl))
      rw [nz (by omega)] at hc2
      rw [if_pos ⟨by omega, by omega, hc2⟩] at hr
      refine y_iconst (v := nI 1) hg dX0_doThing_379 rfl ?_
      refine y_goto hg 384 dX0_doThing_380 (by decide) ?_
      refine y_istore hg dX0_doThing_384 (by decide) (lv1 := [(0, _), (1, _), (2, _), (3, _), (4, _), (5, _), (11, _)]) rfl ?_
      refine y_aload_n hg dX0_doThing_386 rfl ?_
      refine y_getr (j := 3) hg cf0 (hL.x) (by decide) rfl (hL.r_trial) q175 dX0_doThing_387 ?_
      refine y_getrN (j := 5) hg cf1 (hL.s_trial.o) (by decide) rfl (hL.s_trial.r_follows) nf5 dX0_doThing_390 ?_
      refine y_iload hg dX0_doThing_393 rfl ?_
      refine y_if_eq hg 402 dX0_doThing_395 (by decide) (fun hT => absurd hT ((by decide))) (fun _ => ?_)
      refine y_iload_n hg dX0_doThing_398 rfl ?_
      refine y_goto hg 403 dX0_doThing_399 (by decide) ?_
      refine y_dup2 hg dX0_doThing_403 rfl rfl ?_
      refine y_iald hg _ (hL.s_trial.k_follows) rfl (by omega) dX0_doThing_404 ?_
      refine y_ti (hT.follows (by omega)) ?_
      refine y_iload hg dX0_doThing_405 rfl ?_
      refine y_if_eq hg 416 dX0_doThing_407 (by decide) (fun hT => absurd hT ((by decide))) (fun _ => ?_)
      refine y_iconst (v := nI 1) hg dX0_doThing_410 rfl ?_
      refine y_iload_n hg dX0_doThing_411 rfl ?_
      refine y_ishl hg dX0_doThing_412 ?_
      refine y_goto hg 417 dX0_doThing_413 (by decide) ?_
      refine y_ixor hg dX0_doThing_417 ?_
      refine y_iast hg _ (hL.s_trial.k_follows) rfl (by omega) dX0_doThing_418 ?_
      refine y_iload hg dX0_doThing_419 rfl ?_
      refine y_zret hg hr rfl ⟨_, rfl, ?_⟩ dX0_doThing_421 (Nat.le_refl _) (Nat.le_refl _)
      exact ⟨rfl, hT.stF hW (by omega)⟩
    · rw [dj7] at hr
      have J : ∀ (t : Mem) (w : Int32), TX B A sd σ0 t f → w = b2 (decide (a = 0 ∧ bw (pb A f (uN f)) = nI (10 * b + v))) → YY g 12 t 0 0 449 [(0, .ref (B.1 + 0)), (1, .int (nI 7)), (2, .int (nI a)), (3, .int (nI b)), (4, .int (nI v)), (5, .int (b2 al))] [.int w] := by
        intro t w ht2 hw
        subst hw
        refine y_zret hg hr (nz_b2 _) ⟨_, rfl, ?_⟩ dX0_doThing_449 (Nat.le_refl _) (Nat.le_refl _)
        exact ⟨rfl, ht2⟩
      refine y_tsIn hg 422 dX0_doThing_17 (by decide) (by decide) rfl (by decide) ?_
      refine y_aload_n hg dX0_doThing_422 rfl ?_
      refine y_cVv hg (cX_lookTrial hW hT hf) iX0_lookTrial q826 (hL.x) cf0 rfl rfl (by simp [Value.category]) (Nat.le_refl _) (Nat.le_refl _) (by decide) dX0_doThing_423 (fun σ2 hp => ?_)
      obtain ⟨q1, q2, q3, hT2⟩ := hp
      have hL := hT2.1.1.1
      refine y_iload_n hg dX0_doThing_426 rfl ?_
      refine y_if_ne hg 448 dX0_doThing_427 (by decide) (fun hc => ?_) (fun hc => ?_)
      · rw [nz (by omega)] at hc
        refine y_iconst (v := nI 0) hg dX0_doThing_448 rfl ?_
        exact J _ _ hT2 (by rw [decide_eq_false (fun z => hc z.1)]; rfl)
      rw [nz (by omega)] at hc
      refine y_aload_n hg dX0_doThing_430 rfl ?_
      refine y_cVi hg (cX_layBest hP (pb_r hW hf) h12 q1 q3.w) iX0_layBest q526 (hL.x) cf0 rfl rfl (by simp [Value.category]) (Nat.le_refl _) (Nat.le_refl _) (by decide) dX0_doThing_431 (fun r σ3 hp => ?_)
      obtain ⟨rfl, hf3, hC3, hF⟩ := hp
      have hT3 := hT2.go hW hf3.1 (fun a j z => by unfold BP at z; unfold XE; omega) (by rw [hf3.2]) (by rw [hf3.2])
      refine y_bipush (v := nI 10) hg dX0_doThing_434 rfl ?_
      refine y_iload_n hg dX0_doThing_436 rfl ?_
      refine y_imul hg dX0_doThing_437 ?_
      refine y_ti (pk_mul _ _) ?_
      refine y_iload hg dX0_doThing_438 rfl ?_
      refine y_iadd hg dX0_doThing_440 ?_
      refine y_ti (nI_add _ _) ?_
      refine y_icmp_ne hg 448 dX0_doThing_441 (by decide) (fun hc2 => ?_) (fun hc2 => ?_)
      · refine y_iconst (v := nI 0) hg dX0_doThing_448 rfl ?_
        exact J _ _ hT3 (by rw [decide_eq_false (fun z => hc2 z.2)]; rfl)
      · refine y_iconst (v := nI 1) hg dX0_doThing_444 rfl ?_
        refine y_goto hg 449 dX0_doThing_445 (by decide) ?_
        exact J _ _ hT3 (by rw [decide_eq_true ⟨hc, hc2⟩]; rfl)
  refine y_iload_n hg dX0_doThing_0 rfl ?_
  refine y_if_ne hg 13 dX0_doThing_1 (by decide) (fun hc => ?_) (fun hc => ?_)
  · refine y_iconst (v := nI 0) hg dX0_doThing_13 rfl ?_
    exact ST false (decide_eq_false (fun z => hc (by rw [z.1]; rfl))).symm
  rw [nz (by omega)] at hc
  refine y_iload hg dX0_doThing_4 rfl ?_
  refine y_if_ne hg 13 dX0_doThing_6 (by decide) (fun hc1 => ?_) (fun hc1 => ?_)
  · refine y_iconst (v := nI 0) hg dX0_doThing_13 rfl ?_
    exact ST false (decide_eq_false (fun z => hc1 (by rw [z.2]; rfl))).symm
  · rw [nz (by omega)] at hc1
    refine y_iconst (v := nI 1) hg dX0_doThing_9 rfl ?_
    refine y_goto hg 14 dX0_doThing_10 (by decide) ?_
    exact ST true (decide_eq_true ⟨hc, hc1⟩).symm
end DoThing

