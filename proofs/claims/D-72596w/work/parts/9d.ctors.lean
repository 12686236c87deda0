/-! ===== the constructors ===== -/
section Ctors
variable {l : Launch} {B : Bs} {σ : Mem}
set_option maxHeartbeats 2000000 in
theorem cX_ctor (h0 : InO 0 0 σ 1 0) : MT l B 4 156 38211 yX0_init cX0_init 2 none [.ref (B.1 + 0)] σ (pV fun σ' => σ'.2.1 = 157 ∧ LX B σ' ∧ LyR B σ' 16 17 ∧ Zr σ' 0 157) := by
  refine MT.of (by decide) (Nat.le_of_ble_eq_true rfl) (fun g hg hr => ?_)
  refine y_aload_n hg dX0_init_0 rfl ?_
  refine y_objInit hg q107 dX0_init_1 (by decide) (by decide) ?_
  generalize σ = s0 at h0 ⊢
  refine y_aload_n hg dX0_init_4 rfl ?_
  refine y_bipush (v := nI 10) hg dX0_init_5 rfl ?_
  refine y_anew3 hg 10 rfl (by omega) q110 (by omega) (by omega) dX0_init_7 ?_
  refine mk_arr h0 (by decide) (by decide) (by decide) (fun s1 hk k => y_putrF (j := 0) hg cf0 hk (by decide) rfl rfl hr rfl q172 dX0_init_10 k) (fun s1 (h1 : InO 0 0 s1 2 1) m0 k_words r_words => ?_)
  show YY g 2 s1 1 10 13 [(0, .ref (B.1 + 0))] []
  refine y_aload_n hg dX0_init_13 rfl ?_
  refine y_newS hg (by omega) (by omega) (by decide) (by show 1 ≤ 7; decide) dX0_init_14 dX0_init_17 dX0_init_18 (fun t1 q1m => ?_)
  refine mk_set h1 q1m (by decide) (by decide) (by decide) (by decide) (fun s1 hk k => y_putrF (j := 2) hg cf0 hk (by decide) rfl rfl hr rfl q174 dX0_init_21 k) (fun s2 (h2 : InO 0 0 s2 6 3) m1 k_now r_now => ?_)
  show YY g 2 s2 5 38 24 [(0, .ref (B.1 + 0))] []
  refine y_aload_n hg dX0_init_24 rfl ?_
  refine y_newS hg (by omega) (by omega) (by decide) (by show 1 ≤ 7; decide) dX0_init_25 dX0_init_28 dX0_init_29 (fun t2 q2m => ?_)
  refine mk_set h2 q2m (by decide) (by decide) (by decide) (by decide) (fun s1 hk k => y_putrF (j := 3) hg cf0 hk (by decide) rfl rfl hr rfl q175 dX0_init_32 k) (fun s3 (h3 : InO 0 0 s3 10 4) m2 k_trial r_trial => ?_)
  show YY g 2 s3 9 66 35 [(0, .ref (B.1 + 0))] []
  refine y_aload_n hg dX0_init_35 rfl ?_
  refine y_aload_n hg dX0_init_36 rfl ?_
  refine y_getr (j := 2) hg cf0 h3.2.1 (by decide) rfl (m2.r h2.2.1.2 r_now) q174 dX0_init_37 ?_
  refine mk_ref h3 (by decide) (by decide) (fun s1 hk k => y_putr (j := 4) hg cf0 hk (by decide) rfl rfl q176 dX0_init_40 k) (fun s4 (h4 : InO 0 0 s4 10 5) m3 => ?_)
  show YY g 2 s4 9 66 43 [(0, .ref (B.1 + 0))] []
  refine y_aload_n hg dX0_init_43 rfl ?_
  refine y_bipush (v := nI 8) hg dX0_init_44 rfl ?_
  refine y_newa0 hg 8 rfl (by omega) (by omega) (by omega) dX0_init_46 ?_
  refine mk_arr h4 (by decide) (by decide) (by decide) (fun s1 hk k => y_putrF (j := 6) hg cf0 hk (by decide) rfl rfl hr rfl q178 dX0_init_48 k) (fun s5 (h5 : InO 0 0 s5 11 7) m4 k_base r_base => ?_)
  show YY g 2 s5 10 74 51 [(0, .ref (B.1 + 0))] []
  refine y_aload_n hg dX0_init_51 rfl ?_
  refine y_bipush (v := nI 8) hg dX0_init_52 rfl ?_
  refine y_newa0 hg 8 rfl (by omega) (by omega) (by omega) dX0_init_54 ?_
  refine mk_arr h5 (by decide) (by decide) (by decide) (fun s1 hk k => y_putrF (j := 7) hg cf0 hk (by decide) rfl rfl hr rfl q179 dX0_init_56 k) (fun s6 (h6 : InO 0 0 s6 12 8) m5 k_rest r_rest => ?_)
  show YY g 2 s6 11 82 59 [(0, .ref (B.1 + 0))] []
  refine y_aload_n hg dX0_init_59 rfl ?_
  refine y_sipush (v := nI 10000) hg dX0_init_60 rfl ?_
  refine y_newa1 hg 10000 rfl (by omega) (by omega) (by omega) dX0_init_63 ?_
  refine mk_arr h6 (by decide) (by decide) (by decide) (fun s1 hk k => y_putrF (j := 8) hg cf0 hk (by decide) rfl rfl hr rfl q180 dX0_init_65 k) (fun s7 (h7 : InO 0 0 s7 13 9) m6 k_counts r_counts => ?_)
  show YY g 2 s7 12 10082 68 [(0, .ref (B.1 + 0))] []
  refine y_aload_n hg dX0_init_68 rfl ?_
  refine y_sipush (v := nI 10000) hg dX0_init_69 rfl ?_
  refine y_newa0 hg 10000 rfl (by omega) (by omega) (by omega) dX0_init_72 ?_
  refine mk_arr h7 (by decide) (by decide) (by decide) (fun s1 hk k => y_putrF (j := 9) hg cf0 hk (by decide) rfl rfl hr rfl q181 dX0_init_74 k) (fun s8 (h8 : InO 0 0 s8 14 10) m7 k_worths r_worths => ?_)
  show YY g 2 s8 13 20082 77 [(0, .ref (B.1 + 0))] []
  refine y_aload_n hg dX0_init_77 rfl ?_
  refine y_bipush (v := nI 10) hg dX0_init_78 rfl ?_
  refine y_newa0 hg 10 rfl (by omega) (by omega) (by omega) dX0_init_80 ?_
  refine mk_arr h8 (by decide) (by decide) (by decide) (fun s1 hk k => y_putrF (j := 10) hg cf0 hk (by decide) rfl rfl hr rfl q182 dX0_init_82 k) (fun s9 (h9 : InO 0 0 s9 15 11) m8 k_steps r_steps => ?_)
  show YY g 2 s9 14 20092 85 [(0, .ref (B.1 + 0))] []
  refine y_aload_n hg dX0_init_85 rfl ?_
  refine y_bipush (v := nI 13) hg dX0_init_86 rfl ?_
  refine y_newa0 hg 13 rfl (by omega) (by omega) (by omega) dX0_init_88 ?_
  refine mk_arr h9 (by decide) (by decide) (by decide) (fun s1 hk k => y_putrF (j := 12) hg cf0 hk (by decide) rfl rfl hr rfl q184 dX0_init_90 k) (fun s10 (h10 : InO 0 0 s10 16 13) m9 k_found r_found => ?_)
  show YY g 2 s10 15 20105 93 [(0, .ref (B.1 + 0))] []
  refine y_aload_n hg dX0_init_93 rfl ?_
  refine y_sipush (v := nI 8000) hg dX0_init_94 rfl ?_
  refine y_newa1 hg 8000 rfl (by omega) (by omega) (by omega) dX0_init_97 ?_
  refine mk_arr h10 (by decide) (by decide) (by decide) (fun s1 hk k => y_putr (j := 14) hg cf0 hk (by decide) rfl rfl q186 dX0_init_99 k) (fun s11 (h11 : InO 0 0 s11 17 15) m10 k_layer r_layer => ?_)
  show YY g 2 s11 16 28105 102 [(0, .ref (B.1 + 0))] []
  refine y_aload_n hg dX0_init_102 rfl ?_
  refine y_sipush (v := nI 8000) hg dX0_init_103 rfl ?_
  refine y_newa1 hg 8000 rfl (by omega) (by omega) (by omega) dX0_init_106 ?_
  refine mk_arr h11 (by decide) (by decide) (by decide) (fun s1 hk k => y_putr (j := 15) hg cf0 hk (by decide) rfl rfl q187 dX0_init_108 k) (fun s12 (h12 : InO 0 0 s12 18 16) m11 k_nextLayer r_nextLayer => ?_)
  show YY g 2 s12 17 36105 111 [(0, .ref (B.1 + 0))] []
  refine y_aload_n hg dX0_init_111 rfl ?_
  refine y_sipush (v := nI 180) hg dX0_init_112 rfl ?_
  refine y_newa0 hg 180 rfl (by omega) (by omega) (by omega) dX0_init_115 ?_
  refine mk_arr h12 (by decide) (by decide) (by decide) (fun s1 hk k => y_putrF (j := 16) hg cf0 hk (by decide) rfl rfl hr rfl q188 dX0_init_117 k) (fun s13 (h13 : InO 0 0 s13 19 17) m12 k_text r_text => ?_)
  show YY g 2 s13 18 36285 120 [(0, .ref (B.1 + 0))] []
  refine y_aload_n hg dX0_init_120 rfl ?_
  refine y_bipush (v := nI 10) hg dX0_init_121 rfl ?_
  refine y_anew3 hg 10 rfl (by omega) q110 (by omega) (by omega) dX0_init_123 ?_
  refine mk_arr h13 (by decide) (by decide) (by decide) (fun s1 hk k => y_putrF (j := 20) hg cf0 hk (by decide) rfl rfl hr rfl q192 dX0_init_126 k) (fun s14 (h14 : InO 0 0 s14 20 21) m13 k_readWords r_readWords => ?_)
  show YY g 2 s14 19 36295 129 [(0, .ref (B.1 + 0))] []
  refine y_aload_n hg dX0_init_129 rfl ?_
  refine y_newS hg (by omega) (by omega) (by decide) (by show 1 ≤ 7; decide) dX0_init_130 dX0_init_133 dX0_init_134 (fun t14 q14m => ?_)
  refine mk_set h14 q14m (by decide) (by decide) (by decide) (by decide) (fun s1 hk k => y_putrF (j := 21) hg cf0 hk (by decide) rfl rfl hr rfl q193 dX0_init_137 k) (fun s15 (h15 : InO 0 0 s15 24 22) m14 k_read r_read => ?_)
  show YY g 2 s15 23 36323 140 [(0, .ref (B.1 + 0))] []
  refine y_aload_n hg dX0_init_140 rfl ?_
  refine y_bipush (v := nI 14) hg dX0_init_141 rfl ?_
  refine y_callS (As := [.int (nI 14)]) (rest := [.ref (B.1 + 0)]) hg (cX_settings (n := 14) (by decide)) iX0_settings q144 rfl rfl (by show 1 ≤ 8; decide) (by omega) (by omega) (by decide) dX0_init_143 (fun v t15 q15m => ?_)
  obtain ⟨r, rfl, rfl, q15m⟩ := q15m
  refine mk_row h15 q15m (by decide) (by decide) (by decide) (fun s1 hk k => y_putrF (j := 24) hg cf0 hk (by decide) rfl rfl hr rfl q196 dX0_init_146 k) (fun s16 (h16 : InO 0 0 s16 81 25) m15 k_before r_before a_before => ?_)
  show YY g 2 s16 80 36729 149 [(0, .ref (B.1 + 0))] []
  refine y_aload_n hg dX0_init_149 rfl ?_
  refine y_bipush (v := nI 12) hg dX0_init_150 rfl ?_
  refine y_newa0 hg 12 rfl (by omega) (by omega) (by omega) dX0_init_152 ?_
  refine mk_arr h16 (by decide) (by decide) (by decide) (fun s1 hk k => y_putrF (j := 25) hg cf0 hk (by decide) rfl rfl hr rfl q197 dX0_init_154 k) (fun s17 (h17 : InO 0 0 s17 82 26) m16 k_row r_row => ?_)
  show YY g 2 s17 81 36741 157 [(0, .ref (B.1 + 0))] []
  refine y_aload_n hg dX0_init_157 rfl ?_
  refine y_bipush (v := nI 8) hg dX0_init_158 rfl ?_
  refine y_newa0 hg 8 rfl (by omega) (by omega) (by omega) dX0_init_160 ?_
  refine mk_arr h17 (by decide) (by decide) (by decide) (fun s1 hk k => y_putrF (j := 27) hg cf0 hk (by decide) rfl rfl hr rfl q199 dX0_init_162 k) (fun s18 (h18 : InO 0 0 s18 83 28) m17 k_left r_left => ?_)
  show YY g 2 s18 82 36749 165 [(0, .ref (B.1 + 0))] []
  refine y_aload_n hg dX0_init_165 rfl ?_
  refine y_bipush (v := nI 6) hg dX0_init_166 rfl ?_
  refine y_newa0 hg 6 rfl (by omega) (by omega) (by omega) dX0_init_168 ?_
  refine mk_arr h18 (by decide) (by decide) (by decide) (fun s1 hk k => y_putrF (j := 29) hg cf0 hk (by decide) rfl rfl hr rfl q201 dX0_init_170 k) (fun s19 (h19 : InO 0 0 s19 84 30) m18 k_seenWhat r_seenWhat => ?_)
  show YY g 2 s19 83 36755 173 [(0, .ref (B.1 + 0))] []
  refine y_aload_n hg dX0_init_173 rfl ?_
  refine y_bipush (v := nI 6) hg dX0_init_174 rfl ?_
  refine y_newa0 hg 6 rfl (by omega) (by omega) (by omega) dX0_init_176 ?_
  refine mk_arr h19 (by decide) (by decide) (by decide) (fun s1 hk k => y_putrF (j := 30) hg cf0 hk (by decide) rfl rfl hr rfl q202 dX0_init_178 k) (fun s20 (h20 : InO 0 0 s20 85 31) m19 k_seenOf r_seenOf => ?_)
  show YY g 2 s20 84 36761 181 [(0, .ref (B.1 + 0))] []
  refine y_aload_n hg dX0_init_181 rfl ?_
  refine y_bipush (v := nI 6) hg dX0_init_182 rfl ?_
  refine y_newa0 hg 6 rfl (by omega) (by omega) (by omega) dX0_init_184 ?_
  refine mk_arr h20 (by decide) (by decide) (by decide) (fun s1 hk k => y_putrF (j := 31) hg cf0 hk (by decide) rfl rfl hr rfl q203 dX0_init_186 k) (fun s21 (h21 : InO 0 0 s21 86 32) m20 k_seenWas r_seenWas => ?_)
  show YY g 2 s21 85 36767 189 [(0, .ref (B.1 + 0))] []
  refine y_aload_n hg dX0_init_189 rfl ?_
  refine y_sipush (v := nI 1024) hg dX0_init_190 rfl ?_
  refine y_newa1 hg 1024 rfl (by omega) (by omega) (by omega) dX0_init_193 ?_
  refine mk_arr h21 (by decide) (by decide) (by decide) (fun s1 hk k => y_putrF (j := 32) hg cf0 hk (by decide) rfl rfl hr rfl q204 dX0_init_195 k) (fun s22 (h22 : InO 0 0 s22 87 33) m21 k_worth r_worth => ?_)
  show YY g 2 s22 86 37791 198 [(0, .ref (B.1 + 0))] []
  refine y_aload_n hg dX0_init_198 rfl ?_
  refine y_iconst (v := nI 2) hg dX0_init_199 rfl ?_
  refine y_newa2 hg 2 rfl (by omega) (by omega) (by omega) dX0_init_200 ?_
  refine mk_arr h22 (by decide) (by decide) (by decide) (fun s1 hk k => y_putrF (j := 34) hg cf0 hk (by decide) rfl rfl hr rfl q206 dX0_init_202 k) (fun s23 (h23 : InO 0 0 s23 88 35) m22 k_isKept r_isKept => ?_)
  show YY g 2 s23 87 37793 205 [(0, .ref (B.1 + 0))] []
  refine y_aload_n hg dX0_init_205 rfl ?_
  refine y_iconst (v := nI 2) hg dX0_init_206 rfl ?_
  refine y_callS (As := [.int (nI 2)]) (rest := [.ref (B.1 + 0)]) hg (cX_settings (n := 2) (by decide)) iX0_settings q144 rfl rfl (by show 1 ≤ 8; decide) (by omega) (by omega) (by decide) dX0_init_207 (fun v t23 q23m => ?_)
  obtain ⟨r, rfl, rfl, q23m⟩ := q23m
  refine mk_row h23 q23m (by decide) (by decide) (by decide) (fun s1 hk k => y_putrF (j := 35) hg cf0 hk (by decide) rfl rfl hr rfl q207 dX0_init_210 k) (fun s24 (h24 : InO 0 0 s24 97 36) m23 k_kept r_kept a_kept => ?_)
  show YY g 2 s24 96 37851 213 [(0, .ref (B.1 + 0))] []
  have t24 : Mono s24 s24 := Mono.rf
  have t23 : Mono s23 s24 := m23.tr t24
  have t22 : Mono s22 s24 := m22.tr t23
  have t21 : Mono s21 s24 := m21.tr t22
  have t20 : Mono s20 s24 := m20.tr t21
  have t19 : Mono s19 s24 := m19.tr t20
  have t18 : Mono s18 s24 := m18.tr t19
  have t17 : Mono s17 s24 := m17.tr t18
  have t16 : Mono s16 s24 := m16.tr t17
  have t15 : Mono s15 s24 := m15.tr t16
  have t14 : Mono s14 s24 := m14.tr t15
  have t13 : Mono s13 s24 := m13.tr t14
  have t12 : Mono s12 s24 := m12.tr t13
  have t11 : Mono s11 s24 := m11.tr t12
  have t10 : Mono s10 s24 := m10.tr t11
  have t9 : Mono s9 s24 := m9.tr t10
  have t8 : Mono s8 s24 := m8.tr t9
  have t7 : Mono s7 s24 := m7.tr t8
  have t6 : Mono s6 s24 := m6.tr t7
  have t5 : Mono s5 s24 := m5.tr t6
  have t4 : Mono s4 s24 := m4.tr t5
  have t3 : Mono s3 s24 := m3.tr t4
  have t2 : Mono s2 s24 := m2.tr t3
  have t1 : Mono s1 s24 := m1.tr t2
  have kw := t1.ka k_words
  have rw_ := t1.r h1.2.1.2 r_words
  have kr := t14.ka k_readWords
  have rr := t14.r h14.2.1.2 r_readWords
  refine y_iconst (v := nI 0) hg dX0_init_213 rfl ?_
  refine y_istore_n hg dX0_init_214 (by decide) (lv1 := [(0, .ref (B.1 + 0)), (1, .int (nI 0))]) rfl ?_
  refine (loop_st (S := Mem) (G := fun i s => YY g 2 s (96 + 6 * i) (37851 + 36 * i) 215 [(0, .ref (B.1 + 0)), (1, .int (nI i))] []) (I := fun i s => Mono s24 s ∧ s.2.1 = 97 + 6 * i ∧ (∀ w, w < i → s.2.2.2.2 1 w = some (B.1 + (97 + 6 * w)) ∧ IsW B s (97 + 6 * w)) ∧ (∀ w, w < i → s.2.2.2.2 19 w = some (B.1 + (100 + 6 * w)) ∧ IsW B s (100 + 6 * w)) ∧ (∀ j, i ≤ j → s.2.2.2.2 1 j = none ∧ s.2.2.2.2 19 j = none) ∧ Zr s 0 (97 + 6 * i)) 10 (fun i s hi hI ih => ?_) (fun s hI => ?_) 0 _ (by omega) ⟨Mono.rf, h24.1, fun w hw => by omega, fun w hw => by omega, fun j _ => ⟨h24.2.2.2.1 1 j (Or.inl rfl) (by decide) (by decide), h24.2.2.2.1 19 j (Or.inr rfl) (by decide) (by decide)⟩, h24.2.2.2.2⟩)
  · obtain ⟨i1, i2, i3, i4, i5, i6⟩ := hI
    have hko := i1.ko h24.2.1
    refine y_iload_n hg dX0_init_215 rfl ?_
    refine y_bipush (v := nI 10) hg dX0_init_216 rfl ?_
    refine y_icmp_ge hg 253 dX0_init_218 (by decide) (fun hT => absurd hT (nI_ge hi (by omega))) (fun _ => ?_)
    refine y_aload_n hg dX0_init_221 rfl ?_
    refine y_getr (j := 0) hg cf0 hko (by decide) rfl (i1.r h24.2.1.2 rw_) q172 dX0_init_222 ?_
    refine y_iload_n hg dX0_init_225 rfl ?_
    refine y_newW hg (by omega) (by omega) (by decide) (by show 2 ≤ 7; decide) dX0_init_226 dX0_init_229 dX0_init_230 (fun u1 hm => ?_)
    obtain ⟨m1, n1, w1, z1⟩ := hm
    rw [i2] at n1 w1 z1
    rw [i2]
    refine y_aast3 hg i (m1.mono.ka (i1.ka kw)) rfl hi w1.o dX0_init_233 ?_
    have x1 : u1.2.2.2.2 1 i = none := by rw [(m1.2 1 (by omega)).2.2.2]; exact (i5 i (Nat.le_refl _)).1
    have x19 : ∀ j, i ≤ j → u1.2.2.2.2 19 j = none := fun j hj => by rw [(m1.2 19 (by omega)).2.2.2]; exact (i5 j hj).2
    have x1' : ∀ j, i ≤ j → u1.2.2.2.2 1 j = none := fun j hj => by rw [(m1.2 1 (by omega)).2.2.2]; exact (i5 j hj).1
    have o1 : Mono u1 (setR u1 1 i (some (B.1 + (97 + 6 * i)))) := Mono.sR x1
    have zz1 : Zr (setR u1 1 i (some (B.1 + (97 + 6 * i)))) 0 (97 + 6 * i + 3) := (i6.nw (by omega) m1).app z1
    have e1 : (setR u1 1 i (some (B.1 + (97 + 6 * i)))).2.2.2.2 1 i = some (B.1 + (97 + 6 * i)) := up2_s
    have e1' : ∀ j, i + 1 ≤ j → (setR u1 1 i (some (B.1 + (97 + 6 * i)))).2.2.2.2 1 j = none := fun j hj => (gR_n (by omega)).trans (x1' j (by omega))
    have e19 : ∀ j, i ≤ j → (setR u1 1 i (some (B.1 + (97 + 6 * i)))).2.2.2.2 19 j = none := fun j hj => (gR_n (by omega)).trans (x19 j hj)
    have y2 : (setR u1 1 i (some (B.1 + (97 + 6 * i)))).2.1 = 97 + 6 * i + 3 := n1
    have O1 := m1.mono.tr o1
    have W1 := o1.w w1
    generalize setR u1 1 i (some (B.1 + (97 + 6 * i))) = u2 at o1 zz1 e1 e1' e19 y2 O1 W1 ⊢
    refine y_aload_n hg dX0_init_234 rfl ?_
    refine y_getr (j := 20) hg cf0 (O1.ko hko) (by decide) rfl (O1.r hko.2 (i1.r h24.2.1.2 rr)) q192 dX0_init_235 ?_
    refine y_iload_n hg dX0_init_238 rfl ?_
    refine y_newW hg (by omega) (by omega) (by decide) (by show 2 ≤ 7; decide) dX0_init_239 dX0_init_242 dX0_init_243 (fun u3 hm => ?_)
    obtain ⟨m3, n3, w3, z3⟩ := hm
    rw [y2] at n3 w3 z3
    rw [y2]
    refine y_aast3 hg i (m3.mono.ka (O1.ka (i1.ka kr))) rfl hi w3.o dX0_init_246 ?_
    refine y_iinc hg dX0_init_247 rfl (inc1 _) (by decide) (lv1 := [(0, .ref (B.1 + 0)), (1, .int (nI (i + 1)))]) rfl ?_
    refine y_goto hg 215 dX0_init_250 (by decide) ?_
    have f19 : ∀ j, i ≤ j → u3.2.2.2.2 19 j = none := fun j hj => by rw [(m3.2 19 (by omega)).2.2.2]; exact e19 j hj
    have f1 : ∀ j, i + 1 ≤ j → u3.2.2.2.2 1 j = none := fun j hj => by rw [(m3.2 1 (by omega)).2.2.2]; exact e1' j hj
    have o3 : Mono u3 (setR u3 19 i (some (B.1 + (97 + 6 * i + 3)))) := Mono.sR (f19 i (Nat.le_refl _))
    have O3 := O1.tr (m3.mono.tr o3)
    have q := ih (setR u3 19 i (some (B.1 + (97 + 6 * i + 3)))) ⟨i1.tr O3, by show u3.2.1 = _; omega, fun w hw => ?_, fun w hw => ?_, fun j hj => ⟨(gR_n (by omega)).trans (f1 j hj), (gR_n (by omega)).trans (f19 j (by omega))⟩, ?_⟩
    · rw [show 96 + 6 * (i + 1) = 96 + 6 * i + 3 + 3 by omega, show 37851 + 36 * (i + 1) = 37851 + 36 * i + 18 + 18 by omega] at q
      exact q
    · by_cases e : w = i
      · subst e; exact ⟨o3.r (by omega) (m3.mono.r (by omega) e1), o3.w (m3.mono.w W1)⟩
      · obtain ⟨a, b⟩ := i3 w (by omega)
        exact ⟨O3.r (by omega) a, O3.w b⟩
    · by_cases e : w = i
      · subst e
        rw [show 100 + 6 * w = 97 + 6 * w + 3 by omega]
        exact ⟨up2_s, o3.w w3⟩
      · obtain ⟨a, b⟩ := i4 w (by omega)
        exact ⟨O3.r (by omega) a, O3.w b⟩
    · have z := (zz1.nw (by omega) m3).app z3
      rw [show 97 + 6 * (i + 1) = 97 + 6 * i + 3 + 3 by omega]
      exact z
  · obtain ⟨i1, i2, i3, i4, i5, i6⟩ := hI
    have hko := i1.ko h24.2.1
    refine y_iload_n hg dX0_init_215 rfl ?_
    refine y_bipush (v := nI 10) hg dX0_init_216 rfl ?_
    refine y_icmp_ge hg 253 dX0_init_218 (by decide) (fun _ => ?_) (fun hF => absurd (nI_le (Nat.le_refl _) (by omega)) hF)
    refine y_vret hg hr ⟨rfl, ?_⟩ dX0_init_253 (by omega) (by omega)
    refine ⟨i2, ⟨hko, i1.r h24.2.1.2 (t1.r h1.2.1.2 r_words), i1.ka (t1.ka k_words), i1.r h24.2.1.2 (t5.r h5.2.1.2 r_base), i1.ka (t5.ka k_base), i1.r h24.2.1.2 (t6.r h6.2.1.2 r_rest), i1.ka (t6.ka k_rest), i1.r h24.2.1.2 (t7.r h7.2.1.2 r_counts), i1.ka (t7.ka k_counts), i1.r h24.2.1.2 (t8.r h8.2.1.2 r_worths), i1.ka (t8.ka k_worths), i1.r h24.2.1.2 (t9.r h9.2.1.2 r_steps), i1.ka (t9.ka k_steps), i1.r h24.2.1.2 (t10.r h10.2.1.2 r_found), i1.ka (t10.ka k_found), i1.r h24.2.1.2 (t13.r h13.2.1.2 r_text), i1.ka (t13.ka k_text), i1.r h24.2.1.2 (t14.r h14.2.1.2 r_readWords), i1.ka (t14.ka k_readWords), i1.r h24.2.1.2 (t16.r h16.2.1.2 r_before), i1.ka (t16.ka k_before), i1.r h24.2.1.2 (t17.r h17.2.1.2 r_row), i1.ka (t17.ka k_row), i1.r h24.2.1.2 (t18.r h18.2.1.2 r_left), i1.ka (t18.ka k_left), i1.r h24.2.1.2 (t19.r h19.2.1.2 r_seenWhat), i1.ka (t19.ka k_seenWhat), i1.r h24.2.1.2 (t20.r h20.2.1.2 r_seenOf), i1.ka (t20.ka k_seenOf), i1.r h24.2.1.2 (t21.r h21.2.1.2 r_seenWas), i1.ka (t21.ka k_seenWas), i1.r h24.2.1.2 (t22.r h22.2.1.2 r_worth), i1.ka (t22.ka k_worth), i1.r h24.2.1.2 (t23.r h23.2.1.2 r_isKept), i1.ka (t23.ka k_isKept), i1.r h24.2.1.2 (t24.r h24.2.1.2 r_kept), i1.ka (t24.ka k_kept), i1.ka (t11.ka k_layer), i1.ka (t12.ka k_nextLayer), i1.r h24.2.1.2 (t2.r h2.2.1.2 r_now), i1.s (t2.s k_now), i1.r h24.2.1.2 (t3.r h3.2.1.2 r_trial), i1.s (t3.s k_trial), i1.r h24.2.1.2 (t15.r h15.2.1.2 r_read), i1.s (t15.s k_read), fun i hi => ⟨i1.r (Nat.lt_of_lt_of_le k_before.2.1 t16.1) (t16.r k_before.2.1 (a_before i hi).1), i1.s (t16.s (a_before i hi).2)⟩, fun i hi => ⟨i1.r (Nat.lt_of_lt_of_le k_kept.2.1 t24.1) (t24.r k_kept.2.1 (a_kept i hi).1), i1.s (t24.s (a_kept i hi).2)⟩, i3, i4⟩, ⟨Or.inl ⟨rfl, rfl⟩, i1.r h24.2.1.2 (t11.r h11.2.1.2 r_layer), i1.r h24.2.1.2 (t12.r h12.2.1.2 r_nextLayer)⟩, i6⟩
set_option maxHeartbeats 2000000 in
theorem cM_ctor (h0 : InO 157 3 σ 158 0) : MT l B 4 29 59567 yX3_init cX3_init 1 none [.ref (B.1 + 157)] σ (pV fun σ' => LM B σ' ∧ Mono σ σ' ∧ (∀ k j, k < 187 → σ'.2.2.1 k j = 0) ∧ σ'.2.2.2.1 0 33 = 0 ∧ σ'.2.2.2.1 157 20 = 0) := by
  refine MT.of (by decide) (Nat.le_of_ble_eq_true rfl) (fun g hg hr => ?_)
  refine y_aload_n hg dX3_init_0 rfl ?_
  refine y_objInit hg q907 dX3_init_1 (by decide) (by decide) ?_
  obtain ⟨s0, hs0⟩ : ∃ s0, s0 = σ := ⟨_, rfl⟩
  rw [← hs0] at h0 hr ⊢
  refine y_aload_n hg dX3_init_4 rfl ?_
  refine y_sipush (v := nI 180) hg dX3_init_5 rfl ?_
  refine y_newa0 hg 180 rfl (by omega) (by omega) (by omega) dX3_init_8 ?_
  refine mk_arr h0 (by decide) (by decide) (by decide) (fun s1 hk k => y_putrF (j := 0) hg cf3 hk (by decide) rfl rfl hr rfl q911 dX3_init_10 k) (fun s1 (h1 : InO 157 3 s1 159 1) m0 k_text r_text => ?_)
  show YY g 1 s1 1 180 13 [(0, .ref (B.1 + 157))] []
  refine y_aload_n hg dX3_init_13 rfl ?_
  refine y_bipush (v := nI 60) hg dX3_init_14 rfl ?_
  refine y_newa0 hg 60 rfl (by omega) (by omega) (by omega) dX3_init_16 ?_
  refine mk_arr h1 (by decide) (by decide) (by decide) (fun s1 hk k => y_putrF (j := 3) hg cf3 hk (by decide) rfl rfl hr rfl q914 dX3_init_18 k) (fun s2 (h2 : InO 157 3 s2 160 4) m1 k_spelt r_spelt => ?_)
  show YY g 1 s2 2 240 21 [(0, .ref (B.1 + 157))] []
  refine y_aload_n hg dX3_init_21 rfl ?_
  refine y_bipush (v := nI 10) hg dX3_init_22 rfl ?_
  refine y_newa0 hg 10 rfl (by omega) (by omega) (by omega) dX3_init_24 ?_
  refine mk_arr h2 (by decide) (by decide) (by decide) (fun s1 hk k => y_putrF (j := 4) hg cf3 hk (by decide) rfl rfl hr rfl q915 dX3_init_26 k) (fun s3 (h3 : InO 157 3 s3 161 5) m2 k_size r_size => ?_)
  show YY g 1 s3 3 250 29 [(0, .ref (B.1 + 157))] []
  refine y_aload_n hg dX3_init_29 rfl ?_
  refine y_bipush (v := nI 10) hg dX3_init_30 rfl ?_
  refine y_newa0 hg 10 rfl (by omega) (by omega) (by omega) dX3_init_32 ?_
  refine mk_arr h3 (by decide) (by decide) (by decide) (fun s1 hk k => y_putrF (j := 5) hg cf3 hk (by decide) rfl rfl hr rfl q916 dX3_init_34 k) (fun s4 (h4 : InO 157 3 s4 162 6) m3 k_kind r_kind => ?_)
  show YY g 1 s4 4 260 37 [(0, .ref (B.1 + 157))] []
  refine y_aload_n hg dX3_init_37 rfl ?_
  refine y_bipush (v := nI 80) hg dX3_init_38 rfl ?_
  refine y_newa0 hg 80 rfl (by omega) (by omega) (by omega) dX3_init_40 ?_
  refine mk_arr h4 (by decide) (by decide) (by decide) (fun s1 hk k => y_putrF (j := 6) hg cf3 hk (by decide) rfl rfl hr rfl q917 dX3_init_42 k) (fun s5 (h5 : InO 157 3 s5 163 7) m4 k_need r_need => ?_)
  show YY g 1 s5 5 340 45 [(0, .ref (B.1 + 157))] []
  refine y_aload_n hg dX3_init_45 rfl ?_
  refine y_bipush (v := nI 25) hg dX3_init_46 rfl ?_
  refine y_newa0 hg 25 rfl (by omega) (by omega) (by omega) dX3_init_48 ?_
  refine mk_arr h5 (by decide) (by decide) (by decide) (fun s1 hk k => y_putrF (j := 7) hg cf3 hk (by decide) rfl rfl hr rfl q918 dX3_init_50 k) (fun s6 (h6 : InO 157 3 s6 164 8) m5 k_now r_now => ?_)
  show YY g 1 s6 6 365 53 [(0, .ref (B.1 + 157))] []
  refine y_aload_n hg dX3_init_53 rfl ?_
  refine y_bipush (v := nI 25) hg dX3_init_54 rfl ?_
  refine y_newa0 hg 25 rfl (by omega) (by omega) (by omega) dX3_init_56 ?_
  refine mk_arr h6 (by decide) (by decide) (by decide) (fun s1 hk k => y_putrF (j := 8) hg cf3 hk (by decide) rfl rfl hr rfl q919 dX3_init_58 k) (fun s7 (h7 : InO 157 3 s7 165 9) m6 k_trial r_trial => ?_)
  show YY g 1 s7 7 390 61 [(0, .ref (B.1 + 157))] []
  refine y_aload_n hg dX3_init_61 rfl ?_
  refine y_sipush (v := nI 350) hg dX3_init_62 rfl ?_
  refine y_newa0 hg 350 rfl (by omega) (by omega) (by omega) dX3_init_65 ?_
  refine mk_arr h7 (by decide) (by decide) (by decide) (fun s1 hk k => y_putrF (j := 9) hg cf3 hk (by decide) rfl rfl hr rfl q920 dX3_init_67 k) (fun s8 (h8 : InO 157 3 s8 166 10) m7 k_diary r_diary => ?_)
  show YY g 1 s8 8 740 70 [(0, .ref (B.1 + 157))] []
  refine y_aload_n hg dX3_init_70 rfl ?_
  refine y_bipush (v := nI 50) hg dX3_init_71 rfl ?_
  refine y_newa0 hg 50 rfl (by omega) (by omega) (by omega) dX3_init_73 ?_
  refine mk_arr h8 (by decide) (by decide) (by decide) (fun s1 hk k => y_putrF (j := 12) hg cf3 hk (by decide) rfl rfl hr rfl q923 dX3_init_75 k) (fun s9 (h9 : InO 157 3 s9 167 13) m8 k_kept r_kept => ?_)
  show YY g 1 s9 9 790 78 [(0, .ref (B.1 + 157))] []
  refine y_aload_n hg dX3_init_78 rfl ?_
  refine y_iconst (v := nI 2) hg dX3_init_79 rfl ?_
  refine y_newa2 hg 2 rfl (by omega) (by omega) (by omega) dX3_init_80 ?_
  refine mk_arr h9 (by decide) (by decide) (by decide) (fun s1 hk k => y_putrF (j := 13) hg cf3 hk (by decide) rfl rfl hr rfl q924 dX3_init_82 k) (fun s10 (h10 : InO 157 3 s10 168 14) m9 k_isKept r_isKept => ?_)
  show YY g 1 s10 10 792 85 [(0, .ref (B.1 + 157))] []
  refine y_aload_n hg dX3_init_85 rfl ?_
  refine y_bipush (v := nI 12) hg dX3_init_86 rfl ?_
  refine y_newa0 hg 12 rfl (by omega) (by omega) (by omega) dX3_init_88 ?_
  refine mk_arr h10 (by decide) (by decide) (by decide) (fun s1 hk k => y_putrF (j := 14) hg cf3 hk (by decide) rfl rfl hr rfl q925 dX3_init_90 k) (fun s11 (h11 : InO 157 3 s11 169 15) m10 k_told r_told => ?_)
  show YY g 1 s11 11 804 93 [(0, .ref (B.1 + 157))] []
  refine y_aload_n hg dX3_init_93 rfl ?_
  refine y_bipush (v := nI 6) hg dX3_init_94 rfl ?_
  refine y_newa0 hg 6 rfl (by omega) (by omega) (by omega) dX3_init_96 ?_
  refine mk_arr h11 (by decide) (by decide) (by decide) (fun s1 hk k => y_putrF (j := 16) hg cf3 hk (by decide) rfl rfl hr rfl q927 dX3_init_98 k) (fun s12 (h12 : InO 157 3 s12 170 17) m11 k_seenWhat r_seenWhat => ?_)
  show YY g 1 s12 12 810 101 [(0, .ref (B.1 + 157))] []
  refine y_aload_n hg dX3_init_101 rfl ?_
  refine y_bipush (v := nI 6) hg dX3_init_102 rfl ?_
  refine y_newa0 hg 6 rfl (by omega) (by omega) (by omega) dX3_init_104 ?_
  refine mk_arr h12 (by decide) (by decide) (by decide) (fun s1 hk k => y_putrF (j := 17) hg cf3 hk (by decide) rfl rfl hr rfl q928 dX3_init_106 k) (fun s13 (h13 : InO 157 3 s13 171 18) m12 k_seenOf r_seenOf => ?_)
  show YY g 1 s13 13 816 109 [(0, .ref (B.1 + 157))] []
  refine y_aload_n hg dX3_init_109 rfl ?_
  refine y_bipush (v := nI 6) hg dX3_init_110 rfl ?_
  refine y_newa0 hg 6 rfl (by omega) (by omega) (by omega) dX3_init_112 ?_
  refine mk_arr h13 (by decide) (by decide) (by decide) (fun s1 hk k => y_putrF (j := 18) hg cf3 hk (by decide) rfl rfl hr rfl q929 dX3_init_114 k) (fun s14 (h14 : InO 157 3 s14 172 19) m13 k_seenWas r_seenWas => ?_)
  show YY g 1 s14 14 822 117 [(0, .ref (B.1 + 157))] []
  refine y_aload_n hg dX3_init_117 rfl ?_
  refine y_bipush (v := nI 60) hg dX3_init_118 rfl ?_
  refine y_newa0 hg 60 rfl (by omega) (by omega) (by omega) dX3_init_120 ?_
  refine mk_arr h14 (by decide) (by decide) (by decide) (fun s1 hk k => y_putrF (j := 22) hg cf3 hk (by decide) rfl rfl hr rfl q933 dX3_init_122 k) (fun s15 (h15 : InO 157 3 s15 173 23) m14 k_readSpelt r_readSpelt => ?_)
  show YY g 1 s15 15 882 125 [(0, .ref (B.1 + 157))] []
  refine y_aload_n hg dX3_init_125 rfl ?_
  refine y_bipush (v := nI 10) hg dX3_init_126 rfl ?_
  refine y_newa0 hg 10 rfl (by omega) (by omega) (by omega) dX3_init_128 ?_
  refine mk_arr h15 (by decide) (by decide) (by decide) (fun s1 hk k => y_putrF (j := 23) hg cf3 hk (by decide) rfl rfl hr rfl q934 dX3_init_130 k) (fun s16 (h16 : InO 157 3 s16 174 24) m15 k_readSize r_readSize => ?_)
  show YY g 1 s16 16 892 133 [(0, .ref (B.1 + 157))] []
  refine y_aload_n hg dX3_init_133 rfl ?_
  refine y_bipush (v := nI 10) hg dX3_init_134 rfl ?_
  refine y_newa0 hg 10 rfl (by omega) (by omega) (by omega) dX3_init_136 ?_
  refine mk_arr h16 (by decide) (by decide) (by decide) (fun s1 hk k => y_putrF (j := 24) hg cf3 hk (by decide) rfl rfl hr rfl q935 dX3_init_138 k) (fun s17 (h17 : InO 157 3 s17 175 25) m16 k_readKind r_readKind => ?_)
  show YY g 1 s17 17 902 141 [(0, .ref (B.1 + 157))] []
  refine y_aload_n hg dX3_init_141 rfl ?_
  refine y_bipush (v := nI 25) hg dX3_init_142 rfl ?_
  refine y_newa0 hg 25 rfl (by omega) (by omega) (by omega) dX3_init_144 ?_
  refine mk_arr h17 (by decide) (by decide) (by decide) (fun s1 hk k => y_putrF (j := 25) hg cf3 hk (by decide) rfl rfl hr rfl q936 dX3_init_146 k) (fun s18 (h18 : InO 157 3 s18 176 26) m17 k_readRow r_readRow => ?_)
  show YY g 1 s18 18 927 149 [(0, .ref (B.1 + 157))] []
  refine y_aload_n hg dX3_init_149 rfl ?_
  refine y_bipush (v := nI 25) hg dX3_init_150 rfl ?_
  refine y_newa0 hg 25 rfl (by omega) (by omega) (by omega) dX3_init_152 ?_
  refine mk_arr h18 (by decide) (by decide) (by decide) (fun s1 hk k => y_putrF (j := 29) hg cf3 hk (by decide) rfl rfl hr rfl q940 dX3_init_154 k) (fun s19 (h19 : InO 157 3 s19 177 30) m18 k_open r_open => ?_)
  show YY g 1 s19 19 952 157 [(0, .ref (B.1 + 157))] []
  refine y_aload_n hg dX3_init_157 rfl ?_
  refine y_bipush (v := nI 9) hg dX3_init_158 rfl ?_
  refine y_newa0 hg 9 rfl (by omega) (by omega) (by omega) dX3_init_160 ?_
  refine mk_arr h19 (by decide) (by decide) (by decide) (fun s1 hk k => y_putrF (j := 30) hg cf3 hk (by decide) rfl rfl hr rfl q941 dX3_init_162 k) (fun s20 (h20 : InO 157 3 s20 178 31) m19 k_base r_base => ?_)
  show YY g 1 s20 20 961 165 [(0, .ref (B.1 + 157))] []
  refine y_aload_n hg dX3_init_165 rfl ?_
  refine y_bipush (v := nI 10) hg dX3_init_166 rfl ?_
  refine y_newa0 hg 10 rfl (by omega) (by omega) (by omega) dX3_init_168 ?_
  refine mk_arr h20 (by decide) (by decide) (by decide) (fun s1 hk k => y_putrF (j := 33) hg cf3 hk (by decide) rfl rfl hr rfl q944 dX3_init_170 k) (fun s21 (h21 : InO 157 3 s21 179 34) m20 k_price r_price => ?_)
  show YY g 1 s21 21 971 173 [(0, .ref (B.1 + 157))] []
  refine y_aload_n hg dX3_init_173 rfl ?_
  refine y_sipush (v := nI 9720) hg dX3_init_174 rfl ?_
  refine y_newa1 hg 9720 rfl (by omega) (by omega) (by omega) dX3_init_177 ?_
  refine mk_arr h21 (by decide) (by decide) (by decide) (fun s1 hk k => y_putrF (j := 34) hg cf3 hk (by decide) rfl rfl hr rfl q945 dX3_init_179 k) (fun s22 (h22 : InO 157 3 s22 180 35) m21 k_ways r_ways => ?_)
  show YY g 1 s22 22 10691 182 [(0, .ref (B.1 + 157))] []
  refine y_aload_n hg dX3_init_182 rfl ?_
  refine y_sipush (v := nI 9720) hg dX3_init_183 rfl ?_
  refine y_newa1 hg 9720 rfl (by omega) (by omega) (by omega) dX3_init_186 ?_
  refine mk_arr h22 (by decide) (by decide) (by decide) (fun s1 hk k => y_putrF (j := 35) hg cf3 hk (by decide) rfl rfl hr rfl q946 dX3_init_188 k) (fun s23 (h23 : InO 157 3 s23 181 36) m22 k_layer r_layer => ?_)
  show YY g 1 s23 23 20411 191 [(0, .ref (B.1 + 157))] []
  refine y_aload_n hg dX3_init_191 rfl ?_
  refine y_sipush (v := nI 9720) hg dX3_init_192 rfl ?_
  refine y_newa1 hg 9720 rfl (by omega) (by omega) (by omega) dX3_init_195 ?_
  refine mk_arr h23 (by decide) (by decide) (by decide) (fun s1 hk k => y_putrF (j := 36) hg cf3 hk (by decide) rfl rfl hr rfl q947 dX3_init_197 k) (fun s24 (h24 : InO 157 3 s24 182 37) m23 k_later r_later => ?_)
  show YY g 1 s24 24 30131 200 [(0, .ref (B.1 + 157))] []
  refine y_aload_n hg dX3_init_200 rfl ?_
  refine y_sipush (v := nI 9720) hg dX3_init_201 rfl ?_
  refine y_newa0 hg 9720 rfl (by omega) (by omega) (by omega) dX3_init_204 ?_
  refine mk_arr h24 (by decide) (by decide) (by decide) (fun s1 hk k => y_putrF (j := 37) hg cf3 hk (by decide) rfl rfl hr rfl q948 dX3_init_206 k) (fun s25 (h25 : InO 157 3 s25 183 38) m24 k_best r_best => ?_)
  show YY g 1 s25 25 39851 209 [(0, .ref (B.1 + 157))] []
  refine y_aload_n hg dX3_init_209 rfl ?_
  refine y_sipush (v := nI 19440) hg dX3_init_210 rfl ?_
  refine y_newa2 hg 19440 rfl (by omega) (by omega) (by omega) dX3_init_213 ?_
  refine mk_arr h25 (by decide) (by decide) (by decide) (fun s1 hk k => y_putrF (j := 38) hg cf3 hk (by decide) rfl rfl hr rfl q949 dX3_init_215 k) (fun s26 (h26 : InO 157 3 s26 184 39) m25 k_fits r_fits => ?_)
  show YY g 1 s26 26 59291 218 [(0, .ref (B.1 + 157))] []
  refine y_aload_n hg dX3_init_218 rfl ?_
  refine y_bipush (v := nI 12) hg dX3_init_219 rfl ?_
  refine y_newa0 hg 12 rfl (by omega) (by omega) (by omega) dX3_init_221 ?_
  refine mk_arr h26 (by decide) (by decide) (by decide) (fun s1 hk k => y_putrF (j := 39) hg cf3 hk (by decide) rfl rfl hr rfl q950 dX3_init_223 k) (fun s27 (h27 : InO 157 3 s27 185 40) m26 k_found r_found => ?_)
  show YY g 1 s27 27 59303 226 [(0, .ref (B.1 + 157))] []
  refine y_aload_n hg dX3_init_226 rfl ?_
  refine y_bipush (v := nI 8) hg dX3_init_227 rfl ?_
  refine y_newa0 hg 8 rfl (by omega) (by omega) (by omega) dX3_init_229 ?_
  refine mk_arr h27 (by decide) (by decide) (by decide) (fun s1 hk k => y_putrF (j := 40) hg cf3 hk (by decide) rfl rfl hr rfl q951 dX3_init_231 k) (fun s28 (h28 : InO 157 3 s28 186 41) m27 k_left r_left => ?_)
  show YY g 1 s28 28 59311 234 [(0, .ref (B.1 + 157))] []
  refine y_aload_n hg dX3_init_234 rfl ?_
  refine y_sipush (v := nI 256) hg dX3_init_235 rfl ?_
  refine y_newa1 hg 256 rfl (by omega) (by omega) (by omega) dX3_init_238 ?_
  refine mk_arr h28 (by decide) (by decide) (by decide) (fun s1 hk k => y_putrF (j := 44) hg cf3 hk (by decide) rfl rfl hr rfl q955 dX3_init_240 k) (fun s29 (h29 : InO 157 3 s29 187 45) m28 k_worth r_worth => ?_)
  show YY g 1 s29 29 59567 243 [(0, .ref (B.1 + 157))] []
  have t29 : Mono s29 s29 := Mono.rf
  have t28 : Mono s28 s29 := m28.tr t29
  have t27 : Mono s27 s29 := m27.tr t28
  have t26 : Mono s26 s29 := m26.tr t27
  have t25 : Mono s25 s29 := m25.tr t26
  have t24 : Mono s24 s29 := m24.tr t25
  have t23 : Mono s23 s29 := m23.tr t24
  have t22 : Mono s22 s29 := m22.tr t23
  have t21 : Mono s21 s29 := m21.tr t22
  have t20 : Mono s20 s29 := m20.tr t21
  have t19 : Mono s19 s29 := m19.tr t20
  have t18 : Mono s18 s29 := m18.tr t19
  have t17 : Mono s17 s29 := m17.tr t18
  have t16 : Mono s16 s29 := m16.tr t17
  have t15 : Mono s15 s29 := m15.tr t16
  have t14 : Mono s14 s29 := m14.tr t15
  have t13 : Mono s13 s29 := m13.tr t14
  have t12 : Mono s12 s29 := m12.tr t13
  have t11 : Mono s11 s29 := m11.tr t12
  have t10 : Mono s10 s29 := m10.tr t11
  have t9 : Mono s9 s29 := m9.tr t10
  have t8 : Mono s8 s29 := m8.tr t9
  have t7 : Mono s7 s29 := m7.tr t8
  have t6 : Mono s6 s29 := m6.tr t7
  have t5 : Mono s5 s29 := m5.tr t6
  have t4 : Mono s4 s29 := m4.tr t5
  have t3 : Mono s3 s29 := m3.tr t4
  have t2 : Mono s2 s29 := m2.tr t3
  have t1 : Mono s1 s29 := m1.tr t2
  have t0 : Mono s0 s29 := m0.tr t1
  refine y_aload_n hg dX3_init_243 rfl ?_
  refine y_getr (j := 7) hg cf3 h29.2.1 (by decide) rfl (t6.r h6.2.1.2 r_now) q918 dX3_init_244 ?_
  refine y_callS (As := [.ref (B.1 + 163)]) (rest := []) hg (cM_empty (t6.ka k_now) (by decide)) iX3_empty q908 rfl rfl (by decide) (by omega) (by omega) (by decide) dX3_init_247 (fun v u h => ?_)
  obtain ⟨rfl, hf, he⟩ := h
  refine y_vret hg hr ⟨rfl, ?_⟩ dX3_init_250 (by omega) (by omega)
  have mu := hf.mono'
  have e187 : s29.2.1 = 187 := h29.1
  have hz := h29.2.2.2.2
  refine ⟨⟨mu.ko h29.2.1, mu.r h29.2.1.2 (t1.r h1.2.1.2 r_text), mu.ka (t1.ka k_text), mu.r h29.2.1.2 (t2.r h2.2.1.2 r_spelt), mu.ka (t2.ka k_spelt), mu.r h29.2.1.2 (t3.r h3.2.1.2 r_size), mu.ka (t3.ka k_size), mu.r h29.2.1.2 (t4.r h4.2.1.2 r_kind), mu.ka (t4.ka k_kind), mu.r h29.2.1.2 (t5.r h5.2.1.2 r_need), mu.ka (t5.ka k_need), mu.r h29.2.1.2 (t6.r h6.2.1.2 r_now), mu.ka (t6.ka k_now), mu.r h29.2.1.2 (t7.r h7.2.1.2 r_trial), mu.ka (t7.ka k_trial), mu.r h29.2.1.2 (t8.r h8.2.1.2 r_diary), mu.ka (t8.ka k_diary), mu.r h29.2.1.2 (t9.r h9.2.1.2 r_kept), mu.ka (t9.ka k_kept), mu.r h29.2.1.2 (t10.r h10.2.1.2 r_isKept), mu.ka (t10.ka k_isKept), mu.r h29.2.1.2 (t11.r h11.2.1.2 r_told), mu.ka (t11.ka k_told), mu.r h29.2.1.2 (t12.r h12.2.1.2 r_seenWhat), mu.ka (t12.ka k_seenWhat), mu.r h29.2.1.2 (t13.r h13.2.1.2 r_seenOf), mu.ka (t13.ka k_seenOf), mu.r h29.2.1.2 (t14.r h14.2.1.2 r_seenWas), mu.ka (t14.ka k_seenWas), mu.r h29.2.1.2 (t15.r h15.2.1.2 r_readSpelt), mu.ka (t15.ka k_readSpelt), mu.r h29.2.1.2 (t16.r h16.2.1.2 r_readSize), mu.ka (t16.ka k_readSize), mu.r h29.2.1.2 (t17.r h17.2.1.2 r_readKind), mu.ka (t17.ka k_readKind), mu.r h29.2.1.2 (t18.r h18.2.1.2 r_readRow), mu.ka (t18.ka k_readRow), mu.r h29.2.1.2 (t19.r h19.2.1.2 r_open), mu.ka (t19.ka k_open), mu.r h29.2.1.2 (t20.r h20.2.1.2 r_base), mu.ka (t20.ka k_base), mu.r h29.2.1.2 (t21.r h21.2.1.2 r_price), mu.ka (t21.ka k_price), mu.r h29.2.1.2 (t22.r h22.2.1.2 r_ways), mu.ka (t22.ka k_ways), mu.r h29.2.1.2 (t23.r h23.2.1.2 r_layer), mu.ka (t23.ka k_layer), mu.r h29.2.1.2 (t24.r h24.2.1.2 r_later), mu.ka (t24.ka k_later), mu.r h29.2.1.2 (t25.r h25.2.1.2 r_best), mu.ka (t25.ka k_best), mu.r h29.2.1.2 (t26.r h26.2.1.2 r_fits), mu.ka (t26.ka k_fits), mu.r h29.2.1.2 (t27.r h27.2.1.2 r_found), mu.ka (t27.ka k_found), mu.r h29.2.1.2 (t28.r h28.2.1.2 r_left), mu.ka (t28.ka k_left), mu.r h29.2.1.2 (t29.r h29.2.1.2 r_worth), mu.ka (t29.ka k_worth)⟩, t0.tr mu, fun k j hk => ?_, (hf.l (by omega) (by decide)).trans (hz 0 33 (by decide) (by decide)).2, (hf.l (by omega) (by decide)).trans (hz 157 20 (by decide) (by decide)).2⟩
  by_cases e : k = 163
  · subst e; rw [he j, (hz 163 j (by decide) (by decide)).1]; split <;> rfl
  · exact (hf.i (by omega) e).trans (hz k j (by omega) hk).1
end Ctors
