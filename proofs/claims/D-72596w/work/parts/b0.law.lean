/-! ===== the law, call by call ===== -/
section LawC
variable {g : Cx} {l0 : Launch} {B : Bs} {d mc ms cu su b Ls k : Nat} {xs : Nat → Int32} {A : Ab} {sd : Int64} {s : Mem}
abbrev KL (g : Cx) (B : Bs) (b k cu su : Nat) : Prop := ∀ (A' : Ab) (sd' : Int64) (s' : Mem) (cu' su' : Nat), WFA A' → RX B A' sd' s' → RMm B A' sd' s' → cu' ≤ cu + 30 → su' ≤ su + 300 → YY g 4 s' cu' su' 1079 [(0, .ref b), (1, .ref (B.1 + 0)), (2, .ref (B.1 + 157)), (3, .int (nI (4 * k)))] []
theorem lw_c0 (hg : Gd g l0 B "BagPhrasesLaw" cL_law 4 1000 mc ms) (hX : ScX g b Ls xs) (hL : Ls ≤ 256) (htr : l0.stackTraces = false) (hk : 4 * k + 4 ≤ Ls) (hW : WFA A) (hR : RX B A sd s) (hM : RMm B A sd s) (h1 : cu + 30 ≤ mc) (h2 : su + 300 ≤ ms) (kk : KL g B b k cu su) : YY g 4 s cu su 176 [(0, .ref b), (1, .ref (B.1 + 0)), (2, .ref (B.1 + 157)), (3, .int (nI (4 * k)))] [] := by
  refine y_aload_n hg dL_law_176 rfl ?_
  refine y_aload_n hg dL_law_177 rfl ?_
  refine y_iload_n hg dL_law_178 rfl ?_
  refine y_iconst (v := nI 1) hg dL_law_179 rfl ?_
  refine y_iadd hg dL_law_180 ?_
  refine y_ti (nI_add _ _) ?_
  refine y_sld hg hX (4 * k + 1) rfl (by omega) hL dL_law_181 ?_
  refine y_callV (As := [.int (xs (4 * k + 1))]) (rest := []) hg (cX_write (ll := l0) hW hR _) iX0_write q281 hR.1.x cf0 rfl rfl (by decide) (by omega) (by omega) (by decide) dL_law_182 (fun v s1 hp => ?_)
  obtain ⟨r1, rfl, e1, hR1, hF1⟩ := hp
  have hM1 := hM.byX hF1
  refine y_aload_n hg dL_law_185 rfl ?_
  refine y_aload_n hg dL_law_186 rfl ?_
  refine y_iload_n hg dL_law_187 rfl ?_
  refine y_iconst (v := nI 1) hg dL_law_188 rfl ?_
  refine y_iadd hg dL_law_189 ?_
  refine y_ti (nI_add _ _) ?_
  refine y_sld hg hX (4 * k + 1) rfl (by omega) hL dL_law_190 ?_
  refine y_callV (As := [.int (xs (4 * k + 1))]) (rest := [.int r1]) hg (cM_write (ll := l0) hW hM1 _) iX3_write q1047 hM1.1.m cf3 rfl rfl (by show 1 ≤ 8; decide) (by omega) (by omega) (by decide) dL_law_191 (fun v s2 hp => ?_)
  obtain ⟨r2, rfl, e2, hM2, hF2⟩ := hp
  refine y_icmp_eq hg 1079 dL_law_194 (by decide) (fun _ => ?_) (fun hF => absurd (e1.trans e2.symm) hF)
  have hW2 := wWrite hW (xs (4 * k + 1))
  exact kk _ _ s2 _ _ hW2 (hR1.byM hW2.1.2 hF2) hM2 (by omega) (by omega)
theorem lw_c1 (hg : Gd g l0 B "BagPhrasesLaw" cL_law 4 1000 mc ms) (hX : ScX g b Ls xs) (hL : Ls ≤ 256) (htr : l0.stackTraces = false) (hk : 4 * k + 4 ≤ Ls) (hW : WFA A) (hR : RX B A sd s) (hM : RMm B A sd s) (h1 : cu + 30 ≤ mc) (h2 : su + 300 ≤ ms) (kk : KL g B b k cu su) : YY g 4 s cu su 199 [(0, .ref b), (1, .ref (B.1 + 0)), (2, .ref (B.1 + 157)), (3, .int (nI (4 * k)))] [] := by
  refine y_aload_n hg dL_law_199 rfl ?_
  refine y_callV (As := []) (rest := []) hg (cX_wipe (ll := l0) hW hR ) iX0_wipe q289 hR.1.x cf0 rfl rfl (by decide) (by omega) (by omega) (by decide) dL_law_200 (fun v s1 hp => ?_)
  obtain ⟨r1, rfl, e1, hR1, hF1⟩ := hp
  have hM1 := hM.byX hF1
  refine y_aload_n hg dL_law_203 rfl ?_
  refine y_callV (As := []) (rest := [.int r1]) hg (cM_wipe (ll := l0) hW hM1 ) iX3_wipe q1055 hM1.1.m cf3 rfl rfl (by show 1 ≤ 8; decide) (by omega) (by omega) (by decide) dL_law_204 (fun v s2 hp => ?_)
  obtain ⟨r2, rfl, e2, hM2, hF2⟩ := hp
  refine y_icmp_eq hg 1079 dL_law_207 (by decide) (fun _ => ?_) (fun hF => absurd (e1.trans e2.symm) hF)
  have hW2 := wZero hW (Or.inl rfl)
  exact kk _ _ s2 _ _ hW2 (hR1.byM hW2.1.2 hF2) hM2 (by omega) (by omega)
theorem lw_c2 (hg : Gd g l0 B "BagPhrasesLaw" cL_law 4 1000 mc ms) (hX : ScX g b Ls xs) (hL : Ls ≤ 256) (htr : l0.stackTraces = false) (hk : 4 * k + 4 ≤ Ls) (hW : WFA A) (hR : RX B A sd s) (hM : RMm B A sd s) (h1 : cu + 30 ≤ mc) (h2 : su + 300 ≤ ms) (kk : KL g B b k cu su) : YY g 4 s cu su 212 [(0, .ref b), (1, .ref (B.1 + 0)), (2, .ref (B.1 + 157)), (3, .int (nI (4 * k)))] [] := by
  refine y_aload_n hg dL_law_212 rfl ?_
  refine y_callV (As := []) (rest := []) hg (cX_fault (ll := l0) hW hR ) iX0_fault q293 hR.1.x cf0 rfl rfl (by decide) (by omega) (by omega) (by decide) dL_law_213 (fun v s1 hp => ?_)
  obtain ⟨r1, rfl, e1, hR1, hF1⟩ := hp
  have hM1 := hM.byX hF1
  refine y_aload_n hg dL_law_216 rfl ?_
  refine y_callV (As := []) (rest := [.int r1]) hg (cM_fault (ll := l0) hW hM1 ) iX3_fault q1059 hM1.1.m cf3 rfl rfl (by show 1 ≤ 8; decide) (by omega) (by omega) (by decide) dL_law_217 (fun v s2 hp => ?_)
  obtain ⟨r2, rfl, e2, hM2, hF2⟩ := hp
  refine y_icmp_eq hg 1079 dL_law_220 (by decide) (fun _ => ?_) (fun hF => absurd (e1.trans e2.symm) hF)
  have hW2 := hW
  exact kk _ _ s2 _ _ hW2 (hR1.byM hW2.1.2 hF2) hM2 (by omega) (by omega)
theorem lw_c3 (hg : Gd g l0 B "BagPhrasesLaw" cL_law 4 1000 mc ms) (hX : ScX g b Ls xs) (hL : Ls ≤ 256) (htr : l0.stackTraces = false) (hk : 4 * k + 4 ≤ Ls) (hW : WFA A) (hR : RX B A sd s) (hM : RMm B A sd s) (h1 : cu + 30 ≤ mc) (h2 : su + 300 ≤ ms) (kk : KL g B b k cu su) : YY g 4 s cu su 225 [(0, .ref b), (1, .ref (B.1 + 0)), (2, .ref (B.1 + 157)), (3, .int (nI (4 * k)))] [] := by
  refine y_aload_n hg dL_law_225 rfl ?_
  refine y_callV (As := []) (rest := []) hg (cX_house (ll := l0) hW hR ) iX0_house q355 hR.1.x cf0 rfl rfl (by decide) (by omega) (by omega) (by decide) dL_law_226 (fun v s1 hp => ?_)
  obtain ⟨r1, rfl, e1, hR1, hF1⟩ := hp
  have hM1 := hM.byX hF1
  refine y_aload_n hg dL_law_229 rfl ?_
  refine y_callV (As := []) (rest := [.int r1]) hg (cM_house (ll := l0) hW hM1 ) iX3_house q1107 hM1.1.m cf3 rfl rfl (by show 1 ≤ 8; decide) (by omega) (by omega) (by decide) dL_law_230 (fun v s2 hp => ?_)
  obtain ⟨r2, rfl, e2, hM2, hF2⟩ := hp
  refine y_icmp_eq hg 1079 dL_law_233 (by decide) (fun _ => ?_) (fun hF => absurd (e1.trans e2.symm) hF)
  have hW2 := wHouse hW
  exact kk _ _ s2 _ _ hW2 (hR1.byM hW2.1.2 hF2) hM2 (by omega) (by omega)
theorem lw_c4 (hg : Gd g l0 B "BagPhrasesLaw" cL_law 4 1000 mc ms) (hX : ScX g b Ls xs) (hL : Ls ≤ 256) (htr : l0.stackTraces = false) (hk : 4 * k + 4 ≤ Ls) (hW : WFA A) (hR : RX B A sd s) (hM : RMm B A sd s) (h1 : cu + 30 ≤ mc) (h2 : su + 300 ≤ ms) (kk : KL g B b k cu su) : YY g 4 s cu su 238 [(0, .ref b), (1, .ref (B.1 + 0)), (2, .ref (B.1 + 157)), (3, .int (nI (4 * k)))] [] := by
  refine y_aload_n hg dL_law_238 rfl ?_
  refine y_aload_n hg dL_law_239 rfl ?_
  refine y_iload_n hg dL_law_240 rfl ?_
  refine y_iconst (v := nI 1) hg dL_law_241 rfl ?_
  refine y_iadd hg dL_law_242 ?_
  refine y_ti (nI_add _ _) ?_
  refine y_sld hg hX (4 * k + 1) rfl (by omega) hL dL_law_243 ?_
  refine y_callV (As := [.int (xs (4 * k + 1))]) (rest := []) hg (cX_about (ll := l0) hW hR _) iX0_about q364 hR.1.x cf0 rfl rfl (by decide) (by omega) (by omega) (by decide) dL_law_244 (fun v s1 hp => ?_)
  obtain ⟨r1, rfl, e1, hR1, hF1⟩ := hp
  have hM1 := hM.byX hF1
  refine y_aload_n hg dL_law_247 rfl ?_
  refine y_aload_n hg dL_law_248 rfl ?_
  refine y_iload_n hg dL_law_249 rfl ?_
  refine y_iconst (v := nI 1) hg dL_law_250 rfl ?_
  refine y_iadd hg dL_law_251 ?_
  refine y_ti (nI_add _ _) ?_
  refine y_sld hg hX (4 * k + 1) rfl (by omega) hL dL_law_252 ?_
  refine y_callV (As := [.int (xs (4 * k + 1))]) (rest := [.int r1]) hg (cM_about (ll := l0) hW hM1 _) iX3_about q1114 hM1.1.m cf3 rfl rfl (by show 1 ≤ 8; decide) (by omega) (by omega) (by decide) dL_law_253 (fun v s2 hp => ?_)
  obtain ⟨r2, rfl, e2, hM2, hF2⟩ := hp
  refine y_icmp_eq hg 1079 dL_law_256 (by decide) (fun _ => ?_) (fun hF => absurd (e1.trans e2.symm) hF)
  have hW2 := hW
  exact kk _ _ s2 _ _ hW2 (hR1.byM hW2.1.2 hF2) hM2 (by omega) (by omega)
theorem lw_c5 (hg : Gd g l0 B "BagPhrasesLaw" cL_law 4 1000 mc ms) (hX : ScX g b Ls xs) (hL : Ls ≤ 256) (htr : l0.stackTraces = false) (hk : 4 * k + 4 ≤ Ls) (hW : WFA A) (hR : RX B A sd s) (hM : RMm B A sd s) (h1 : cu + 30 ≤ mc) (h2 : su + 300 ≤ ms) (kk : KL g B b k cu su) : YY g 4 s cu su 261 [(0, .ref b), (1, .ref (B.1 + 0)), (2, .ref (B.1 + 157)), (3, .int (nI (4 * k)))] [] := by
  refine y_aload_n hg dL_law_261 rfl ?_
  refine y_aload_n hg dL_law_262 rfl ?_
  refine y_iload_n hg dL_law_263 rfl ?_
  refine y_iconst (v := nI 1) hg dL_law_264 rfl ?_
  refine y_iadd hg dL_law_265 ?_
  refine y_ti (nI_add _ _) ?_
  refine y_sld hg hX (4 * k + 1) rfl (by omega) hL dL_law_266 ?_
  refine y_aload_n hg dL_law_267 rfl ?_
  refine y_iload_n hg dL_law_268 rfl ?_
  refine y_iconst (v := nI 2) hg dL_law_269 rfl ?_
  refine y_iadd hg dL_law_270 ?_
  refine y_ti (nI_add _ _) ?_
  refine y_sld hg hX (4 * k + 2) rfl (by omega) hL dL_law_271 ?_
  refine y_callV (As := [.int (xs (4 * k + 1)), .int (xs (4 * k + 2))]) (rest := []) hg (cX_word (ll := l0) hW hR _ _) iX0_word q436 hR.1.x cf0 rfl rfl (by decide) (by omega) (by omega) (by decide) dL_law_272 (fun v s1 hp => ?_)
  obtain ⟨r1, rfl, e1, hR1, hF1⟩ := hp
  have hM1 := hM.byX hF1
  refine y_aload_n hg dL_law_275 rfl ?_
  refine y_aload_n hg dL_law_276 rfl ?_
  refine y_iload_n hg dL_law_277 rfl ?_
  refine y_iconst (v := nI 1) hg dL_law_278 rfl ?_
  refine y_iadd hg dL_law_279 ?_
  refine y_ti (nI_add _ _) ?_
  refine y_sld hg hX (4 * k + 1) rfl (by omega) hL dL_law_280 ?_
  refine y_aload_n hg dL_law_281 rfl ?_
  refine y_iload_n hg dL_law_282 rfl ?_
  refine y_iconst (v := nI 2) hg dL_law_283 rfl ?_
  refine y_iadd hg dL_law_284 ?_
  refine y_ti (nI_add _ _) ?_
  refine y_sld hg hX (4 * k + 2) rfl (by omega) hL dL_law_285 ?_
  refine y_callV (As := [.int (xs (4 * k + 1)), .int (xs (4 * k + 2))]) (rest := [.int r1]) hg (cM_word (ll := l0) hW hM1 _ _) iX3_word q1170 hM1.1.m cf3 rfl rfl (by show 1 ≤ 8; decide) (by omega) (by omega) (by decide) dL_law_286 (fun v s2 hp => ?_)
  obtain ⟨r2, rfl, e2, hM2, hF2⟩ := hp
  refine y_icmp_eq hg 1079 dL_law_289 (by decide) (fun _ => ?_) (fun hF => absurd (e1.trans e2.symm) hF)
  have hW2 := hW
  exact kk _ _ s2 _ _ hW2 (hR1.byM hW2.1.2 hF2) hM2 (by omega) (by omega)
theorem lw_c6 (hg : Gd g l0 B "BagPhrasesLaw" cL_law 4 1000 mc ms) (hX : ScX g b Ls xs) (hL : Ls ≤ 256) (htr : l0.stackTraces = false) (hk : 4 * k + 4 ≤ Ls) (hW : WFA A) (hR : RX B A sd s) (hM : RMm B A sd s) (h1 : cu + 30 ≤ mc) (h2 : su + 300 ≤ ms) (kk : KL g B b k cu su) : YY g 4 s cu su 294 [(0, .ref b), (1, .ref (B.1 + 0)), (2, .ref (B.1 + 157)), (3, .int (nI (4 * k)))] [] := by
  refine y_aload_n hg dL_law_294 rfl ?_
  refine y_aload_n hg dL_law_295 rfl ?_
  refine y_iload_n hg dL_law_296 rfl ?_
  refine y_iconst (v := nI 1) hg dL_law_297 rfl ?_
  refine y_iadd hg dL_law_298 ?_
  refine y_ti (nI_add _ _) ?_
  refine y_sld hg hX (4 * k + 1) rfl (by omega) hL dL_law_299 ?_
  refine y_aload_n hg dL_law_300 rfl ?_
  refine y_iload_n hg dL_law_301 rfl ?_
  refine y_iconst (v := nI 2) hg dL_law_302 rfl ?_
  refine y_iadd hg dL_law_303 ?_
  refine y_ti (nI_add _ _) ?_
  refine y_sld hg hX (4 * k + 2) rfl (by omega) hL dL_law_304 ?_
  refine y_callV (As := [.int (xs (4 * k + 1)), .int (xs (4 * k + 2))]) (rest := []) hg (cX_letter (ll := l0) hW hR _ _) iX0_letter q463 hR.1.x cf0 rfl rfl (by decide) (by omega) (by omega) (by decide) dL_law_305 (fun v s1 hp => ?_)
  obtain ⟨r1, rfl, e1, hR1, hF1⟩ := hp
  have hM1 := hM.byX hF1
  refine y_aload_n hg dL_law_308 rfl ?_
  refine y_aload_n hg dL_law_309 rfl ?_
  refine y_iload_n hg dL_law_310 rfl ?_
  refine y_iconst (v := nI 1) hg dL_law_311 rfl ?_
  refine y_iadd hg dL_law_312 ?_
  refine y_ti (nI_add _ _) ?_
  refine y_sld hg hX (4 * k + 1) rfl (by omega) hL dL_law_313 ?_
  refine y_aload_n hg dL_law_314 rfl ?_
  refine y_iload_n hg dL_law_315 rfl ?_
  refine y_iconst (v := nI 2) hg dL_law_316 rfl ?_
  refine y_iadd hg dL_law_317 ?_
  refine y_ti (nI_add _ _) ?_
  refine y_sld hg hX (4 * k + 2) rfl (by omega) hL dL_law_318 ?_
  refine y_callV (As := [.int (xs (4 * k + 1)), .int (xs (4 * k + 2))]) (rest := [.int r1]) hg (cM_letter (ll := l0) hW hM1 _ _) iX3_letter q1194 hM1.1.m cf3 rfl rfl (by show 1 ≤ 8; decide) (by omega) (by omega) (by decide) dL_law_319 (fun v s2 hp => ?_)
  obtain ⟨r2, rfl, e2, hM2, hF2⟩ := hp
  refine y_icmp_eq hg 1079 dL_law_322 (by decide) (fun _ => ?_) (fun hF => absurd (e1.trans e2.symm) hF)
  have hW2 := hW
  exact kk _ _ s2 _ _ hW2 (hR1.byM hW2.1.2 hF2) hM2 (by omega) (by omega)
theorem lw_c7 (hg : Gd g l0 B "BagPhrasesLaw" cL_law 4 1000 mc ms) (hX : ScX g b Ls xs) (hL : Ls ≤ 256) (htr : l0.stackTraces = false) (hk : 4 * k + 4 ≤ Ls) (hW : WFA A) (hR : RX B A sd s) (hM : RMm B A sd s) (h1 : cu + 30 ≤ mc) (h2 : su + 300 ≤ ms) (kk : KL g B b k cu su) : YY g 4 s cu su 327 [(0, .ref b), (1, .ref (B.1 + 0)), (2, .ref (B.1 + 157)), (3, .int (nI (4 * k)))] [] := by
  refine y_aload_n hg dL_law_327 rfl ?_
  refine y_aload_n hg dL_law_328 rfl ?_
  refine y_iload_n hg dL_law_329 rfl ?_
  refine y_iconst (v := nI 1) hg dL_law_330 rfl ?_
  refine y_iadd hg dL_law_331 ?_
  refine y_ti (nI_add _ _) ?_
  refine y_sld hg hX (4 * k + 1) rfl (by omega) hL dL_law_332 ?_
  refine y_callV (As := [.int (xs (4 * k + 1))]) (rest := []) hg (cX_put (ll := l0) hW hR _) iX0_put q475 hR.1.x cf0 rfl rfl (by decide) (by omega) (by omega) (by decide) dL_law_333 (fun v s1 hp => ?_)
  obtain ⟨r1, rfl, e1, hR1, hF1⟩ := hp
  have hM1 := hM.byX hF1
  refine y_aload_n hg dL_law_336 rfl ?_
  refine y_aload_n hg dL_law_337 rfl ?_
  refine y_iload_n hg dL_law_338 rfl ?_
  refine y_iconst (v := nI 1) hg dL_law_339 rfl ?_
  refine y_iadd hg dL_law_340 ?_
  refine y_ti (nI_add _ _) ?_
  refine y_sld hg hX (4 * k + 1) rfl (by omega) hL dL_law_341 ?_
  refine y_callV (As := [.int (xs (4 * k + 1))]) (rest := [.int r1]) hg (cM_put (ll := l0) hW hM1 _) iX3_put q1202 hM1.1.m cf3 rfl rfl (by show 1 ≤ 8; decide) (by omega) (by omega) (by decide) dL_law_342 (fun v s2 hp => ?_)
  obtain ⟨r2, rfl, e2, hM2, hF2⟩ := hp
  refine y_icmp_eq hg 1079 dL_law_345 (by decide) (fun _ => ?_) (fun hF => absurd (e1.trans e2.symm) hF)
  have hW2 := wPut hW (xs (4 * k + 1))
  exact kk _ _ s2 _ _ hW2 (hR1.byM hW2.1.2 hF2) hM2 (by omega) (by omega)
theorem lw_c8 (hg : Gd g l0 B "BagPhrasesLaw" cL_law 4 1000 mc ms) (hX : ScX g b Ls xs) (hL : Ls ≤ 256) (htr : l0.stackTraces = false) (hk : 4 * k + 4 ≤ Ls) (hW : WFA A) (hR : RX B A sd s) (hM : RMm B A sd s) (h1 : cu + 30 ≤ mc) (h2 : su + 300 ≤ ms) (kk : KL g B b k cu su) : YY g 4 s cu su 350 [(0, .ref b), (1, .ref (B.1 + 0)), (2, .ref (B.1 + 157)), (3, .int (nI (4 * k)))] [] := by
  refine y_aload_n hg dL_law_350 rfl ?_
  refine y_aload_n hg dL_law_351 rfl ?_
  refine y_iload_n hg dL_law_352 rfl ?_
  refine y_iconst (v := nI 1) hg dL_law_353 rfl ?_
  refine y_iadd hg dL_law_354 ?_
  refine y_ti (nI_add _ _) ?_
  refine y_sld hg hX (4 * k + 1) rfl (by omega) hL dL_law_355 ?_
  refine y_callV (As := [.int (xs (4 * k + 1))]) (rest := []) hg (cX_take (ll := l0) hW hR _) iX0_take q484 hR.1.x cf0 rfl rfl (by decide) (by omega) (by omega) (by decide) dL_law_356 (fun v s1 hp => ?_)
  obtain ⟨r1, rfl, e1, hR1, hF1⟩ := hp
  have hM1 := hM.byX hF1
  refine y_aload_n hg dL_law_359 rfl ?_
  refine y_aload_n hg dL_law_360 rfl ?_
  refine y_iload_n hg dL_law_361 rfl ?_
  refine y_iconst (v := nI 1) hg dL_law_362 rfl ?_
  refine y_iadd hg dL_law_363 ?_
  refine y_ti (nI_add _ _) ?_
  refine y_sld hg hX (4 * k + 1) rfl (by omega) hL dL_law_364 ?_
  refine y_callV (As := [.int (xs (4 * k + 1))]) (rest := [.int r1]) hg (cM_take (ll := l0) hW hM1 _) iX3_take q1210 hM1.1.m cf3 rfl rfl (by show 1 ≤ 8; decide) (by omega) (by omega) (by decide) dL_law_365 (fun v s2 hp => ?_)
  obtain ⟨r2, rfl, e2, hM2, hF2⟩ := hp
  refine y_icmp_eq hg 1079 dL_law_368 (by decide) (fun _ => ?_) (fun hF => absurd (e1.trans e2.symm) hF)
  have hW2 := wTake hW (xs (4 * k + 1))
  exact kk _ _ s2 _ _ hW2 (hR1.byM hW2.1.2 hF2) hM2 (by omega) (by omega)
theorem lw_c9 (hg : Gd g l0 B "BagPhrasesLaw" cL_law 4 1000 mc ms) (hX : ScX g b Ls xs) (hL : Ls ≤ 256) (htr : l0.stackTraces = false) (hk : 4 * k + 4 ≤ Ls) (hW : WFA A) (hR : RX B A sd s) (hM : RMm B A sd s) (h1 : cu + 30 ≤ mc) (h2 : su + 300 ≤ ms) (kk : KL g B b k cu su) : YY g 4 s cu su 373 [(0, .ref b), (1, .ref (B.1 + 0)), (2, .ref (B.1 + 157)), (3, .int (nI (4 * k)))] [] := by
  refine y_aload_n hg dL_law_373 rfl ?_
  refine y_aload_n hg dL_law_374 rfl ?_
  refine y_iload_n hg dL_law_375 rfl ?_
  refine y_iconst (v := nI 1) hg dL_law_376 rfl ?_
  refine y_iadd hg dL_law_377 ?_
  refine y_ti (nI_add _ _) ?_
  refine y_sld hg hX (4 * k + 1) rfl (by omega) hL dL_law_378 ?_
  refine y_callV (As := [.int (xs (4 * k + 1))]) (rest := []) hg (cX_bar (ll := l0) hW hR _) iX0_bar q488 hR.1.x cf0 rfl rfl (by decide) (by omega) (by omega) (by decide) dL_law_379 (fun v s1 hp => ?_)
  obtain ⟨r1, rfl, e1, hR1, hF1⟩ := hp
  have hM1 := hM.byX hF1
  refine y_aload_n hg dL_law_382 rfl ?_
  refine y_aload_n hg dL_law_383 rfl ?_
  refine y_iload_n hg dL_law_384 rfl ?_
  refine y_iconst (v := nI 1) hg dL_law_385 rfl ?_
  refine y_iadd hg dL_law_386 ?_
  refine y_ti (nI_add _ _) ?_
  refine y_sld hg hX (4 * k + 1) rfl (by omega) hL dL_law_387 ?_
  refine y_callV (As := [.int (xs (4 * k + 1))]) (rest := [.int r1]) hg (cM_bar (ll := l0) hW hM1 _) iX3_bar q1214 hM1.1.m cf3 rfl rfl (by show 1 ≤ 8; decide) (by omega) (by omega) (by decide) dL_law_388 (fun v s2 hp => ?_)
  obtain ⟨r2, rfl, e2, hM2, hF2⟩ := hp
  refine y_icmp_eq hg 1079 dL_law_391 (by decide) (fun _ => ?_) (fun hF => absurd (e1.trans e2.symm) hF)
  have hW2 := wBar hW (xs (4 * k + 1))
  exact kk _ _ s2 _ _ hW2 (hR1.byM hW2.1.2 hF2) hM2 (by omega) (by omega)
theorem lw_c10 (hg : Gd g l0 B "BagPhrasesLaw" cL_law 4 1000 mc ms) (hX : ScX g b Ls xs) (hL : Ls ≤ 256) (htr : l0.stackTraces = false) (hk : 4 * k + 4 ≤ Ls) (hW : WFA A) (hR : RX B A sd s) (hM : RMm B A sd s) (h1 : cu + 30 ≤ mc) (h2 : su + 300 ≤ ms) (kk : KL g B b k cu su) : YY g 4 s cu su 396 [(0, .ref b), (1, .ref (B.1 + 0)), (2, .ref (B.1 + 157)), (3, .int (nI (4 * k)))] [] := by
  refine y_aload_n hg dL_law_396 rfl ?_
  refine y_aload_n hg dL_law_397 rfl ?_
  refine y_iload_n hg dL_law_398 rfl ?_
  refine y_iconst (v := nI 1) hg dL_law_399 rfl ?_
  refine y_iadd hg dL_law_400 ?_
  refine y_ti (nI_add _ _) ?_
  refine y_sld hg hX (4 * k + 1) rfl (by omega) hL dL_law_401 ?_
  refine y_aload_n hg dL_law_402 rfl ?_
  refine y_iload_n hg dL_law_403 rfl ?_
  refine y_iconst (v := nI 2) hg dL_law_404 rfl ?_
  refine y_iadd hg dL_law_405 ?_
  refine y_ti (nI_add _ _) ?_
  refine y_sld hg hX (4 * k + 2) rfl (by omega) hL dL_law_406 ?_
  refine y_callV (As := [.int (xs (4 * k + 1)), .int (xs (4 * k + 2))]) (rest := []) hg (cX_rank (ll := l0) hW hR _ _) iX0_rank q492 hR.1.x cf0 rfl rfl (by decide) (by omega) (by omega) (by decide) dL_law_407 (fun v s1 hp => ?_)
  obtain ⟨r1, rfl, e1, hR1, hF1⟩ := hp
  have hM1 := hM.byX hF1
  refine y_aload_n hg dL_law_410 rfl ?_
  refine y_aload_n hg dL_law_411 rfl ?_
  refine y_iload_n hg dL_law_412 rfl ?_
  refine y_iconst (v := nI 1) hg dL_law_413 rfl ?_
  refine y_iadd hg dL_law_414 ?_
  refine y_ti (nI_add _ _) ?_
  refine y_sld hg hX (4 * k + 1) rfl (by omega) hL dL_law_415 ?_
  refine y_aload_n hg dL_law_416 rfl ?_
  refine y_iload_n hg dL_law_417 rfl ?_
  refine y_iconst (v := nI 2) hg dL_law_418 rfl ?_
  refine y_iadd hg dL_law_419 ?_
  refine y_ti (nI_add _ _) ?_
  refine y_sld hg hX (4 * k + 2) rfl (by omega) hL dL_law_420 ?_
  refine y_callV (As := [.int (xs (4 * k + 1)), .int (xs (4 * k + 2))]) (rest := [.int r1]) hg (cM_rank (ll := l0) hW hM1 _ _) iX3_rank q1218 hM1.1.m cf3 rfl rfl (by show 1 ≤ 8; decide) (by omega) (by omega) (by decide) dL_law_421 (fun v s2 hp => ?_)
  obtain ⟨r2, rfl, e2, hM2, hF2⟩ := hp
  refine y_icmp_eq hg 1079 dL_law_424 (by decide) (fun _ => ?_) (fun hF => absurd (e1.trans e2.symm) hF)
  have hW2 := wRank hW (xs (4 * k + 1)) (xs (4 * k + 2))
  exact kk _ _ s2 _ _ hW2 (hR1.byM hW2.1.2 hF2) hM2 (by omega) (by omega)
theorem lw_c11 (hg : Gd g l0 B "BagPhrasesLaw" cL_law 4 1000 mc ms) (hX : ScX g b Ls xs) (hL : Ls ≤ 256) (htr : l0.stackTraces = false) (hk : 4 * k + 4 ≤ Ls) (hW : WFA A) (hR : RX B A sd s) (hM : RMm B A sd s) (h1 : cu + 30 ≤ mc) (h2 : su + 300 ≤ ms) (kk : KL g B b k cu su) : YY g 4 s cu su 429 [(0, .ref b), (1, .ref (B.1 + 0)), (2, .ref (B.1 + 157)), (3, .int (nI (4 * k)))] [] := by
  refine y_aload_n hg dL_law_429 rfl ?_
  refine y_aload_n hg dL_law_430 rfl ?_
  refine y_iload_n hg dL_law_431 rfl ?_
  refine y_iconst (v := nI 1) hg dL_law_432 rfl ?_
  refine y_iadd hg dL_law_433 ?_
  refine y_ti (nI_add _ _) ?_
  refine y_sld hg hX (4 * k + 1) rfl (by omega) hL dL_law_434 ?_
  refine y_aload_n hg dL_law_435 rfl ?_
  refine y_iload_n hg dL_law_436 rfl ?_
  refine y_iconst (v := nI 2) hg dL_law_437 rfl ?_
  refine y_iadd hg dL_law_438 ?_
  refine y_ti (nI_add _ _) ?_
  refine y_sld hg hX (4 * k + 2) rfl (by omega) hL dL_law_439 ?_
  refine y_aload_n hg dL_law_440 rfl ?_
  refine y_iload_n hg dL_law_441 rfl ?_
  refine y_iconst (v := nI 3) hg dL_law_442 rfl ?_
  refine y_iadd hg dL_law_443 ?_
  refine y_ti (nI_add _ _) ?_
  refine y_sld hg hX (4 * k + 3) rfl (by omega) hL dL_law_444 ?_
  refine y_callV (As := [.int (xs (4 * k + 1)), .int (xs (4 * k + 2)), .int (xs (4 * k + 3))]) (rest := []) hg (cX_allow (ll := l0) hW hR _ _ _) iX0_allow q497 hR.1.x cf0 rfl rfl (by decide) (by omega) (by omega) (by decide) dL_law_445 (fun v s1 hp => ?_)
  obtain ⟨r1, rfl, e1, hR1, hF1⟩ := hp
  have hM1 := hM.byX hF1
  refine y_aload_n hg dL_law_448 rfl ?_
  refine y_aload_n hg dL_law_449 rfl ?_
  refine y_iload_n hg dL_law_450 rfl ?_
  refine y_iconst (v := nI 1) hg dL_law_451 rfl ?_
  refine y_iadd hg dL_law_452 ?_
  refine y_ti (nI_add _ _) ?_
  refine y_sld hg hX (4 * k + 1) rfl (by omega) hL dL_law_453 ?_
  refine y_aload_n hg dL_law_454 rfl ?_
  refine y_iload_n hg dL_law_455 rfl ?_
  refine y_iconst (v := nI 2) hg dL_law_456 rfl ?_
  refine y_iadd hg dL_law_457 ?_
  refine y_ti (nI_add _ _) ?_
  refine y_sld hg hX (4 * k + 2) rfl (by omega) hL dL_law_458 ?_
  refine y_aload_n hg dL_law_459 rfl ?_
  refine y_iload_n hg dL_law_460 rfl ?_
  refine y_iconst (v := nI 3) hg dL_law_461 rfl ?_
  refine y_iadd hg dL_law_462 ?_
  refine y_ti (nI_add _ _) ?_
  refine y_sld hg hX (4 * k + 3) rfl (by omega) hL dL_law_463 ?_
  refine y_callV (As := [.int (xs (4 * k + 1)), .int (xs (4 * k + 2)), .int (xs (4 * k + 3))]) (rest := [.int r1]) hg (cM_allow (ll := l0) hW hM1 _ _ _) iX3_allow q1223 hM1.1.m cf3 rfl rfl (by show 1 ≤ 8; decide) (by omega) (by omega) (by decide) dL_law_464 (fun v s2 hp => ?_)
  obtain ⟨r2, rfl, e2, hM2, hF2⟩ := hp
  refine y_icmp_eq hg 1079 dL_law_467 (by decide) (fun _ => ?_) (fun hF => absurd (e1.trans e2.symm) hF)
  have hW2 := wAllow hW (xs (4 * k + 1)) (xs (4 * k + 2)) (xs (4 * k + 3))
  exact kk _ _ s2 _ _ hW2 (hR1.byM hW2.1.2 hF2) hM2 (by omega) (by omega)
theorem lw_c12 (hg : Gd g l0 B "BagPhrasesLaw" cL_law 4 1000 mc ms) (hX : ScX g b Ls xs) (hL : Ls ≤ 256) (htr : l0.stackTraces = false) (hk : 4 * k + 4 ≤ Ls) (hW : WFA A) (hR : RX B A sd s) (hM : RMm B A sd s) (h1 : cu + 30 ≤ mc) (h2 : su + 300 ≤ ms) (kk : KL g B b k cu su) : YY g 4 s cu su 472 [(0, .ref b), (1, .ref (B.1 + 0)), (2, .ref (B.1 + 157)), (3, .int (nI (4 * k)))] [] := by
  refine y_aload_n hg dL_law_472 rfl ?_
  refine y_callV (As := []) (rest := []) hg (cX_undo (ll := l0) hW hR ) iX0_undo q502 hR.1.x cf0 rfl rfl (by decide) (by omega) (by omega) (by decide) dL_law_473 (fun v s1 hp => ?_)
  obtain ⟨r1, rfl, e1, hR1, hF1⟩ := hp
  have hM1 := hM.byX hF1
  refine y_aload_n hg dL_law_476 rfl ?_
  refine y_callV (As := []) (rest := [.int r1]) hg (cM_undo (ll := l0) hW hM1 ) iX3_undo q1228 hM1.1.m cf3 rfl rfl (by show 1 ≤ 8; decide) (by omega) (by omega) (by decide) dL_law_477 (fun v s2 hp => ?_)
  obtain ⟨r2, rfl, e2, hM2, hF2⟩ := hp
  refine y_icmp_eq hg 1079 dL_law_480 (by decide) (fun _ => ?_) (fun hF => absurd (e1.trans e2.symm) hF)
  have hW2 := wUndo hW
  exact kk _ _ s2 _ _ hW2 (hR1.byM hW2.1.2 hF2) hM2 (by omega) (by omega)
theorem lw_c13 (hg : Gd g l0 B "BagPhrasesLaw" cL_law 4 1000 mc ms) (hX : ScX g b Ls xs) (hL : Ls ≤ 256) (htr : l0.stackTraces = false) (hk : 4 * k + 4 ≤ Ls) (hW : WFA A) (hR : RX B A sd s) (hM : RMm B A sd s) (h1 : cu + 30 ≤ mc) (h2 : su + 300 ≤ ms) (kk : KL g B b k cu su) : YY g 4 s cu su 485 [(0, .ref b), (1, .ref (B.1 + 0)), (2, .ref (B.1 + 157)), (3, .int (nI (4 * k)))] [] := by
  refine y_aload_n hg dL_law_485 rfl ?_
  refine y_aload_n hg dL_law_486 rfl ?_
  refine y_iload_n hg dL_law_487 rfl ?_
  refine y_iconst (v := nI 1) hg dL_law_488 rfl ?_
  refine y_iadd hg dL_law_489 ?_
  refine y_ti (nI_add _ _) ?_
  refine y_sld hg hX (4 * k + 1) rfl (by omega) hL dL_law_490 ?_
  refine y_callV (As := [.int (xs (4 * k + 1))]) (rest := []) hg (cX_many (ll := l0) hW hR _) iX0_many q506 hR.1.x cf0 rfl rfl (by decide) (by omega) (by omega) (by decide) dL_law_491 (fun v s1 hp => ?_)
  obtain ⟨r1, rfl, e1, hR1, hF1⟩ := hp
  have hM1 := hM.byX hF1
  refine y_aload_n hg dL_law_494 rfl ?_
  refine y_aload_n hg dL_law_495 rfl ?_
  refine y_iload_n hg dL_law_496 rfl ?_
  refine y_iconst (v := nI 1) hg dL_law_497 rfl ?_
  refine y_iadd hg dL_law_498 ?_
  refine y_ti (nI_add _ _) ?_
  refine y_sld hg hX (4 * k + 1) rfl (by omega) hL dL_law_499 ?_
  refine y_callV (As := [.int (xs (4 * k + 1))]) (rest := [.long r1]) hg (cM_many (ll := l0) hW hM1 _) iX3_many q1232 hM1.1.m cf3 rfl rfl (by show 2 ≤ 8; decide) (by omega) (by omega) (by decide) dL_law_500 (fun v s2 hp => ?_)
  obtain ⟨r2, rfl, e2, hM2, hF2⟩ := hp
  refine y_lc_eq hg 1079 dL_law_503 dL_law_504 (by decide) (fun _ => ?_) (fun hF => absurd (e1.trans e2.symm) hF)
  have hW2 := hW
  exact kk _ _ s2 _ _ hW2 (hR1.byM hW2.1.2 hF2) hM2 (by omega) (by omega)
theorem lw_c14 (hg : Gd g l0 B "BagPhrasesLaw" cL_law 4 1000 mc ms) (hX : ScX g b Ls xs) (hL : Ls ≤ 256) (htr : l0.stackTraces = false) (hk : 4 * k + 4 ≤ Ls) (hW : WFA A) (hR : RX B A sd s) (hM : RMm B A sd s) (h1 : cu + 30 ≤ mc) (h2 : su + 300 ≤ ms) (kk : KL g B b k cu su) : YY g 4 s cu su 509 [(0, .ref b), (1, .ref (B.1 + 0)), (2, .ref (B.1 + 157)), (3, .int (nI (4 * k)))] [] := by
  refine y_aload_n hg dL_law_509 rfl ?_
  refine y_aload_n hg dL_law_510 rfl ?_
  refine y_iload_n hg dL_law_511 rfl ?_
  refine y_iconst (v := nI 1) hg dL_law_512 rfl ?_
  refine y_iadd hg dL_law_513 ?_
  refine y_ti (nI_add _ _) ?_
  refine y_sld hg hX (4 * k + 1) rfl (by omega) hL dL_law_514 ?_
  refine y_callV (As := [.int (xs (4 * k + 1))]) (rest := []) hg (cX_having (ll := l0) hW hR _) iX0_having q516 hR.1.x cf0 rfl rfl (by decide) (by omega) (by omega) (by decide) dL_law_515 (fun v s1 hp => ?_)
  obtain ⟨r1, rfl, e1, hR1, hF1⟩ := hp
  have hM1 := hM.byX hF1
  refine y_aload_n hg dL_law_518 rfl ?_
  refine y_aload_n hg dL_law_519 rfl ?_
  refine y_iload_n hg dL_law_520 rfl ?_
  refine y_iconst (v := nI 1) hg dL_law_521 rfl ?_
  refine y_iadd hg dL_law_522 ?_
  refine y_ti (nI_add _ _) ?_
  refine y_sld hg hX (4 * k + 1) rfl (by omega) hL dL_law_523 ?_
  refine y_callV (As := [.int (xs (4 * k + 1))]) (rest := [.long r1]) hg (cM_having (ll := l0) hW hM1 _) iX3_having q1238 hM1.1.m cf3 rfl rfl (by show 2 ≤ 8; decide) (by omega) (by omega) (by decide) dL_law_524 (fun v s2 hp => ?_)
  obtain ⟨r2, rfl, e2, hM2, hF2⟩ := hp
  refine y_lc_eq hg 1079 dL_law_527 dL_law_528 (by decide) (fun _ => ?_) (fun hF => absurd (e1.trans e2.symm) hF)
  have hW2 := hW
  exact kk _ _ s2 _ _ hW2 (hR1.byM hW2.1.2 hF2) hM2 (by omega) (by omega)
theorem lw_c15 (hg : Gd g l0 B "BagPhrasesLaw" cL_law 4 1000 mc ms) (hX : ScX g b Ls xs) (hL : Ls ≤ 256) (htr : l0.stackTraces = false) (hk : 4 * k + 4 ≤ Ls) (hW : WFA A) (hR : RX B A sd s) (hM : RMm B A sd s) (h1 : cu + 30 ≤ mc) (h2 : su + 300 ≤ ms) (kk : KL g B b k cu su) : YY g 4 s cu su 533 [(0, .ref b), (1, .ref (B.1 + 0)), (2, .ref (B.1 + 157)), (3, .int (nI (4 * k)))] [] := by
  refine y_aload_n hg dL_law_533 rfl ?_
  refine y_aload_n hg dL_law_534 rfl ?_
  refine y_iload_n hg dL_law_535 rfl ?_
  refine y_iconst (v := nI 1) hg dL_law_536 rfl ?_
  refine y_iadd hg dL_law_537 ?_
  refine y_ti (nI_add _ _) ?_
  refine y_sld hg hX (4 * k + 1) rfl (by omega) hL dL_law_538 ?_
  refine y_callV (As := [.int (xs (4 * k + 1))]) (rest := []) hg (cX_best (ll := l0) hW hR _) iX0_best q521 hR.1.x cf0 rfl rfl (by decide) (by omega) (by omega) (by decide) dL_law_539 (fun v s1 hp => ?_)
  obtain ⟨r1, rfl, e1, hR1, hF1⟩ := hp
  have hM1 := hM.byX hF1
  refine y_aload_n hg dL_law_542 rfl ?_
  refine y_aload_n hg dL_law_543 rfl ?_
  refine y_iload_n hg dL_law_544 rfl ?_
  refine y_iconst (v := nI 1) hg dL_law_545 rfl ?_
  refine y_iadd hg dL_law_546 ?_
  refine y_ti (nI_add _ _) ?_
  refine y_sld hg hX (4 * k + 1) rfl (by omega) hL dL_law_547 ?_
  refine y_callV (As := [.int (xs (4 * k + 1))]) (rest := [.int r1]) hg (cM_best (ll := l0) hW hM1 _) iX3_best q1243 hM1.1.m cf3 rfl rfl (by show 1 ≤ 8; decide) (by omega) (by omega) (by decide) dL_law_548 (fun v s2 hp => ?_)
  obtain ⟨r2, rfl, e2, hM2, hF2⟩ := hp
  refine y_icmp_eq hg 1079 dL_law_551 (by decide) (fun _ => ?_) (fun hF => absurd (e1.trans e2.symm) hF)
  have hW2 := hW
  exact kk _ _ s2 _ _ hW2 (hR1.byM hW2.1.2 hF2) hM2 (by omega) (by omega)
theorem lw_c16 (hg : Gd g l0 B "BagPhrasesLaw" cL_law 4 1000 mc ms) (hX : ScX g b Ls xs) (hL : Ls ≤ 256) (htr : l0.stackTraces = false) (hk : 4 * k + 4 ≤ Ls) (hW : WFA A) (hR : RX B A sd s) (hM : RMm B A sd s) (h1 : cu + 30 ≤ mc) (h2 : su + 300 ≤ ms) (kk : KL g B b k cu su) : YY g 4 s cu su 556 [(0, .ref b), (1, .ref (B.1 + 0)), (2, .ref (B.1 + 157)), (3, .int (nI (4 * k)))] [] := by
  refine y_aload_n hg dL_law_556 rfl ?_
  refine y_aload_n hg dL_law_557 rfl ?_
  refine y_iload_n hg dL_law_558 rfl ?_
  refine y_iconst (v := nI 1) hg dL_law_559 rfl ?_
  refine y_iadd hg dL_law_560 ?_
  refine y_ti (nI_add _ _) ?_
  refine y_sld hg hX (4 * k + 1) rfl (by omega) hL dL_law_561 ?_
  refine y_i2l hg dL_law_562 ?_
  refine y_bipush (v := nI 32) hg dL_law_563 rfl ?_
  refine y_lshl hg dL_law_565 ?_
  refine y_aload_n hg dL_law_566 rfl ?_
  refine y_iload_n hg dL_law_567 rfl ?_
  refine y_iconst (v := nI 2) hg dL_law_568 rfl ?_
  refine y_iadd hg dL_law_569 ?_
  refine y_ti (nI_add _ _) ?_
  refine y_sld hg hX (4 * k + 2) rfl (by omega) hL dL_law_570 ?_
  refine y_i2l hg dL_law_571 ?_
  refine y_ldc2 hg dL_law_572 q1388 ?_
  refine y_land hg dL_law_575 ?_
  refine y_lor hg dL_law_576 ?_
  refine y_aload_n hg dL_law_577 rfl ?_
  refine y_iload_n hg dL_law_578 rfl ?_
  refine y_iconst (v := nI 3) hg dL_law_579 rfl ?_
  refine y_iadd hg dL_law_580 ?_
  refine y_ti (nI_add _ _) ?_
  refine y_sld hg hX (4 * k + 3) rfl (by omega) hL dL_law_581 ?_
  refine y_callV (As := [.long _, .int (xs (4 * k + 3))]) (rest := []) hg (cX_phrase (ll := l0) hW hR _ _) iX0_phrase q541 hR.1.x cf0 rfl rfl (by decide) (by omega) (by omega) (by decide) dL_law_582 (fun v s1 hp => ?_)
  obtain ⟨r1, rfl, e1, hR1, hF1⟩ := hp
  have hM1 := hM.byX hF1
  refine y_aload_n hg dL_law_585 rfl ?_
  refine y_aload_n hg dL_law_586 rfl ?_
  refine y_iload_n hg dL_law_587 rfl ?_
  refine y_iconst (v := nI 1) hg dL_law_588 rfl ?_
  refine y_iadd hg dL_law_589 ?_
  refine y_ti (nI_add _ _) ?_
  refine y_sld hg hX (4 * k + 1) rfl (by omega) hL dL_law_590 ?_
  refine y_i2l hg dL_law_591 ?_
  refine y_bipush (v := nI 32) hg dL_law_592 rfl ?_
  refine y_lshl hg dL_law_594 ?_
  refine y_aload_n hg dL_law_595 rfl ?_
  refine y_iload_n hg dL_law_596 rfl ?_
  refine y_iconst (v := nI 2) hg dL_law_597 rfl ?_
  refine y_iadd hg dL_law_598 ?_
  refine y_ti (nI_add _ _) ?_
  refine y_sld hg hX (4 * k + 2) rfl (by omega) hL dL_law_599 ?_
  refine y_i2l hg dL_law_600 ?_
  refine y_ldc2 hg dL_law_601 q1388 ?_
  refine y_land hg dL_law_604 ?_
  refine y_lor hg dL_law_605 ?_
  refine y_aload_n hg dL_law_606 rfl ?_
  refine y_iload_n hg dL_law_607 rfl ?_
  refine y_iconst (v := nI 3) hg dL_law_608 rfl ?_
  refine y_iadd hg dL_law_609 ?_
  refine y_ti (nI_add _ _) ?_
  refine y_sld hg hX (4 * k + 3) rfl (by omega) hL dL_law_610 ?_
  refine y_callV (As := [.long _, .int (xs (4 * k + 3))]) (rest := [.int r1]) hg (cM_phrase (ll := l0) hW hM1 _ _) iX3_phrase q1264 hM1.1.m cf3 rfl rfl (by show 1 ≤ 8; decide) (by omega) (by omega) (by decide) dL_law_611 (fun v s2 hp => ?_)
  obtain ⟨r2, rfl, e2, hM2, hF2⟩ := hp
  refine y_icmp_eq hg 1079 dL_law_614 (by decide) (fun _ => ?_) (fun hF => absurd (e1.trans e2.symm) hF)
  have hW2 := hW
  exact kk _ _ s2 _ _ hW2 (hR1.byM hW2.1.2 hF2) hM2 (by omega) (by omega)
theorem lw_c17 (hg : Gd g l0 B "BagPhrasesLaw" cL_law 4 1000 mc ms) (hX : ScX g b Ls xs) (hL : Ls ≤ 256) (htr : l0.stackTraces = false) (hk : 4 * k + 4 ≤ Ls) (hW : WFA A) (hR : RX B A sd s) (hM : RMm B A sd s) (h1 : cu + 30 ≤ mc) (h2 : su + 300 ≤ ms) (kk : KL g B b k cu su) : YY g 4 s cu su 619 [(0, .ref b), (1, .ref (B.1 + 0)), (2, .ref (B.1 + 157)), (3, .int (nI (4 * k)))] [] := by
  refine y_aload_n hg dL_law_619 rfl ?_
  refine y_aload_n hg dL_law_620 rfl ?_
  refine y_iload_n hg dL_law_621 rfl ?_
  refine y_iconst (v := nI 1) hg dL_law_622 rfl ?_
  refine y_iadd hg dL_law_623 ?_
  refine y_ti (nI_add _ _) ?_
  refine y_sld hg hX (4 * k + 1) rfl (by omega) hL dL_law_624 ?_
  refine y_callV (As := [.int (xs (4 * k + 1))]) (rest := []) hg (cX_tell (ll := l0) hW hR _) iX0_tell q549 hR.1.x cf0 rfl rfl (by decide) (by omega) (by omega) (by decide) dL_law_625 (fun v s1 hp => ?_)
  obtain ⟨r1, rfl, e1, hR1, hF1⟩ := hp
  have hM1 := hM.byX hF1
  refine y_aload_n hg dL_law_628 rfl ?_
  refine y_aload_n hg dL_law_629 rfl ?_
  refine y_iload_n hg dL_law_630 rfl ?_
  refine y_iconst (v := nI 1) hg dL_law_631 rfl ?_
  refine y_iadd hg dL_law_632 ?_
  refine y_ti (nI_add _ _) ?_
  refine y_sld hg hX (4 * k + 1) rfl (by omega) hL dL_law_633 ?_
  refine y_callV (As := [.int (xs (4 * k + 1))]) (rest := [.int r1]) hg (cM_tell (ll := l0) hW hM1 _) iX3_tell q1272 hM1.1.m cf3 rfl rfl (by show 1 ≤ 8; decide) (by omega) (by omega) (by decide) dL_law_634 (fun v s2 hp => ?_)
  obtain ⟨r2, rfl, e2, hM2, hF2⟩ := hp
  refine y_icmp_eq hg 1079 dL_law_637 (by decide) (fun _ => ?_) (fun hF => absurd (e1.trans e2.symm) hF)
  have hW2 := wTell hW (xs (4 * k + 1))
  exact kk _ _ s2 _ _ hW2 (hR1.byM hW2.1.2 hF2) hM2 (by omega) (by omega)
theorem lw_c18 (hg : Gd g l0 B "BagPhrasesLaw" cL_law 4 1000 mc ms) (hX : ScX g b Ls xs) (hL : Ls ≤ 256) (htr : l0.stackTraces = false) (hk : 4 * k + 4 ≤ Ls) (hW : WFA A) (hR : RX B A sd s) (hM : RMm B A sd s) (h1 : cu + 30 ≤ mc) (h2 : su + 300 ≤ ms) (kk : KL g B b k cu su) : YY g 4 s cu su 642 [(0, .ref b), (1, .ref (B.1 + 0)), (2, .ref (B.1 + 157)), (3, .int (nI (4 * k)))] [] := by
  refine y_aload_n hg dL_law_642 rfl ?_
  refine y_callV (As := []) (rest := []) hg (cX_clear (ll := l0) hW hR ) iX0_clear q553 hR.1.x cf0 rfl rfl (by decide) (by omega) (by omega) (by decide) dL_law_643 (fun v s1 hp => ?_)
  obtain ⟨r1, rfl, e1, hR1, hF1⟩ := hp
  have hM1 := hM.byX hF1
  refine y_aload_n hg dL_law_646 rfl ?_
  refine y_callV (As := []) (rest := [.int r1]) hg (cM_clear (ll := l0) hW hM1 ) iX3_clear q1276 hM1.1.m cf3 rfl rfl (by show 1 ≤ 8; decide) (by omega) (by omega) (by decide) dL_law_647 (fun v s2 hp => ?_)
  obtain ⟨r2, rfl, e2, hM2, hF2⟩ := hp
  refine y_icmp_eq hg 1079 dL_law_650 (by decide) (fun _ => ?_) (fun hF => absurd (e1.trans e2.symm) hF)
  have hW2 := wZero hW (Or.inr (Or.inl rfl))
  exact kk _ _ s2 _ _ hW2 (hR1.byM hW2.1.2 hF2) hM2 (by omega) (by omega)
theorem lw_c19 (hg : Gd g l0 B "BagPhrasesLaw" cL_law 4 1000 mc ms) (hX : ScX g b Ls xs) (hL : Ls ≤ 256) (htr : l0.stackTraces = false) (hk : 4 * k + 4 ≤ Ls) (hW : WFA A) (hR : RX B A sd s) (hM : RMm B A sd s) (h1 : cu + 30 ≤ mc) (h2 : su + 300 ≤ ms) (kk : KL g B b k cu su) : YY g 4 s cu su 655 [(0, .ref b), (1, .ref (B.1 + 0)), (2, .ref (B.1 + 157)), (3, .int (nI (4 * k)))] [] := by
  refine y_aload_n hg dL_law_655 rfl ?_
  refine y_aload_n hg dL_law_656 rfl ?_
  refine y_iload_n hg dL_law_657 rfl ?_
  refine y_iconst (v := nI 1) hg dL_law_658 rfl ?_
  refine y_iadd hg dL_law_659 ?_
  refine y_ti (nI_add _ _) ?_
  refine y_sld hg hX (4 * k + 1) rfl (by omega) hL dL_law_660 ?_
  refine y_callXW (As := [.int (xs (4 * k + 1))]) (rest := []) hg (cX_why (ll := l0) htr hW hR _) iX0_why q557 hR.1.x cf0 rfl rfl (by decide) (by omega) (by omega) (by decide) dL_law_661 (fun v s1 hp => ?_) (fun E q s1 hp => hp.elim)
  obtain ⟨r1, rfl, e1, hR1, hF1⟩ := hp
  have hM1 := hM.byX hF1
  refine y_aload_n hg dL_law_664 rfl ?_
  refine y_aload_n hg dL_law_665 rfl ?_
  refine y_iload_n hg dL_law_666 rfl ?_
  refine y_iconst (v := nI 1) hg dL_law_667 rfl ?_
  refine y_iadd hg dL_law_668 ?_
  refine y_ti (nI_add _ _) ?_
  refine y_sld hg hX (4 * k + 1) rfl (by omega) hL dL_law_669 ?_
  refine y_callV (As := [.int (xs (4 * k + 1))]) (rest := [.int r1]) hg (cM_why (ll := l0) hW hM1 _) iX3_why q1280 hM1.1.m cf3 rfl rfl (by show 1 ≤ 8; decide) (by omega) (by omega) (by decide) dL_law_670 (fun v s2 hp => ?_)
  obtain ⟨r2, rfl, e2, hM2, hF2⟩ := hp
  refine y_icmp_eq hg 1079 dL_law_673 (by decide) (fun _ => ?_) (fun hF => absurd (e1.trans e2.symm) hF)
  have hW2 := hW
  exact kk _ _ s2 _ _ hW2 (hR1.byM hW2.1.2 hF2) hM2 (by omega) (by omega)
theorem lw_c20 (hg : Gd g l0 B "BagPhrasesLaw" cL_law 4 1000 mc ms) (hX : ScX g b Ls xs) (hL : Ls ≤ 256) (htr : l0.stackTraces = false) (hk : 4 * k + 4 ≤ Ls) (hW : WFA A) (hR : RX B A sd s) (hM : RMm B A sd s) (h1 : cu + 30 ≤ mc) (h2 : su + 300 ≤ ms) (kk : KL g B b k cu su) : YY g 4 s cu su 678 [(0, .ref b), (1, .ref (B.1 + 0)), (2, .ref (B.1 + 157)), (3, .int (nI (4 * k)))] [] := by
  refine y_aload_n hg dL_law_678 rfl ?_
  refine y_callV (As := []) (rest := []) hg (cX_number (ll := l0) htr hW hR ) iX0_number q801 hR.1.x cf0 rfl rfl (by decide) (by omega) (by omega) (by decide) dL_law_679 (fun v s1 hp => ?_)
  obtain ⟨r1, rfl, e1, hR1, hF1⟩ := hp
  have hM1 := hM.byX hF1
  refine y_aload_n hg dL_law_682 rfl ?_
  refine y_callV (As := []) (rest := [.long r1]) hg (cM_number (ll := l0) hW hM1 ) iX3_number q1292 hM1.1.m cf3 rfl rfl (by show 2 ≤ 8; decide) (by omega) (by omega) (by decide) dL_law_683 (fun v s2 hp => ?_)
  obtain ⟨r2, rfl, e2, hM2, hF2⟩ := hp
  refine y_lc_eq hg 1079 dL_law_686 dL_law_687 (by decide) (fun _ => ?_) (fun hF => absurd (e1.trans e2.symm) hF)
  have hW2 := hW
  exact kk _ _ s2 _ _ hW2 (hR1.byM hW2.1.2 hF2) hM2 (by omega) (by omega)
theorem lw_c21 (hg : Gd g l0 B "BagPhrasesLaw" cL_law 4 1000 mc ms) (hX : ScX g b Ls xs) (hL : Ls ≤ 256) (htr : l0.stackTraces = false) (hk : 4 * k + 4 ≤ Ls) (hW : WFA A) (hR : RX B A sd s) (hM : RMm B A sd s) (h1 : cu + 30 ≤ mc) (h2 : su + 300 ≤ ms) (kk : KL g B b k cu su) : YY g 4 s cu su 692 [(0, .ref b), (1, .ref (B.1 + 0)), (2, .ref (B.1 + 157)), (3, .int (nI (4 * k)))] [] := by
  refine y_aload_n hg dL_law_692 rfl ?_
  refine y_aload_n hg dL_law_693 rfl ?_
  refine y_iload_n hg dL_law_694 rfl ?_
  refine y_iconst (v := nI 1) hg dL_law_695 rfl ?_
  refine y_iadd hg dL_law_696 ?_
  refine y_ti (nI_add _ _) ?_
  refine y_sld hg hX (4 * k + 1) rfl (by omega) hL dL_law_697 ?_
  refine y_callV (As := [.int (xs (4 * k + 1))]) (rest := []) hg (cX_nearly (ll := l0) hW hR _) iX0_nearly q809 hR.1.x cf0 rfl rfl (by decide) (by omega) (by omega) (by decide) dL_law_698 (fun v s1 hp => ?_)
  obtain ⟨r1, rfl, e1, hR1, hF1⟩ := hp
  have hM1 := hM.byX hF1
  refine y_aload_n hg dL_law_701 rfl ?_
  refine y_aload_n hg dL_law_702 rfl ?_
  refine y_iload_n hg dL_law_703 rfl ?_
  refine y_iconst (v := nI 1) hg dL_law_704 rfl ?_
  refine y_iadd hg dL_law_705 ?_
  refine y_ti (nI_add _ _) ?_
  refine y_sld hg hX (4 * k + 1) rfl (by omega) hL dL_law_706 ?_
  refine y_callV (As := [.int (xs (4 * k + 1))]) (rest := [.int r1]) hg (cM_nearly (ll := l0) hW hM1 _) iX3_nearly q1297 hM1.1.m cf3 rfl rfl (by show 1 ≤ 8; decide) (by omega) (by omega) (by decide) dL_law_707 (fun v s2 hp => ?_)
  obtain ⟨r2, rfl, e2, hM2, hF2⟩ := hp
  refine y_icmp_eq hg 1079 dL_law_710 (by decide) (fun _ => ?_) (fun hF => absurd (e1.trans e2.symm) hF)
  have hW2 := hW
  exact kk _ _ s2 _ _ hW2 (hR1.byM hW2.1.2 hF2) hM2 (by omega) (by omega)
theorem lw_c22 (hg : Gd g l0 B "BagPhrasesLaw" cL_law 4 1000 mc ms) (hX : ScX g b Ls xs) (hL : Ls ≤ 256) (htr : l0.stackTraces = false) (hk : 4 * k + 4 ≤ Ls) (hW : WFA A) (hR : RX B A sd s) (hM : RMm B A sd s) (h1 : cu + 30 ≤ mc) (h2 : su + 300 ≤ ms) (kk : KL g B b k cu su) : YY g 4 s cu su 715 [(0, .ref b), (1, .ref (B.1 + 0)), (2, .ref (B.1 + 157)), (3, .int (nI (4 * k)))] [] := by
  refine y_aload_n hg dL_law_715 rfl ?_
  refine y_aload_n hg dL_law_716 rfl ?_
  refine y_iload_n hg dL_law_717 rfl ?_
  refine y_iconst (v := nI 1) hg dL_law_718 rfl ?_
  refine y_iadd hg dL_law_719 ?_
  refine y_ti (nI_add _ _) ?_
  refine y_sld hg hX (4 * k + 1) rfl (by omega) hL dL_law_720 ?_
  refine y_aload_n hg dL_law_721 rfl ?_
  refine y_iload_n hg dL_law_722 rfl ?_
  refine y_iconst (v := nI 2) hg dL_law_723 rfl ?_
  refine y_iadd hg dL_law_724 ?_
  refine y_ti (nI_add _ _) ?_
  refine y_sld hg hX (4 * k + 2) rfl (by omega) hL dL_law_725 ?_
  refine y_i2l hg dL_law_726 ?_
  refine y_bipush (v := nI 32) hg dL_law_727 rfl ?_
  refine y_lshl hg dL_law_729 ?_
  refine y_aload_n hg dL_law_730 rfl ?_
  refine y_iload_n hg dL_law_731 rfl ?_
  refine y_iconst (v := nI 3) hg dL_law_732 rfl ?_
  refine y_iadd hg dL_law_733 ?_
  refine y_ti (nI_add _ _) ?_
  refine y_sld hg hX (4 * k + 3) rfl (by omega) hL dL_law_734 ?_
  refine y_i2l hg dL_law_735 ?_
  refine y_ldc2 hg dL_law_736 q1388 ?_
  refine y_land hg dL_law_739 ?_
  refine y_lor hg dL_law_740 ?_
  refine y_callV (As := [.int (xs (4 * k + 1)), .long _]) (rest := []) hg (cX_judge (ll := l0) hW hR _ _) iX0_judge q813 hR.1.x cf0 rfl rfl (by decide) (by omega) (by omega) (by decide) dL_law_741 (fun v s1 hp => ?_)
  obtain ⟨r1, rfl, e1, hR1, hF1⟩ := hp
  have hM1 := hM.byX hF1
  refine y_aload_n hg dL_law_744 rfl ?_
  refine y_aload_n hg dL_law_745 rfl ?_
  refine y_iload_n hg dL_law_746 rfl ?_
  refine y_iconst (v := nI 1) hg dL_law_747 rfl ?_
  refine y_iadd hg dL_law_748 ?_
  refine y_ti (nI_add _ _) ?_
  refine y_sld hg hX (4 * k + 1) rfl (by omega) hL dL_law_749 ?_
  refine y_aload_n hg dL_law_750 rfl ?_
  refine y_iload_n hg dL_law_751 rfl ?_
  refine y_iconst (v := nI 2) hg dL_law_752 rfl ?_
  refine y_iadd hg dL_law_753 ?_
  refine y_ti (nI_add _ _) ?_
  refine y_sld hg hX (4 * k + 2) rfl (by omega) hL dL_law_754 ?_
  refine y_i2l hg dL_law_755 ?_
  refine y_bipush (v := nI 32) hg dL_law_756 rfl ?_
  refine y_lshl hg dL_law_758 ?_
  refine y_aload_n hg dL_law_759 rfl ?_
  refine y_iload_n hg dL_law_760 rfl ?_
  refine y_iconst (v := nI 3) hg dL_law_761 rfl ?_
  refine y_iadd hg dL_law_762 ?_
  refine y_ti (nI_add _ _) ?_
  refine y_sld hg hX (4 * k + 3) rfl (by omega) hL dL_law_763 ?_
  refine y_i2l hg dL_law_764 ?_
  refine y_ldc2 hg dL_law_765 q1388 ?_
  refine y_land hg dL_law_768 ?_
  refine y_lor hg dL_law_769 ?_
  refine y_callV (As := [.int (xs (4 * k + 1)), .long _]) (rest := [.int r1]) hg (cM_judge (ll := l0) hW hM1 _ _) iX3_judge q1301 hM1.1.m cf3 rfl rfl (by show 1 ≤ 8; decide) (by omega) (by omega) (by decide) dL_law_770 (fun v s2 hp => ?_)
  obtain ⟨r2, rfl, e2, hM2, hF2⟩ := hp
  refine y_icmp_eq hg 1079 dL_law_773 (by decide) (fun _ => ?_) (fun hF => absurd (e1.trans e2.symm) hF)
  have hW2 := hW
  exact kk _ _ s2 _ _ hW2 (hR1.byM hW2.1.2 hF2) hM2 (by omega) (by omega)
theorem lw_c23 (hg : Gd g l0 B "BagPhrasesLaw" cL_law 4 1000 mc ms) (hX : ScX g b Ls xs) (hL : Ls ≤ 256) (htr : l0.stackTraces = false) (hk : 4 * k + 4 ≤ Ls) (hW : WFA A) (hR : RX B A sd s) (hM : RMm B A sd s) (h1 : cu + 30 ≤ mc) (h2 : su + 300 ≤ ms) (kk : KL g B b k cu su) : YY g 4 s cu su 778 [(0, .ref b), (1, .ref (B.1 + 0)), (2, .ref (B.1 + 157)), (3, .int (nI (4 * k)))] [] := by
  refine y_aload_n hg dL_law_778 rfl ?_
  refine y_aload_n hg dL_law_779 rfl ?_
  refine y_iload_n hg dL_law_780 rfl ?_
  refine y_iconst (v := nI 1) hg dL_law_781 rfl ?_
  refine y_iadd hg dL_law_782 ?_
  refine y_ti (nI_add _ _) ?_
  refine y_sld hg hX (4 * k + 1) rfl (by omega) hL dL_law_783 ?_
  refine y_aload_n hg dL_law_784 rfl ?_
  refine y_iload_n hg dL_law_785 rfl ?_
  refine y_iconst (v := nI 2) hg dL_law_786 rfl ?_
  refine y_iadd hg dL_law_787 ?_
  refine y_ti (nI_add _ _) ?_
  refine y_sld hg hX (4 * k + 2) rfl (by omega) hL dL_law_788 ?_
  refine y_aload_n hg dL_law_789 rfl ?_
  refine y_iload_n hg dL_law_790 rfl ?_
  refine y_iconst (v := nI 3) hg dL_law_791 rfl ?_
  refine y_iadd hg dL_law_792 ?_
  refine y_ti (nI_add _ _) ?_
  refine y_sld hg hX (4 * k + 3) rfl (by omega) hL dL_law_793 ?_
  refine y_callV (As := [.int (xs (4 * k + 1)), .int (xs (4 * k + 2)), .int (xs (4 * k + 3))]) (rest := []) hg (cX_see (ll := l0) hW hR _ _ _) iX0_see q830 hR.1.x cf0 rfl rfl (by decide) (by omega) (by omega) (by decide) dL_law_794 (fun v s1 hp => ?_)
  obtain ⟨r1, rfl, e1, hR1, hF1⟩ := hp
  have hM1 := hM.byX hF1
  refine y_aload_n hg dL_law_797 rfl ?_
  refine y_aload_n hg dL_law_798 rfl ?_
  refine y_iload_n hg dL_law_799 rfl ?_
  refine y_iconst (v := nI 1) hg dL_law_800 rfl ?_
  refine y_iadd hg dL_law_801 ?_
  refine y_ti (nI_add _ _) ?_
  refine y_sld hg hX (4 * k + 1) rfl (by omega) hL dL_law_802 ?_
  refine y_aload_n hg dL_law_803 rfl ?_
  refine y_iload_n hg dL_law_804 rfl ?_
  refine y_iconst (v := nI 2) hg dL_law_805 rfl ?_
  refine y_iadd hg dL_law_806 ?_
  refine y_ti (nI_add _ _) ?_
  refine y_sld hg hX (4 * k + 2) rfl (by omega) hL dL_law_807 ?_
  refine y_aload_n hg dL_law_808 rfl ?_
  refine y_iload_n hg dL_law_809 rfl ?_
  refine y_iconst (v := nI 3) hg dL_law_810 rfl ?_
  refine y_iadd hg dL_law_811 ?_
  refine y_ti (nI_add _ _) ?_
  refine y_sld hg hX (4 * k + 3) rfl (by omega) hL dL_law_812 ?_
  refine y_callV (As := [.int (xs (4 * k + 1)), .int (xs (4 * k + 2)), .int (xs (4 * k + 3))]) (rest := [.int r1]) hg (cM_see (ll := l0) hW hM1 _ _ _) iX3_see q1314 hM1.1.m cf3 rfl rfl (by show 1 ≤ 8; decide) (by omega) (by omega) (by decide) dL_law_813 (fun v s2 hp => ?_)
  obtain ⟨r2, rfl, e2, hM2, hF2⟩ := hp
  refine y_icmp_eq hg 1079 dL_law_816 (by decide) (fun _ => ?_) (fun hF => absurd (e1.trans e2.symm) hF)
  have hW2 := wSee hW (xs (4 * k + 1)) (xs (4 * k + 2)) (xs (4 * k + 3))
  exact kk _ _ s2 _ _ hW2 (hR1.byM hW2.1.2 hF2) hM2 (by omega) (by omega)
theorem lw_c24 (hg : Gd g l0 B "BagPhrasesLaw" cL_law 4 1000 mc ms) (hX : ScX g b Ls xs) (hL : Ls ≤ 256) (htr : l0.stackTraces = false) (hk : 4 * k + 4 ≤ Ls) (hW : WFA A) (hR : RX B A sd s) (hM : RMm B A sd s) (h1 : cu + 30 ≤ mc) (h2 : su + 300 ≤ ms) (kk : KL g B b k cu su) : YY g 4 s cu su 821 [(0, .ref b), (1, .ref (B.1 + 0)), (2, .ref (B.1 + 157)), (3, .int (nI (4 * k)))] [] := by
  refine y_aload_n hg dL_law_821 rfl ?_
  refine y_callV (As := []) (rest := []) hg (cX_unsee (ll := l0) hW hR ) iX0_unsee q834 hR.1.x cf0 rfl rfl (by decide) (by omega) (by omega) (by decide) dL_law_822 (fun v s1 hp => ?_)
  obtain ⟨r1, rfl, e1, hR1, hF1⟩ := hp
  have hM1 := hM.byX hF1
  refine y_aload_n hg dL_law_825 rfl ?_
  refine y_callV (As := []) (rest := [.int r1]) hg (cM_unsee (ll := l0) hW hM1 ) iX3_unsee q1318 hM1.1.m cf3 rfl rfl (by show 1 ≤ 8; decide) (by omega) (by omega) (by decide) dL_law_826 (fun v s2 hp => ?_)
  obtain ⟨r2, rfl, e2, hM2, hF2⟩ := hp
  refine y_icmp_eq hg 1079 dL_law_829 (by decide) (fun _ => ?_) (fun hF => absurd (e1.trans e2.symm) hF)
  have hW2 := wZero hW (Or.inr (Or.inr rfl))
  exact kk _ _ s2 _ _ hW2 (hR1.byM hW2.1.2 hF2) hM2 (by omega) (by omega)
theorem lw_c25 (hg : Gd g l0 B "BagPhrasesLaw" cL_law 4 1000 mc ms) (hX : ScX g b Ls xs) (hL : Ls ≤ 256) (htr : l0.stackTraces = false) (hk : 4 * k + 4 ≤ Ls) (hW : WFA A) (hR : RX B A sd s) (hM : RMm B A sd s) (h1 : cu + 30 ≤ mc) (h2 : su + 300 ≤ ms) (kk : KL g B b k cu su) : YY g 4 s cu su 834 [(0, .ref b), (1, .ref (B.1 + 0)), (2, .ref (B.1 + 157)), (3, .int (nI (4 * k)))] [] := by
  refine y_aload_n hg dL_law_834 rfl ?_
  refine y_aload_n hg dL_law_835 rfl ?_
  refine y_iload_n hg dL_law_836 rfl ?_
  refine y_iconst (v := nI 1) hg dL_law_837 rfl ?_
  refine y_iadd hg dL_law_838 ?_
  refine y_ti (nI_add _ _) ?_
  refine y_sld hg hX (4 * k + 1) rfl (by omega) hL dL_law_839 ?_
  refine y_callV (As := [.int (xs (4 * k + 1))]) (rest := []) hg (cX_left (ll := l0) hW hR _) iX0_left q838 hR.1.x cf0 rfl rfl (by decide) (by omega) (by omega) (by decide) dL_law_840 (fun v s1 hp => ?_)
  obtain ⟨r1, rfl, e1, hR1, hF1⟩ := hp
  have hM1 := hM.byX hF1
  refine y_aload_n hg dL_law_843 rfl ?_
  refine y_aload_n hg dL_law_844 rfl ?_
  refine y_iload_n hg dL_law_845 rfl ?_
  refine y_iconst (v := nI 1) hg dL_law_846 rfl ?_
  refine y_iadd hg dL_law_847 ?_
  refine y_ti (nI_add _ _) ?_
  refine y_sld hg hX (4 * k + 1) rfl (by omega) hL dL_law_848 ?_
  refine y_callV (As := [.int (xs (4 * k + 1))]) (rest := [.int r1]) hg (cM_left (ll := l0) hW hM1 _) iX3_left q1322 hM1.1.m cf3 rfl rfl (by show 1 ≤ 8; decide) (by omega) (by omega) (by decide) dL_law_849 (fun v s2 hp => ?_)
  obtain ⟨r2, rfl, e2, hM2, hF2⟩ := hp
  refine y_icmp_eq hg 1079 dL_law_852 (by decide) (fun _ => ?_) (fun hF => absurd (e1.trans e2.symm) hF)
  have hW2 := hW
  exact kk _ _ s2 _ _ hW2 (hR1.byM hW2.1.2 hF2) hM2 (by omega) (by omega)
theorem lw_c26 (hg : Gd g l0 B "BagPhrasesLaw" cL_law 4 1000 mc ms) (hX : ScX g b Ls xs) (hL : Ls ≤ 256) (htr : l0.stackTraces = false) (hk : 4 * k + 4 ≤ Ls) (hW : WFA A) (hR : RX B A sd s) (hM : RMm B A sd s) (h1 : cu + 30 ≤ mc) (h2 : su + 300 ≤ ms) (kk : KL g B b k cu su) : YY g 4 s cu su 857 [(0, .ref b), (1, .ref (B.1 + 0)), (2, .ref (B.1 + 157)), (3, .int (nI (4 * k)))] [] := by
  by_cases hu : xs (4 * k + 2) = 0
  · refine y_aload_n hg dL_law_857 rfl ?_
    refine y_aload_n hg dL_law_858 rfl ?_
    refine y_iload_n hg dL_law_859 rfl ?_
    refine y_iconst (v := nI 1) hg dL_law_860 rfl ?_
    refine y_iadd hg dL_law_861 ?_
    refine y_ti (nI_add _ _) ?_
    refine y_sld hg hX (4 * k + 1) rfl (by omega) hL dL_law_862 ?_
    refine y_aload_n hg dL_law_863 rfl ?_
    refine y_iload_n hg dL_law_864 rfl ?_
    refine y_iconst (v := nI 2) hg dL_law_865 rfl ?_
    refine y_iadd hg dL_law_866 ?_
    refine y_ti (nI_add _ _) ?_
    refine y_sld hg hX (4 * k + 2) rfl (by omega) hL dL_law_867 ?_
    refine y_if_eq hg 875 dL_law_868 (by decide) (fun _ => ?_) (fun hF => absurd hu hF)
    refine y_iconst (v := nI 0) hg dL_law_875 rfl ?_
    refine y_callV (As := [.int (xs (4 * k + 1)), .int (nI 0)]) (rest := []) hg (cX_share (ll := l0) hW hR _ _) iX0_share q851 hR.1.x cf0 rfl rfl (by decide) (by omega) (by omega) (by decide) dL_law_876 (fun v s1 hp => ?_)
    obtain ⟨r1, rfl, e1, hR1, hF1⟩ := hp
    have hM1 := hM.byX hF1
    refine y_aload_n hg dL_law_879 rfl ?_
    refine y_aload_n hg dL_law_880 rfl ?_
    refine y_iload_n hg dL_law_881 rfl ?_
    refine y_iconst (v := nI 1) hg dL_law_882 rfl ?_
    refine y_iadd hg dL_law_883 ?_
    refine y_ti (nI_add _ _) ?_
    refine y_sld hg hX (4 * k + 1) rfl (by omega) hL dL_law_884 ?_
    refine y_aload_n hg dL_law_885 rfl ?_
    refine y_iload_n hg dL_law_886 rfl ?_
    refine y_iconst (v := nI 2) hg dL_law_887 rfl ?_
    refine y_iadd hg dL_law_888 ?_
    refine y_ti (nI_add _ _) ?_
    refine y_sld hg hX (4 * k + 2) rfl (by omega) hL dL_law_889 ?_
    refine y_if_eq hg 897 dL_law_890 (by decide) (fun _ => ?_) (fun hF => absurd hu hF)
    refine y_iconst (v := nI 0) hg dL_law_897 rfl ?_
    refine y_callV (As := [.int (xs (4 * k + 1)), .int (nI 0)]) (rest := [.long r1]) hg (cM_share (ll := l0) hW hM1 _ _) iX3_share q1331 hM1.1.m cf3 rfl rfl (by show 2 ≤ 8; decide) (by omega) (by omega) (by decide) dL_law_898 (fun v s2 hp => ?_)
    obtain ⟨r2, rfl, e2, hM2, hF2⟩ := hp
    refine y_lc_eq hg 1079 dL_law_901 dL_law_902 (by decide) (fun _ => ?_) (fun hF => absurd (e1.trans e2.symm) hF)
    have hW2 := hW
    exact kk _ _ s2 _ _ hW2 (hR1.byM hW2.1.2 hF2) hM2 (by omega) (by omega)
  · refine y_aload_n hg dL_law_857 rfl ?_
    refine y_aload_n hg dL_law_858 rfl ?_
    refine y_iload_n hg dL_law_859 rfl ?_
    refine y_iconst (v := nI 1) hg dL_law_860 rfl ?_
    refine y_iadd hg dL_law_861 ?_
    refine y_ti (nI_add _ _) ?_
    refine y_sld hg hX (4 * k + 1) rfl (by omega) hL dL_law_862 ?_
    refine y_aload_n hg dL_law_863 rfl ?_
    refine y_iload_n hg dL_law_864 rfl ?_
    refine y_iconst (v := nI 2) hg dL_law_865 rfl ?_
    refine y_iadd hg dL_law_866 ?_
    refine y_ti (nI_add _ _) ?_
    refine y_sld hg hX (4 * k + 2) rfl (by omega) hL dL_law_867 ?_
    refine y_if_eq hg 875 dL_law_868 (by decide) (fun hT => absurd hT hu) (fun _ => ?_)
    refine y_iconst (v := nI 1) hg dL_law_871 rfl ?_
    refine y_goto hg 876 dL_law_872 (by decide) ?_
    refine y_callV (As := [.int (xs (4 * k + 1)), .int (nI 1)]) (rest := []) hg (cX_share (ll := l0) hW hR _ _) iX0_share q851 hR.1.x cf0 rfl rfl (by decide) (by omega) (by omega) (by decide) dL_law_876 (fun v s1 hp => ?_)
    obtain ⟨r1, rfl, e1, hR1, hF1⟩ := hp
    have hM1 := hM.byX hF1
    refine y_aload_n hg dL_law_879 rfl ?_
    refine y_aload_n hg dL_law_880 rfl ?_
    refine y_iload_n hg dL_law_881 rfl ?_
    refine y_iconst (v := nI 1) hg dL_law_882 rfl ?_
    refine y_iadd hg dL_law_883 ?_
    refine y_ti (nI_add _ _) ?_
    refine y_sld hg hX (4 * k + 1) rfl (by omega) hL dL_law_884 ?_
    refine y_aload_n hg dL_law_885 rfl ?_
    refine y_iload_n hg dL_law_886 rfl ?_
    refine y_iconst (v := nI 2) hg dL_law_887 rfl ?_
    refine y_iadd hg dL_law_888 ?_
    refine y_ti (nI_add _ _) ?_
    refine y_sld hg hX (4 * k + 2) rfl (by omega) hL dL_law_889 ?_
    refine y_if_eq hg 897 dL_law_890 (by decide) (fun hT => absurd hT hu) (fun _ => ?_)
    refine y_iconst (v := nI 1) hg dL_law_893 rfl ?_
    refine y_goto hg 898 dL_law_894 (by decide) ?_
    refine y_callV (As := [.int (xs (4 * k + 1)), .int (nI 1)]) (rest := [.long r1]) hg (cM_share (ll := l0) hW hM1 _ _) iX3_share q1331 hM1.1.m cf3 rfl rfl (by show 2 ≤ 8; decide) (by omega) (by omega) (by decide) dL_law_898 (fun v s2 hp => ?_)
    obtain ⟨r2, rfl, e2, hM2, hF2⟩ := hp
    refine y_lc_eq hg 1079 dL_law_901 dL_law_902 (by decide) (fun _ => ?_) (fun hF => absurd (e1.trans e2.symm) hF)
    have hW2 := hW
    exact kk _ _ s2 _ _ hW2 (hR1.byM hW2.1.2 hF2) hM2 (by omega) (by omega)
theorem lw_c27 (hg : Gd g l0 B "BagPhrasesLaw" cL_law 4 1000 mc ms) (hX : ScX g b Ls xs) (hL : Ls ≤ 256) (htr : l0.stackTraces = false) (hk : 4 * k + 4 ≤ Ls) (hW : WFA A) (hR : RX B A sd s) (hM : RMm B A sd s) (h1 : cu + 30 ≤ mc) (h2 : su + 300 ≤ ms) (kk : KL g B b k cu su) : YY g 4 s cu su 907 [(0, .ref b), (1, .ref (B.1 + 0)), (2, .ref (B.1 + 157)), (3, .int (nI (4 * k)))] [] := by
  by_cases hu : xs (4 * k + 2) = 0
  · refine y_aload_n hg dL_law_907 rfl ?_
    refine y_aload_n hg dL_law_908 rfl ?_
    refine y_iload_n hg dL_law_909 rfl ?_
    refine y_iconst (v := nI 1) hg dL_law_910 rfl ?_
    refine y_iadd hg dL_law_911 ?_
    refine y_ti (nI_add _ _) ?_
    refine y_sld hg hX (4 * k + 1) rfl (by omega) hL dL_law_912 ?_
    refine y_aload_n hg dL_law_913 rfl ?_
    refine y_iload_n hg dL_law_914 rfl ?_
    refine y_iconst (v := nI 2) hg dL_law_915 rfl ?_
    refine y_iadd hg dL_law_916 ?_
    refine y_ti (nI_add _ _) ?_
    refine y_sld hg hX (4 * k + 2) rfl (by omega) hL dL_law_917 ?_
    refine y_if_eq hg 925 dL_law_918 (by decide) (fun _ => ?_) (fun hF => absurd hu hF)
    refine y_iconst (v := nI 0) hg dL_law_925 rfl ?_
    refine y_callV (As := [.int (xs (4 * k + 1)), .int (nI 0)]) (rest := []) hg (cX_hope (ll := l0) hW hR _ _) iX0_hope q875 hR.1.x cf0 rfl rfl (by decide) (by omega) (by omega) (by decide) dL_law_926 (fun v s1 hp => ?_)
    obtain ⟨r1, rfl, e1, hR1, hF1⟩ := hp
    have hM1 := hM.byX hF1
    refine y_aload_n hg dL_law_929 rfl ?_
    refine y_aload_n hg dL_law_930 rfl ?_
    refine y_iload_n hg dL_law_931 rfl ?_
    refine y_iconst (v := nI 1) hg dL_law_932 rfl ?_
    refine y_iadd hg dL_law_933 ?_
    refine y_ti (nI_add _ _) ?_
    refine y_sld hg hX (4 * k + 1) rfl (by omega) hL dL_law_934 ?_
    refine y_aload_n hg dL_law_935 rfl ?_
    refine y_iload_n hg dL_law_936 rfl ?_
    refine y_iconst (v := nI 2) hg dL_law_937 rfl ?_
    refine y_iadd hg dL_law_938 ?_
    refine y_ti (nI_add _ _) ?_
    refine y_sld hg hX (4 * k + 2) rfl (by omega) hL dL_law_939 ?_
    refine y_if_eq hg 947 dL_law_940 (by decide) (fun _ => ?_) (fun hF => absurd hu hF)
    refine y_iconst (v := nI 0) hg dL_law_947 rfl ?_
    refine y_callV (As := [.int (xs (4 * k + 1)), .int (nI 0)]) (rest := [.int r1]) hg (cM_hope (ll := l0) hW hM1 _ _) iX3_hope q1361 hM1.1.m cf3 rfl rfl (by show 1 ≤ 8; decide) (by omega) (by omega) (by decide) dL_law_948 (fun v s2 hp => ?_)
    obtain ⟨r2, rfl, e2, hM2, hF2⟩ := hp
    refine y_icmp_eq hg 1079 dL_law_951 (by decide) (fun _ => ?_) (fun hF => absurd (e1.trans e2.symm) hF)
    have hW2 := hW
    exact kk _ _ s2 _ _ hW2 (hR1.byM hW2.1.2 hF2) hM2 (by omega) (by omega)
  · refine y_aload_n hg dL_law_907 rfl ?_
    refine y_aload_n hg dL_law_908 rfl ?_
    refine y_iload_n hg dL_law_909 rfl ?_
    refine y_iconst (v := nI 1) hg dL_law_910 rfl ?_
    refine y_iadd hg dL_law_911 ?_
    refine y_ti (nI_add _ _) ?_
    refine y_sld hg hX (4 * k + 1) rfl (by omega) hL dL_law_912 ?_
    refine y_aload_n hg dL_law_913 rfl ?_
    refine y_iload_n hg dL_law_914 rfl ?_
    refine y_iconst (v := nI 2) hg dL_law_915 rfl ?_
    refine y_iadd hg dL_law_916 ?_
    refine y_ti (nI_add _ _) ?_
    refine y_sld hg hX (4 * k + 2) rfl (by omega) hL dL_law_917 ?_
    refine y_if_eq hg 925 dL_law_918 (by decide) (fun hT => absurd hT hu) (fun _ => ?_)
    refine y_iconst (v := nI 1) hg dL_law_921 rfl ?_
    refine y_goto hg 926 dL_law_922 (by decide) ?_
    refine y_callV (As := [.int (xs (4 * k + 1)), .int (nI 1)]) (rest := []) hg (cX_hope (ll := l0) hW hR _ _) iX0_hope q875 hR.1.x cf0 rfl rfl (by decide) (by omega) (by omega) (by decide) dL_law_926 (fun v s1 hp => ?_)
    obtain ⟨r1, rfl, e1, hR1, hF1⟩ := hp
    have hM1 := hM.byX hF1
    refine y_aload_n hg dL_law_929 rfl ?_
    refine y_aload_n hg dL_law_930 rfl ?_
    refine y_iload_n hg dL_law_931 rfl ?_
    refine y_iconst (v := nI 1) hg dL_law_932 rfl ?_
    refine y_iadd hg dL_law_933 ?_
    refine y_ti (nI_add _ _) ?_
    refine y_sld hg hX (4 * k + 1) rfl (by omega) hL dL_law_934 ?_
    refine y_aload_n hg dL_law_935 rfl ?_
    refine y_iload_n hg dL_law_936 rfl ?_
    refine y_iconst (v := nI 2) hg dL_law_937 rfl ?_
    refine y_iadd hg dL_law_938 ?_
    refine y_ti (nI_add _ _) ?_
    refine y_sld hg hX (4 * k + 2) rfl (by omega) hL dL_law_939 ?_
    refine y_if_eq hg 947 dL_law_940 (by decide) (fun hT => absurd hT hu) (fun _ => ?_)
    refine y_iconst (v := nI 1) hg dL_law_943 rfl ?_
    refine y_goto hg 948 dL_law_944 (by decide) ?_
    refine y_callV (As := [.int (xs (4 * k + 1)), .int (nI 1)]) (rest := [.int r1]) hg (cM_hope (ll := l0) hW hM1 _ _) iX3_hope q1361 hM1.1.m cf3 rfl rfl (by show 1 ≤ 8; decide) (by omega) (by omega) (by decide) dL_law_948 (fun v s2 hp => ?_)
    obtain ⟨r2, rfl, e2, hM2, hF2⟩ := hp
    refine y_icmp_eq hg 1079 dL_law_951 (by decide) (fun _ => ?_) (fun hF => absurd (e1.trans e2.symm) hF)
    have hW2 := hW
    exact kk _ _ s2 _ _ hW2 (hR1.byM hW2.1.2 hF2) hM2 (by omega) (by omega)
theorem lw_c28 (hg : Gd g l0 B "BagPhrasesLaw" cL_law 4 1000 mc ms) (hX : ScX g b Ls xs) (hL : Ls ≤ 256) (htr : l0.stackTraces = false) (hk : 4 * k + 4 ≤ Ls) (hW : WFA A) (hR : RX B A sd s) (hM : RMm B A sd s) (h1 : cu + 30 ≤ mc) (h2 : su + 300 ≤ ms) (kk : KL g B b k cu su) : YY g 4 s cu su 956 [(0, .ref b), (1, .ref (B.1 + 0)), (2, .ref (B.1 + 157)), (3, .int (nI (4 * k)))] [] := by
  refine y_aload_n hg dL_law_956 rfl ?_
  refine y_aload_n hg dL_law_957 rfl ?_
  refine y_iload_n hg dL_law_958 rfl ?_
  refine y_iconst (v := nI 1) hg dL_law_959 rfl ?_
  refine y_iadd hg dL_law_960 ?_
  refine y_ti (nI_add _ _) ?_
  refine y_sld hg hX (4 * k + 1) rfl (by omega) hL dL_law_961 ?_
  refine y_i2l hg dL_law_962 ?_
  refine y_bipush (v := nI 32) hg dL_law_963 rfl ?_
  refine y_lshl hg dL_law_965 ?_
  refine y_aload_n hg dL_law_966 rfl ?_
  refine y_iload_n hg dL_law_967 rfl ?_
  refine y_iconst (v := nI 2) hg dL_law_968 rfl ?_
  refine y_iadd hg dL_law_969 ?_
  refine y_ti (nI_add _ _) ?_
  refine y_sld hg hX (4 * k + 2) rfl (by omega) hL dL_law_970 ?_
  refine y_i2l hg dL_law_971 ?_
  refine y_ldc2 hg dL_law_972 q1388 ?_
  refine y_land hg dL_law_975 ?_
  refine y_lor hg dL_law_976 ?_
  refine y_callV (As := [.long _]) (rest := []) hg (cX_seed (ll := l0) hR _) iX0_seed q883 hR.1.x cf0 rfl rfl (by decide) (by omega) (by omega) (by decide) dL_law_977 (fun v s1 hp => ?_)
  obtain ⟨r1, rfl, e1, hR1, hF1⟩ := hp
  have hM1 := hM.byX hF1
  refine y_aload_n hg dL_law_980 rfl ?_
  refine y_aload_n hg dL_law_981 rfl ?_
  refine y_iload_n hg dL_law_982 rfl ?_
  refine y_iconst (v := nI 1) hg dL_law_983 rfl ?_
  refine y_iadd hg dL_law_984 ?_
  refine y_ti (nI_add _ _) ?_
  refine y_sld hg hX (4 * k + 1) rfl (by omega) hL dL_law_985 ?_
  refine y_i2l hg dL_law_986 ?_
  refine y_bipush (v := nI 32) hg dL_law_987 rfl ?_
  refine y_lshl hg dL_law_989 ?_
  refine y_aload_n hg dL_law_990 rfl ?_
  refine y_iload_n hg dL_law_991 rfl ?_
  refine y_iconst (v := nI 2) hg dL_law_992 rfl ?_
  refine y_iadd hg dL_law_993 ?_
  refine y_ti (nI_add _ _) ?_
  refine y_sld hg hX (4 * k + 2) rfl (by omega) hL dL_law_994 ?_
  refine y_i2l hg dL_law_995 ?_
  refine y_ldc2 hg dL_law_996 q1388 ?_
  refine y_land hg dL_law_999 ?_
  refine y_lor hg dL_law_1000 ?_
  refine y_callV (As := [.long _]) (rest := [.long r1]) hg (cM_seed (ll := l0) hM1 _) iX3_seed q1369 hM1.1.m cf3 rfl rfl (by show 2 ≤ 8; decide) (by omega) (by omega) (by decide) dL_law_1001 (fun v s2 hp => ?_)
  obtain ⟨r2, rfl, e2, hM2, hF2⟩ := hp
  refine y_lc_eq hg 1079 dL_law_1004 dL_law_1005 (by decide) (fun _ => ?_) (fun hF => absurd (e1.trans e2.symm) hF)
  have hW2 := hW
  exact kk _ _ s2 _ _ hW2 (hR1.byM hW2.1.2 hF2) hM2 (by omega) (by omega)
theorem lw_c29 (hg : Gd g l0 B "BagPhrasesLaw" cL_law 4 1000 mc ms) (hX : ScX g b Ls xs) (hL : Ls ≤ 256) (htr : l0.stackTraces = false) (hk : 4 * k + 4 ≤ Ls) (hW : WFA A) (hR : RX B A sd s) (hM : RMm B A sd s) (h1 : cu + 30 ≤ mc) (h2 : su + 300 ≤ ms) (kk : KL g B b k cu su) : YY g 4 s cu su 1010 [(0, .ref b), (1, .ref (B.1 + 0)), (2, .ref (B.1 + 157)), (3, .int (nI (4 * k)))] [] := by
  refine y_aload_n hg dL_law_1010 rfl ?_
  refine y_aload_n hg dL_law_1011 rfl ?_
  refine y_iload_n hg dL_law_1012 rfl ?_
  refine y_iconst (v := nI 1) hg dL_law_1013 rfl ?_
  refine y_iadd hg dL_law_1014 ?_
  refine y_ti (nI_add _ _) ?_
  refine y_sld hg hX (4 * k + 1) rfl (by omega) hL dL_law_1015 ?_
  refine y_callV (As := [.int (xs (4 * k + 1))]) (rest := []) hg (cX_drawn (ll := l0) hW hR _) iX0_drawn q887 hR.1.x cf0 rfl rfl (by decide) (by omega) (by omega) (by decide) dL_law_1016 (fun v s1 hp => ?_)
  obtain ⟨r1, rfl, e1, hR1, hF1⟩ := hp
  have hM1 := hM.byX hF1
  refine y_aload_n hg dL_law_1019 rfl ?_
  refine y_aload_n hg dL_law_1020 rfl ?_
  refine y_iload_n hg dL_law_1021 rfl ?_
  refine y_iconst (v := nI 1) hg dL_law_1022 rfl ?_
  refine y_iadd hg dL_law_1023 ?_
  refine y_ti (nI_add _ _) ?_
  refine y_sld hg hX (4 * k + 1) rfl (by omega) hL dL_law_1024 ?_
  refine y_callV (As := [.int (xs (4 * k + 1))]) (rest := [.int r1]) hg (cM_drawn (ll := l0) hW hM1 _) iX3_drawn q1373 hM1.1.m cf3 rfl rfl (by show 1 ≤ 8; decide) (by omega) (by omega) (by decide) dL_law_1025 (fun v s2 hp => ?_)
  obtain ⟨r2, rfl, e2, hM2, hF2⟩ := hp
  refine y_icmp_eq hg 1079 dL_law_1028 (by decide) (fun _ => ?_) (fun hF => absurd (e1.trans e2.symm) hF)
  have hW2 := hW
  exact kk _ _ s2 _ _ hW2 (hR1.byM hW2.1.2 hF2) hM2 (by omega) (by omega)
theorem lw_c30 (hg : Gd g l0 B "BagPhrasesLaw" cL_law 4 1000 mc ms) (hX : ScX g b Ls xs) (hL : Ls ≤ 256) (htr : l0.stackTraces = false) (hk : 4 * k + 4 ≤ Ls) (hW : WFA A) (hR : RX B A sd s) (hM : RMm B A sd s) (h1 : cu + 30 ≤ mc) (h2 : su + 300 ≤ ms) (kk : KL g B b k cu su) : YY g 4 s cu su 1033 [(0, .ref b), (1, .ref (B.1 + 0)), (2, .ref (B.1 + 157)), (3, .int (nI (4 * k)))] [] := by
  refine y_aload_n hg dL_law_1033 rfl ?_
  refine y_aload_n hg dL_law_1034 rfl ?_
  refine y_iload_n hg dL_law_1035 rfl ?_
  refine y_iconst (v := nI 1) hg dL_law_1036 rfl ?_
  refine y_iadd hg dL_law_1037 ?_
  refine y_ti (nI_add _ _) ?_
  refine y_sld hg hX (4 * k + 1) rfl (by omega) hL dL_law_1038 ?_
  refine y_callV (As := [.int (xs (4 * k + 1))]) (rest := []) hg (cX_keep (ll := l0) hW hR _) iX0_keep q894 hR.1.x cf0 rfl rfl (by decide) (by omega) (by omega) (by decide) dL_law_1039 (fun v s1 hp => ?_)
  obtain ⟨r1, rfl, e1, hR1, hF1⟩ := hp
  have hM1 := hM.byX hF1
  refine y_aload_n hg dL_law_1042 rfl ?_
  refine y_aload_n hg dL_law_1043 rfl ?_
  refine y_iload_n hg dL_law_1044 rfl ?_
  refine y_iconst (v := nI 1) hg dL_law_1045 rfl ?_
  refine y_iadd hg dL_law_1046 ?_
  refine y_ti (nI_add _ _) ?_
  refine y_sld hg hX (4 * k + 1) rfl (by omega) hL dL_law_1047 ?_
  refine y_callV (As := [.int (xs (4 * k + 1))]) (rest := [.int r1]) hg (cM_keep (ll := l0) hW hM1 _) iX3_keep q1380 hM1.1.m cf3 rfl rfl (by show 1 ≤ 8; decide) (by omega) (by omega) (by decide) dL_law_1048 (fun v s2 hp => ?_)
  obtain ⟨r2, rfl, e2, hM2, hF2⟩ := hp
  refine y_icmp_eq hg 1079 dL_law_1051 (by decide) (fun _ => ?_) (fun hF => absurd (e1.trans e2.symm) hF)
  have hW2 := wKeep hW (xs (4 * k + 1))
  exact kk _ _ s2 _ _ hW2 (hR1.byM hW2.1.2 hF2) hM2 (by omega) (by omega)
theorem lw_c31 (hg : Gd g l0 B "BagPhrasesLaw" cL_law 4 1000 mc ms) (hX : ScX g b Ls xs) (hL : Ls ≤ 256) (htr : l0.stackTraces = false) (hk : 4 * k + 4 ≤ Ls) (hW : WFA A) (hR : RX B A sd s) (hM : RMm B A sd s) (h1 : cu + 30 ≤ mc) (h2 : su + 300 ≤ ms) (kk : KL g B b k cu su) : YY g 4 s cu su 1056 [(0, .ref b), (1, .ref (B.1 + 0)), (2, .ref (B.1 + 157)), (3, .int (nI (4 * k)))] [] := by
  refine y_aload_n hg dL_law_1056 rfl ?_
  refine y_aload_n hg dL_law_1057 rfl ?_
  refine y_iload_n hg dL_law_1058 rfl ?_
  refine y_iconst (v := nI 1) hg dL_law_1059 rfl ?_
  refine y_iadd hg dL_law_1060 ?_
  refine y_ti (nI_add _ _) ?_
  refine y_sld hg hX (4 * k + 1) rfl (by omega) hL dL_law_1061 ?_
  refine y_callV (As := [.int (xs (4 * k + 1))]) (rest := []) hg (cX_again (ll := l0) hW hR _) iX0_again q898 hR.1.x cf0 rfl rfl (by decide) (by omega) (by omega) (by decide) dL_law_1062 (fun v s1 hp => ?_)
  obtain ⟨r1, rfl, e1, hR1, hF1⟩ := hp
  have hM1 := hM.byX hF1
  refine y_aload_n hg dL_law_1065 rfl ?_
  refine y_aload_n hg dL_law_1066 rfl ?_
  refine y_iload_n hg dL_law_1067 rfl ?_
  refine y_iconst (v := nI 1) hg dL_law_1068 rfl ?_
  refine y_iadd hg dL_law_1069 ?_
  refine y_ti (nI_add _ _) ?_
  refine y_sld hg hX (4 * k + 1) rfl (by omega) hL dL_law_1070 ?_
  refine y_callV (As := [.int (xs (4 * k + 1))]) (rest := [.int r1]) hg (cM_again (ll := l0) hW hM1 _) iX3_again q1384 hM1.1.m cf3 rfl rfl (by show 1 ≤ 8; decide) (by omega) (by omega) (by decide) dL_law_1071 (fun v s2 hp => ?_)
  obtain ⟨r2, rfl, e2, hM2, hF2⟩ := hp
  refine y_icmp_eq hg 1079 dL_law_1074 (by decide) (fun _ => ?_) (fun hF => absurd (e1.trans e2.symm) hF)
  have hW2 := wAgain hW (xs (4 * k + 1))
  exact kk _ _ s2 _ _ hW2 (hR1.byM hW2.1.2 hF2) hM2 (by omega) (by omega)
set_option maxRecDepth 20000 in
theorem lw_loop (hg : Gd g l0 B "BagPhrasesLaw" cL_law 4 1000 mc ms) (hX : ScX g b Ls xs) (hL : Ls ≤ 256) (htr : l0.stackTraces = false) (hE : ∀ (σ : Mem) (cu su : Nat) (lv : List (Nat × Value)), cu ≤ mc → su ≤ ms → YY g 4 σ cu su 1086 lv [.int (nI 1)]) : ∀ (n k : Nat) (A : Ab) (sd : Int64) (s : Mem) (cu su : Nat), k + n = 64 → WFA A → RX B A sd s → RMm B A sd s → cu + 30 * (n + 1) ≤ mc → su + 300 * (n + 1) ≤ ms → YY g 4 s cu su 18 [(0, .ref b), (1, .ref (B.1 + 0)), (2, .ref (B.1 + 157)), (3, .int (nI (4 * k)))] [] := by
  intro n
  induction n with
  | zero =>
    intro k A sd s cu su hk hW hR hM h1 h2
    refine y_iload_n hg dL_law_18 rfl ?_
    refine y_aload_n hg dL_law_19 rfl ?_
    refine y_slen hg hX dL_law_20 ?_
    refine y_iconst (v := nI 4) hg dL_law_21 rfl ?_
    refine y_isub hg dL_law_22 ?_
    refine y_icmp_gt hg 1085 dL_law_23 (by decide) (fun _ => ?_) (fun hF => absurd ((lw_gt Ls (by omega) k (by omega)).mpr (by omega)) hF)
    refine y_iconst (v := nI 1) hg dL_law_1085 rfl ?_
    exact hE _ _ _ _ (by omega) (by omega)
  | succ n ih =>
    intro k A sd s cu su hk hW hR hM h1 h2
    have ha1 : cu + 30 ≤ mc := by omega
    have ha2 : su + 300 ≤ ms := by omega
    have hb1 : ∀ c', c' ≤ cu + 30 → c' + 30 * (n + 1) ≤ mc := fun c' h => by omega
    have hb2 : ∀ c', c' ≤ su + 300 → c' + 300 * (n + 1) ≤ ms := fun c' h => by omega
    refine y_iload_n hg dL_law_18 rfl ?_
    refine y_aload_n hg dL_law_19 rfl ?_
    refine y_slen hg hX dL_law_20 ?_
    refine y_iconst (v := nI 4) hg dL_law_21 rfl ?_
    refine y_isub hg dL_law_22 ?_
    by_cases hlt : Ls < 4 * k + 4
    · refine y_icmp_gt hg 1085 dL_law_23 (by decide) (fun _ => ?_) (fun hF => absurd ((lw_gt Ls (by omega) k (by omega)).mpr hlt) hF)
      refine y_iconst (v := nI 1) hg dL_law_1085 rfl ?_
      exact hE _ _ _ _ (by omega) (by omega)
    · refine y_icmp_gt hg 1085 dL_law_23 (by decide) (fun hT => absurd ((lw_gt Ls (by omega) k (by omega)).mp hT) hlt) (fun _ => ?_)
      refine y_aload_n hg dL_law_26 rfl ?_
      refine y_iload_n hg dL_law_27 rfl ?_
      refine y_sld hg hX (4 * k) rfl (by omega) hL dL_law_28 ?_
      refine y_bipush (v := nI 31) hg dL_law_29 rfl ?_
      refine y_iand hg dL_law_31 ?_
      obtain ⟨c, hc, ec⟩ := and31 (xs (4 * k))
      refine y_ti ec ?_
      have kk : KL g B b k cu su := fun A' sd' s' cu' su' hW' hR' hM' hc' hs' => by
        refine y_iinc hg dL_law_1079 rfl (show nI (4 * k) + Int32.ofInt 4 = nI (4 * k + 4) from nI_add (4 * k) 4) (by decide) (lv1 := [(0, .ref b), (1, .ref (B.1 + 0)), (2, .ref (B.1 + 157)), (3, .int (nI (4 * k + 4)))]) rfl ?_
        refine y_goto hg 18 dL_law_1082 (by decide) ?_
        exact ih (k + 1) A' sd' s' cu' su' (by omega) hW' hR' hM' (hb1 _ hc') (hb2 _ hs')
      have hk4 : 4 * k + 4 ≤ Ls := by omega
      match c, hc with
      | 0, _ => exact y_tsIn hg 176 dL_law_32 (by decide) (by decide) rfl (by decide) (lw_c0 hg hX hL htr hk4 hW hR hM ha1 ha2 kk)
      | 1, _ => exact y_tsIn hg 199 dL_law_32 (by decide) (by decide) rfl (by decide) (lw_c1 hg hX hL htr hk4 hW hR hM ha1 ha2 kk)
      | 2, _ => exact y_tsIn hg 212 dL_law_32 (by decide) (by decide) rfl (by decide) (lw_c2 hg hX hL htr hk4 hW hR hM ha1 ha2 kk)
      | 3, _ => exact y_tsIn hg 225 dL_law_32 (by decide) (by decide) rfl (by decide) (lw_c3 hg hX hL htr hk4 hW hR hM ha1 ha2 kk)
      | 4, _ => exact y_tsIn hg 238 dL_law_32 (by decide) (by decide) rfl (by decide) (lw_c4 hg hX hL htr hk4 hW hR hM ha1 ha2 kk)
      | 5, _ => exact y_tsIn hg 261 dL_law_32 (by decide) (by decide) rfl (by decide) (lw_c5 hg hX hL htr hk4 hW hR hM ha1 ha2 kk)
      | 6, _ => exact y_tsIn hg 294 dL_law_32 (by decide) (by decide) rfl (by decide) (lw_c6 hg hX hL htr hk4 hW hR hM ha1 ha2 kk)
      | 7, _ => exact y_tsIn hg 327 dL_law_32 (by decide) (by decide) rfl (by decide) (lw_c7 hg hX hL htr hk4 hW hR hM ha1 ha2 kk)
      | 8, _ => exact y_tsIn hg 350 dL_law_32 (by decide) (by decide) rfl (by decide) (lw_c8 hg hX hL htr hk4 hW hR hM ha1 ha2 kk)
      | 9, _ => exact y_tsIn hg 373 dL_law_32 (by decide) (by decide) rfl (by decide) (lw_c9 hg hX hL htr hk4 hW hR hM ha1 ha2 kk)
      | 10, _ => exact y_tsIn hg 396 dL_law_32 (by decide) (by decide) rfl (by decide) (lw_c10 hg hX hL htr hk4 hW hR hM ha1 ha2 kk)
      | 11, _ => exact y_tsIn hg 429 dL_law_32 (by decide) (by decide) rfl (by decide) (lw_c11 hg hX hL htr hk4 hW hR hM ha1 ha2 kk)
      | 12, _ => exact y_tsIn hg 472 dL_law_32 (by decide) (by decide) rfl (by decide) (lw_c12 hg hX hL htr hk4 hW hR hM ha1 ha2 kk)
      | 13, _ => exact y_tsIn hg 485 dL_law_32 (by decide) (by decide) rfl (by decide) (lw_c13 hg hX hL htr hk4 hW hR hM ha1 ha2 kk)
      | 14, _ => exact y_tsIn hg 509 dL_law_32 (by decide) (by decide) rfl (by decide) (lw_c14 hg hX hL htr hk4 hW hR hM ha1 ha2 kk)
      | 15, _ => exact y_tsIn hg 533 dL_law_32 (by decide) (by decide) rfl (by decide) (lw_c15 hg hX hL htr hk4 hW hR hM ha1 ha2 kk)
      | 16, _ => exact y_tsIn hg 556 dL_law_32 (by decide) (by decide) rfl (by decide) (lw_c16 hg hX hL htr hk4 hW hR hM ha1 ha2 kk)
      | 17, _ => exact y_tsIn hg 619 dL_law_32 (by decide) (by decide) rfl (by decide) (lw_c17 hg hX hL htr hk4 hW hR hM ha1 ha2 kk)
      | 18, _ => exact y_tsIn hg 642 dL_law_32 (by decide) (by decide) rfl (by decide) (lw_c18 hg hX hL htr hk4 hW hR hM ha1 ha2 kk)
      | 19, _ => exact y_tsIn hg 655 dL_law_32 (by decide) (by decide) rfl (by decide) (lw_c19 hg hX hL htr hk4 hW hR hM ha1 ha2 kk)
      | 20, _ => exact y_tsIn hg 678 dL_law_32 (by decide) (by decide) rfl (by decide) (lw_c20 hg hX hL htr hk4 hW hR hM ha1 ha2 kk)
      | 21, _ => exact y_tsIn hg 692 dL_law_32 (by decide) (by decide) rfl (by decide) (lw_c21 hg hX hL htr hk4 hW hR hM ha1 ha2 kk)
      | 22, _ => exact y_tsIn hg 715 dL_law_32 (by decide) (by decide) rfl (by decide) (lw_c22 hg hX hL htr hk4 hW hR hM ha1 ha2 kk)
      | 23, _ => exact y_tsIn hg 778 dL_law_32 (by decide) (by decide) rfl (by decide) (lw_c23 hg hX hL htr hk4 hW hR hM ha1 ha2 kk)
      | 24, _ => exact y_tsIn hg 821 dL_law_32 (by decide) (by decide) rfl (by decide) (lw_c24 hg hX hL htr hk4 hW hR hM ha1 ha2 kk)
      | 25, _ => exact y_tsIn hg 834 dL_law_32 (by decide) (by decide) rfl (by decide) (lw_c25 hg hX hL htr hk4 hW hR hM ha1 ha2 kk)
      | 26, _ => exact y_tsIn hg 857 dL_law_32 (by decide) (by decide) rfl (by decide) (lw_c26 hg hX hL htr hk4 hW hR hM ha1 ha2 kk)
      | 27, _ => exact y_tsIn hg 907 dL_law_32 (by decide) (by decide) rfl (by decide) (lw_c27 hg hX hL htr hk4 hW hR hM ha1 ha2 kk)
      | 28, _ => exact y_tsIn hg 956 dL_law_32 (by decide) (by decide) rfl (by decide) (lw_c28 hg hX hL htr hk4 hW hR hM ha1 ha2 kk)
      | 29, _ => exact y_tsIn hg 1010 dL_law_32 (by decide) (by decide) rfl (by decide) (lw_c29 hg hX hL htr hk4 hW hR hM ha1 ha2 kk)
      | 30, _ => exact y_tsIn hg 1033 dL_law_32 (by decide) (by decide) rfl (by decide) (lw_c30 hg hX hL htr hk4 hW hR hM ha1 ha2 kk)
      | 31, _ => exact y_tsIn hg 1056 dL_law_32 (by decide) (by decide) rfl (by decide) (lw_c31 hg hX hL htr hk4 hW hR hM ha1 ha2 kk)
      | c + 32, hc => omega
end LawC
