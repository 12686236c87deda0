theorem LX.mono {B : Bs} {σ σ' : Mem} (h : LX B σ) (m : Mono σ σ') : LX B σ' :=
  ⟨m.ko h.x, m.r h.x.2 h.r_words, m.ka h.k_words, m.r h.x.2 h.r_base, m.ka h.k_base, m.r h.x.2 h.r_rest, m.ka h.k_rest, m.r h.x.2 h.r_counts, m.ka h.k_counts, m.r h.x.2 h.r_worths, m.ka h.k_worths, m.r h.x.2 h.r_steps, m.ka h.k_steps, m.r h.x.2 h.r_found, m.ka h.k_found, m.r h.x.2 h.r_text, m.ka h.k_text, m.r h.x.2 h.r_readWords, m.ka h.k_readWords, m.r h.x.2 h.r_before, m.ka h.k_before, m.r h.x.2 h.r_row, m.ka h.k_row, m.r h.x.2 h.r_left, m.ka h.k_left, m.r h.x.2 h.r_seenWhat, m.ka h.k_seenWhat, m.r h.x.2 h.r_seenOf, m.ka h.k_seenOf, m.r h.x.2 h.r_seenWas, m.ka h.k_seenWas, m.r h.x.2 h.r_worth, m.ka h.k_worth, m.r h.x.2 h.r_isKept, m.ka h.k_isKept, m.r h.x.2 h.r_kept, m.ka h.k_kept, m.ka h.k_la, m.ka h.k_lb, m.r h.x.2 h.r_now, m.s h.s_now, m.r h.x.2 h.r_trial, m.s h.s_trial, m.r h.x.2 h.r_read, m.s h.s_read, fun i hi => ⟨m.r h.k_before.2.1 (h.e_before hi), m.s (h.w_before hi)⟩, fun i hi => ⟨m.r h.k_kept.2.1 (h.e_kept hi), m.s (h.w_kept hi)⟩, fun i hi => ⟨m.r h.k_words.2.1 (h.e_words hi), m.w (h.w_words hi)⟩, fun i hi => ⟨m.r h.k_readWords.2.1 (h.e_readWords hi), m.w (h.w_readWords hi)⟩⟩
theorem LyR.mono {B : Bs} {σ σ' : Mem} {ka kb : Nat} (h : LyR B σ ka kb) (h0 : 0 < σ.2.1) (m : Mono σ σ') : LyR B σ' ka kb := ⟨h.1, m.r h0 h.2.1, m.r h0 h.2.2⟩
/-- nothing is made yet -/
def σ00 : Mem := (fun _ => (0, 0), 0, fun _ _ => 0, fun _ _ => 0, fun _ _ => none)
theorem in0 : InO 0 0 (newK σ00 (10 + 0, 0)) 1 0 := ⟨rfl, ⟨up1_s (f := σ00.1) (k := 0), Nat.one_pos⟩, fun j _ => by
  show up1 σ00.2.2.2.2 σ00.2.1 (fun _ => none) 0 j = none
  exact congrFun (up1_s (f := σ00.2.2.2.2) (k := σ00.2.1) (v := fun _ => none)) j, fun k j hk h1 h2 => by omega, Zr.rf.nk⟩
theorem in157 {s : Mem} (hn : s.2.1 = 157) (hz : Zr s 0 157) : InO 157 3 (newK s (10 + 3, 0)) 158 0 := by
  have hz : Zr s 0 s.2.1 := by rw [hn]; exact hz
  have hz2 : Zr (newK s (10 + 3, 0)) 0 (newK s (10 + 3, 0)).2.1 := hz.nk
  have e : (newK s (10 + 3, 0)).2.1 = 158 := by show s.2.1 + 1 = 158; omega
  rw [e] at hz2
  refine ⟨e, ⟨?_, by omega⟩, fun j _ => ?_, fun k j hk h1 h2 => by omega, hz2⟩
  · show up1 s.1 s.2.1 (10 + 3, 0) 157 = _
    rw [hn, up1_s]
  · show up1 s.2.2.2.2 s.2.1 (fun _ => none) 157 j = none
    rw [hn, up1_s]
section LawM
variable {g : Cx} {l0 : Launch} {B : Bs} {b Ls : Nat} {xs : Nat → Int32}
theorem lw_main (hg : Gd g l0 B "BagPhrasesLaw" cL_law 4 1000 3000 200000) (hX : ScX g b Ls xs) (hL : Ls ≤ 256) (htr : l0.stackTraces = false) (hE : ∀ (σ : Mem) (cu su : Nat) (lv : List (Nat × Value)), cu ≤ 3000 → su ≤ 200000 → YY g 4 σ cu su 1086 lv [.int (nI 1)]) : YY g 4 σ00 0 0 0 [(0, .ref b)] [] := by
  refine y_new hg cf0 df0 q102 q103 q85 (by omega) (by omega) dL_law_0 ?_
  refine y_dup hg dL_law_3 rfl ?_
  refine y_callI (ret := none) (As := []) (rest := [.ref (B.1 + 0)]) hg (cX_ctor in0) iX0_init q104 rfl rfl (by show 1 ≤ 8; decide) (by omega) (by omega) (by decide) dL_law_4 (fun v s1 h => ?_)
  obtain ⟨rfl, n1, hL1, hy1, hz1⟩ := h
  refine y_astore_n hg dL_law_7 (by decide) (lv1 := [(0, .ref b), (1, .ref (B.1 + 0))]) rfl ?_
  refine y_new hg cf3 df3 q902 q903 q88 (by omega) (by omega) dL_law_8 ?_
  refine y_dup hg dL_law_11 rfl ?_
  rw [n1]
  refine y_callI (ret := none) (As := []) (rest := [.ref (B.1 + 157)]) hg (cM_ctor (in157 n1 hz1)) iX3_init q904 rfl rfl (by show 1 ≤ 8; decide) (by omega) (by omega) (by decide) dL_law_12 (fun v s2 h => ?_)
  obtain ⟨rfl, hM2, mo, hz2, hs0, hs1⟩ := h
  refine y_astore_n hg dL_law_15 (by decide) (lv1 := [(0, .ref b), (1, .ref (B.1 + 0)), (2, .ref (B.1 + 157))]) rfl ?_
  refine y_iconst (v := nI 0) hg dL_law_16 rfl ?_
  refine y_istore_n hg dL_law_17 (by decide) (lv1 := [(0, .ref b), (1, .ref (B.1 + 0)), (2, .ref (B.1 + 157)), (3, .int (nI (4 * 0)))]) rfl ?_
  have m2 : Mono s1 s2 := Nw.new.mono.tr mo
  exact lw_loop hg hX hL htr hE 64 0 zA 0 s2 _ _ rfl zA_wf (RX.start (hL1.mono m2) (hy1.mono (by omega) m2) (fun k j hk => hz2 k j (by omega)) hs0) (RMm.start hM2 hz2 hs1) (by omega) (by omega)
end LawM
