section MonoS
variable {l : Launch} {B : Bs} {σ σ' σ'' : Mem}
/-- cells stay, references that were set stay -/
def Mono (σ σ' : Mem) : Prop := σ.2.1 ≤ σ'.2.1 ∧ (∀ k, k < σ.2.1 → σ'.1 k = σ.1 k) ∧ ∀ k j a, k < σ.2.1 → σ.2.2.2.2 k j = some a → σ'.2.2.2.2 k j = some a
theorem Mono.rf : Mono σ σ := ⟨Nat.le_refl _, fun _ _ => rfl, fun _ _ _ _ h => h⟩
theorem Mono.tr (h : Mono σ σ') (h2 : Mono σ' σ'') : Mono σ σ'' := ⟨Nat.le_trans h.1 h2.1, fun k hk => (h2.2.1 k (Nat.lt_of_lt_of_le hk h.1)).trans (h.2.1 k hk), fun k j a hk e => h2.2.2 k j a (Nat.lt_of_lt_of_le hk h.1) (h.2.2 k j a hk e)⟩
theorem Mono.ko {k c : Nat} (m : Mono σ σ') (h : KO σ k c) : KO σ' k c := ⟨(m.2.1 k h.2).trans h.1, Nat.lt_of_lt_of_le h.2 m.1⟩
theorem Mono.ka {k t n : Nat} (m : Mono σ σ') (h : KA σ k t n) : KA σ' k t n := ⟨(m.2.1 k h.2.1).trans h.1, Nat.lt_of_lt_of_le h.2.1 m.1, h.2.2⟩
theorem Mono.r {k j a : Nat} (m : Mono σ σ') (hk : k < σ.2.1) (h : σ.2.2.2.2 k j = some a) : σ'.2.2.2.2 k j = some a := m.2.2 k j a hk h
theorem Mono.s {k : Nat} (m : Mono σ σ') (h : IsS B σ k) : IsS B σ' k := ⟨m.ko h.o, m.r h.o.2 h.r_bag, m.ka h.k_bag, m.r h.o.2 h.r_ranks, m.ka h.k_ranks, m.r h.o.2 h.r_follows, m.ka h.k_follows⟩
theorem Mono.w {k : Nat} (m : Mono σ σ') (h : IsW B σ k) : IsW B σ' k := ⟨m.ko h.o, m.r h.o.2 h.r_spelt, m.ka h.k_spelt, m.r h.o.2 h.r_has, m.ka h.k_has⟩
theorem Nw.mono (h : Nw σ σ') : Mono σ σ' := ⟨h.1, fun k hk => (h.2 k hk).1, fun k j a hk e => by rw [(h.2 k hk).2.2.2]; exact e⟩
theorem Mono.sR {k j : Nat} {v : Option Nat} (h : σ.2.2.2.2 k j = none) : Mono σ (setR σ k j v) := ⟨Nat.le_refl _, fun _ _ => rfl, fun q i a hq e => by
  by_cases z : q = k ∧ i = j
  · rw [z.1, z.2, h] at e; cases e
  · exact (up2_n z).trans e⟩
theorem FrR.mono' {Q : Nat → Nat → Prop} (h : FrR Q σ σ') : Mono σ σ' := ⟨h.1.1, h.1.2.1, fun k j a hk e => by rw [h.2]; exact e⟩
theorem Zr.app {a b c : Nat} (h : Zr σ a b) (h2 : Zr σ b c) : Zr σ a c := fun k j h1 h3 => if z : k < b then h k j h1 z else h2 k j (by omega) h3
theorem Zr.nw {a b : Nat} (h : Zr σ a b) (hb : b ≤ σ.2.1) (hn : Nw σ σ') : Zr σ' a b := fun k j h1 h2 => by
  obtain ⟨-, e1, e2, -⟩ := hn.2 k (by omega)
  rw [e1, e2]; exact h k j h1 h2
/-- an object that is being made: its cell, its class, the cells so far, the first field that may be unset; all ints and longs are 0 -/
def InO (o c : Nat) (σ : Mem) (n J : Nat) : Prop := σ.2.1 = n ∧ KO σ o c ∧ (∀ j, J ≤ j → σ.2.2.2.2 o j = none) ∧ (∀ k j, (k = 1 ∨ k = 19) → o < k → k < n → σ.2.2.2.2 k j = none) ∧ Zr σ 0 n
theorem InO.nw {o c n J m : Nat} (h : InO o c σ n J) (hn : Nw σ σ') (hs : σ'.2.1 = n + m) (hz : Zr σ' n (n + m)) (h2 : ∀ k j, (k = 1 ∨ k = 19) → n ≤ k → k < n + m → σ'.2.2.2.2 k j = none) : InO o c σ' (n + m) J := by
  obtain ⟨a, b, d, e, f⟩ := h
  have ho := b.2
  refine ⟨hs, hn.mono.ko b, fun j hj => by rw [(hn.2 o ho).2.2.2]; exact d j hj, fun k j hk ho2 hk2 => ?_, (f.nw (by omega) hn).app hz⟩
  by_cases z : k < n
  · rw [(hn.2 k (by omega)).2.2.2]; exact e k j hk ho2 z
  · exact h2 k j hk (by omega) hk2
theorem InO.sR {o c n J j : Nat} {v : Option Nat} (h : InO o c σ n J) (hj : J ≤ j) (ho : o ≠ 1 ∧ o ≠ 19) : InO o c (setR σ o j v) n (j + 1) ∧ Mono σ (setR σ o j v) := by
  obtain ⟨a, b, d, e, f⟩ := h
  exact ⟨⟨a, b, fun i hi => (up2_n (by omega)).trans (d i (by omega)), fun k i hk h1 h2 => (up2_n (by omega)).trans (e k i hk h1 h2), f⟩, Mono.sR (d j hj)⟩
theorem st_arr {o c n J j t len : Nat} (h : InO o c σ n J) (hj : J ≤ j) (ho : o ≠ 1 ∧ o ≠ 19) (hl : len < 2147483648) : InO o c (setR (newK σ (t, len)) o j (some (B.1 + σ.2.1))) (n + 1) (j + 1) ∧ Mono σ (setR (newK σ (t, len)) o j (some (B.1 + σ.2.1))) ∧ KA (setR (newK σ (t, len)) o j (some (B.1 + σ.2.1))) n t len ∧ (setR (newK σ (t, len)) o j (some (B.1 + σ.2.1))).2.2.2.2 o j = some (B.1 + n) := by
  have en := h.1
  have h1 : InO o c (newK σ (t, len)) (n + 1) J := h.nw (m := 1) Nw.new (by rw [← en]; rfl) (fun k i a b => by
    have : k = σ.2.1 := by omega
    subst this
    exact ⟨by show up1 σ.2.2.1 σ.2.1 (fun _ => 0) σ.2.1 i = 0; rw [up1_s], by show up1 σ.2.2.2.1 σ.2.1 (fun _ => 0) σ.2.1 i = 0; rw [up1_s]⟩) (fun k i hk a b => by
    have : k = σ.2.1 := by omega
    subst this
    show up1 σ.2.2.2.2 σ.2.1 (fun _ => none) σ.2.1 i = none
    rw [up1_s])
  obtain ⟨a, b⟩ := h1.sR (v := some (B.1 + σ.2.1)) hj ho
  refine ⟨a, Nw.new.mono.tr b, ⟨?_, ?_, hl⟩, ?_⟩
  · show up1 σ.1 σ.2.1 (t, len) n = _
    rw [en, up1_s]
  · show n < σ.2.1 + 1
    omega
  · rw [← en]; exact up2_s
theorem st_set {o c n J j : Nat} (h : InO o c σ n J) (hm : MkS B σ σ') (hj : J ≤ j) (ho : o ≠ 1 ∧ o ≠ 19) (hn : ¬ (n ≤ 19 ∧ 19 < n + 4)) (hn1 : 1 < n) : InO o c (setR σ' o j (some (B.1 + σ.2.1))) (n + 4) (j + 1) ∧ Mono σ (setR σ' o j (some (B.1 + σ.2.1))) ∧ IsS B (setR σ' o j (some (B.1 + σ.2.1))) n ∧ (setR σ' o j (some (B.1 + σ.2.1))).2.2.2.2 o j = some (B.1 + n) := by
  have en := h.1
  obtain ⟨m1, m2, m3, m4⟩ := hm
  rw [en] at m2 m3 m4
  have h1 : InO o c σ' (n + 4) J := h.nw m1 m2 m4 (fun k i hk a b => by omega)
  obtain ⟨a, b⟩ := h1.sR (v := some (B.1 + σ.2.1)) hj ho
  exact ⟨a, m1.mono.tr b, b.s m3, by rw [← en]; exact up2_s⟩
/-- a row of settings -/
def MkR (B : Bs) (n : Nat) (σ σ' : Mem) : Prop := Nw σ σ' ∧ σ'.2.1 = σ.2.1 + (1 + 4 * n) ∧ KA σ' σ.2.1 4 n ∧ (∀ i, i < n → σ'.2.2.2.2 σ.2.1 i = some (B.1 + (σ.2.1 + 1 + 4 * i)) ∧ IsS B σ' (σ.2.1 + 1 + 4 * i)) ∧ Zr σ' σ.2.1 (σ.2.1 + (1 + 4 * n))
theorem cX_settings {n : Nat} (hn : n < 100) : MT l B 3 (1 + 4 * n) (n + 28 * n) yX0_settings cX0_settings 3 (some (.array (.object "BagPhrases$Setting"))) [.int (nI n)] σ (pR fun r σ' => r = B.1 + σ.2.1 ∧ MkR B n σ σ') := by
  refine MT.of (by decide) (Nat.le_of_ble_eq_true rfl) (fun g hg hr => ?_)
  refine y_iload_n hg dX0_settings_0 rfl ?_
  refine y_anew4 hg n rfl (by omega) q112 (by omega) (by omega) dX0_settings_1 ?_
  refine y_astore_n hg dX0_settings_4 (by decide) (lv1 := [(0, .int (nI n)), (1, .ref (B.1 + σ.2.1))]) rfl ?_
  refine y_iconst (v := nI 0) hg dX0_settings_5 rfl ?_
  refine y_istore_n hg dX0_settings_6 (by decide) (lv1 := [(0, .int (nI n)), (1, .ref (B.1 + σ.2.1)), (2, .int (nI 0))]) rfl ?_
  have h0 : KA (newK σ (4, n)) σ.2.1 4 n := ⟨up1_s, Nat.lt_succ_self _, by omega⟩
  refine (loop_st (S := Mem) (G := fun i s => YY g 3 s (0 + 1 + 4 * i) (0 + n + 28 * i) 7 [(0, .int (nI n)), (1, .ref (B.1 + σ.2.1)), (2, .int (nI i))] []) (I := fun i s => Nw σ s ∧ s.2.1 = σ.2.1 + (1 + 4 * i) ∧ KA s σ.2.1 4 n ∧ (∀ j, j < i → s.2.2.2.2 σ.2.1 j = some (B.1 + (σ.2.1 + 1 + 4 * j)) ∧ IsS B s (σ.2.1 + 1 + 4 * j)) ∧ Zr s σ.2.1 (σ.2.1 + (1 + 4 * i)) ∧ ∀ j, i ≤ j → s.2.2.2.2 σ.2.1 j = none) n (fun i s hi hI ih => ?_) (fun s hI => ?_) 0 _ (by omega) ⟨Nw.new, rfl, h0, fun j hj => by omega, Zr.rf.nk, fun j _ => ?_⟩)
  · obtain ⟨i1, i2, i3, i4, i5, i6⟩ := hI
    refine y_iload_n hg dX0_settings_7 rfl ?_
    refine y_iload_n hg dX0_settings_8 rfl ?_
    refine y_icmp_ge hg 28 dX0_settings_9 (by decide) (fun hT => absurd hT (nI_ge hi (by omega))) (fun _ => ?_)
    refine y_aload_n hg dX0_settings_12 rfl ?_
    refine y_iload_n hg dX0_settings_13 rfl ?_
    refine y_newS hg (by omega) (by omega) (by decide) (by show 2 ≤ 7; decide) dX0_settings_14 dX0_settings_17 dX0_settings_18 (fun s1 hm => ?_)
    obtain ⟨m1, m2, m3, m4⟩ := hm
    refine y_aast4 hg i (m1.mono.ka i3) rfl hi m3.o dX0_settings_21 ?_
    refine y_iinc hg dX0_settings_22 rfl (inc1 _) (by decide) (lv1 := [(0, .int (nI n)), (1, .ref (B.1 + σ.2.1)), (2, .int (nI (i + 1)))]) rfl ?_
    refine y_goto hg 7 dX0_settings_25 (by decide) ?_
    have hN : σ.2.1 < s.2.1 := by omega
    have e6 : ∀ j, i ≤ j → s1.2.2.2.2 σ.2.1 j = none := fun j hj => by rw [(m1.2 _ hN).2.2.2]; exact i6 j hj
    have mo : Mono s1 (setR s1 σ.2.1 i (some (B.1 + s.2.1))) := Mono.sR (e6 i (Nat.le_refl _))
    have q := ih (setR s1 σ.2.1 i (some (B.1 + s.2.1))) ⟨(i1.tr m1).sR (Nat.le_refl _), by show s1.2.1 = _; omega, mo.ka (m1.mono.ka i3), fun j hj => ?_, ?_, fun j hj => (up2_n (by omega)).trans (e6 j (by omega))⟩
    · rw [show 0 + 1 + 4 * (i + 1) = 0 + 1 + 4 * i + 4 by omega, show 0 + n + 28 * (i + 1) = 0 + n + 28 * i + 28 by omega] at q
      exact q
    · by_cases e : j = i
      · subst e
        refine ⟨by rw [show B.1 + (σ.2.1 + 1 + 4 * j) = B.1 + s.2.1 by omega]; exact up2_s, mo.s (by rw [show σ.2.1 + 1 + 4 * j = s.2.1 by omega]; exact m3)⟩
      · obtain ⟨a, b⟩ := i4 j (by omega)
        exact ⟨mo.r (by omega) (m1.mono.r hN a), mo.s (m1.mono.s b)⟩
    · have z := (i5.nw (by omega) m1).app (show Zr s1 (σ.2.1 + (1 + 4 * i)) (σ.2.1 + (1 + 4 * (i + 1))) by rw [show σ.2.1 + (1 + 4 * (i + 1)) = s.2.1 + 4 by omega, show σ.2.1 + (1 + 4 * i) = s.2.1 by omega]; exact m4)
      exact z
  · obtain ⟨i1, i2, i3, i4, i5, i6⟩ := hI
    refine y_iload_n hg dX0_settings_7 rfl ?_
    refine y_iload_n hg dX0_settings_8 rfl ?_
    refine y_icmp_ge hg 28 dX0_settings_9 (by decide) (fun _ => ?_) (fun hF => absurd (nI_le (Nat.le_refl _) (by omega)) hF)
    refine y_aload_n hg dX0_settings_28 rfl ?_
    refine y_aret hg hr (Or.inr ⟨_, rfl⟩) ⟨_, rfl, rfl, i1, i2, i3, i4, i5⟩ dX0_settings_29 (by omega) (by omega)
  · show up1 σ.2.2.2.2 σ.2.1 (fun _ => none) σ.2.1 j = none
    rw [up1_s]
theorem st_row {o c n J j m : Nat} (h : InO o c σ n J) (hm : MkR B m σ σ') (hj : J ≤ j) (ho : o ≠ 1 ∧ o ≠ 19) (hn1 : 19 < n) : InO o c (setR σ' o j (some (B.1 + σ.2.1))) (n + (1 + 4 * m)) (j + 1) ∧ Mono σ (setR σ' o j (some (B.1 + σ.2.1))) ∧ KA (setR σ' o j (some (B.1 + σ.2.1))) n 4 m ∧ (setR σ' o j (some (B.1 + σ.2.1))).2.2.2.2 o j = some (B.1 + n) ∧ ∀ i, i < m → (setR σ' o j (some (B.1 + σ.2.1))).2.2.2.2 n i = some (B.1 + (n + 1 + 4 * i)) ∧ IsS B (setR σ' o j (some (B.1 + σ.2.1))) (n + 1 + 4 * i) := by
  have en := h.1
  obtain ⟨m1, m2, m3, m4, m5⟩ := hm
  rw [en] at m2 m3 m4 m5
  have h1 : InO o c σ' (n + (1 + 4 * m)) J := h.nw m1 m2 m5 (fun k i hk a b => by omega)
  obtain ⟨a, b⟩ := h1.sR (v := some (B.1 + σ.2.1)) hj ho
  exact ⟨a, m1.mono.tr b, b.ka m3, by rw [← en]; exact up2_s, fun i hi => ⟨b.r (by omega) (m4 i hi).1, b.s (m4 i hi).2⟩⟩
end MonoS
section MkRows
variable {g : Cx} {B : Bs} {L cu su pc pc' o c n J j : Nat} {σ σ' : Mem} {lv : List (Nat × Value)} {st : List Value}
theorem mk_arr {t len : Nat} (h : InO o c σ n J) (hj : J ≤ j) (ho : o ≠ 1 ∧ o ≠ 19) (hl : len < 2147483648) (put : ∀ s1, KO s1 o c → YY g L (setR s1 o j (some (B.1 + σ.2.1))) cu su pc' lv st → YY g L s1 cu su pc lv (.ref (B.1 + σ.2.1) :: .ref (B.1 + o) :: st)) (kk : ∀ s', InO o c s' (n + 1) (j + 1) → Mono σ s' → KA s' n t len → s'.2.2.2.2 o j = some (B.1 + n) → YY g L s' cu su pc' lv st) : YY g L (newK σ (t, len)) cu su pc lv (.ref (B.1 + σ.2.1) :: .ref (B.1 + o) :: st) := by
  obtain ⟨a, b, d, e⟩ := st_arr (B := B) (t := t) (len := len) h hj ho hl
  exact put _ h.2.1.nk (kk _ a b d e)
theorem mk_set (h : InO o c σ n J) (hm : MkS B σ σ') (hj : J ≤ j) (ho : o ≠ 1 ∧ o ≠ 19) (hn : ¬ (n ≤ 19 ∧ 19 < n + 4)) (hn1 : 1 < n) (put : ∀ s1, KO s1 o c → YY g L (setR s1 o j (some (B.1 + σ.2.1))) cu su pc' lv st → YY g L s1 cu su pc lv (.ref (B.1 + σ.2.1) :: .ref (B.1 + o) :: st)) (kk : ∀ s', InO o c s' (n + 4) (j + 1) → Mono σ s' → IsS B s' n → s'.2.2.2.2 o j = some (B.1 + n) → YY g L s' cu su pc' lv st) : YY g L σ' cu su pc lv (.ref (B.1 + σ.2.1) :: .ref (B.1 + o) :: st) := by
  obtain ⟨a, b, d, e⟩ := st_set h hm hj ho hn hn1
  exact put _ (hm.1.mono.ko h.2.1) (kk _ a b d e)
theorem mk_row {m : Nat} (h : InO o c σ n J) (hm : MkR B m σ σ') (hj : J ≤ j) (ho : o ≠ 1 ∧ o ≠ 19) (hn1 : 19 < n) (put : ∀ s1, KO s1 o c → YY g L (setR s1 o j (some (B.1 + σ.2.1))) cu su pc' lv st → YY g L s1 cu su pc lv (.ref (B.1 + σ.2.1) :: .ref (B.1 + o) :: st)) (kk : ∀ s', InO o c s' (n + (1 + 4 * m)) (j + 1) → Mono σ s' → KA s' n 4 m → s'.2.2.2.2 o j = some (B.1 + n) → (∀ i, i < m → s'.2.2.2.2 n i = some (B.1 + (n + 1 + 4 * i)) ∧ IsS B s' (n + 1 + 4 * i)) → YY g L s' cu su pc' lv st) : YY g L σ' cu su pc lv (.ref (B.1 + σ.2.1) :: .ref (B.1 + o) :: st) := by
  obtain ⟨a, b, d, e, f⟩ := st_row h hm hj ho hn1
  exact put _ (hm.1.mono.ko h.2.1) (kk _ a b d e f)
theorem mk_ref {a : Nat} (h : InO o c σ n J) (hj : J ≤ j) (ho : o ≠ 1 ∧ o ≠ 19) (put : ∀ s1, KO s1 o c → YY g L (setR s1 o j (some a)) cu su pc' lv st → YY g L s1 cu su pc lv (.ref a :: .ref (B.1 + o) :: st)) (kk : ∀ s', InO o c s' n (j + 1) → Mono σ s' → YY g L s' cu su pc' lv st) : YY g L σ cu su pc lv (.ref a :: .ref (B.1 + o) :: st) := by
  obtain ⟨x, y⟩ := h.sR (v := some a) hj ho
  exact put _ h.2.1 (kk _ x y)
end MkRows

