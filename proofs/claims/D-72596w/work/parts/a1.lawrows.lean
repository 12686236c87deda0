/-! ===== the law: rows of the script, the start of the state ===== -/
section LawRows
variable {g : Cx} {l0 : Launch} {B : Bs} {own : String} {cc : ByteArray} {L d mc ms cu su pc : Nat} {σ : Mem} {lv : List (Nat × Value)} {st : List Value}
def ScX (g : Cx) (b Ls : Nat) (xs : Nat → Int32) : Prop := match g with
  | (_, _, _, _, s, _, _, _, _, _, _, B) => va_X b Ls xs s s.heap ∧ b < s.heap.size ∧ b < B.1
theorem y_sld (hg : Gd g l0 B own cc L d mc ms) {b Ls : Nat} {xs : Nat → Int32} (hX : ScX g b Ls xs) {i : Int32} (n : Nat) (hi : i = nI n) (hn : n < Ls) (hL : Ls ≤ 256) (hd : decode cc pc = .ok (.iaload, 1)) (kk : YY g L σ cu su (pc + 1) lv (.int (xs n) :: st)) : YY g L σ cu su pc lv (.int i :: .ref b :: st) := by
  obtain ⟨p, l, e, R, s, m, args, below, meth, cD, Q, B'⟩ := g
  obtain ⟨rfl, rfl, hx, hb, hml, hown, hts, hK, hfr, hlo, hce, hsl, hlk, hba⟩ := hg
  obtain ⟨x1, x2, x3⟩ := hX
  intro H locs ls hR hS hv
  subst hi
  refine va_sld hx hb x1 x2 (Nat.not_le.mpr x3) hS (ix_in hn (by omega)) hd ?_
  rw [ix_cl hn (by omega)]
  exact kk H locs ls hR hS hv
theorem y_slen (hg : Gd g l0 B own cc L d mc ms) {b Ls : Nat} {xs : Nat → Int32} (hX : ScX g b Ls xs) (hd : decode cc pc = .ok (.arraylength, 1)) (kk : YY g L σ cu su (pc + 1) lv (.int (nI Ls) :: st)) : YY g L σ cu su pc lv (.ref b :: st) := by
  obtain ⟨p, l, e, R, s, m, args, below, meth, cD, Q, B'⟩ := g
  obtain ⟨rfl, rfl, hx, hb, hml, hown, hts, hK, hfr, hlo, hce, hsl, hlk, hba⟩ := hg
  obtain ⟨x1, x2, x3⟩ := hX
  intro H locs ls hR hS hv
  exact va_slen hx hb x1 x2 (Nat.not_le.mpr x3) hS hd (kk H locs ls hR hS hv)
end LawRows
section LawP
variable {A : Ab} {B : Bs}
theorem and31 (v : Int32) : ∃ c, c < 32 ∧ v &&& nI 31 = nI c := by
  refine ⟨(v &&& nI 31).toBitVec.toNat, ?_, ?_⟩
  · rw [Int32.toBitVec_and, BitVec.toNat_and]
    exact Nat.lt_of_le_of_lt Nat.and_le_right (by decide)
  · apply Int32.toBitVec_inj.mp
    show _ = BitVec.ofNat 32 _
    rw [BitVec.ofNat_toNat, BitVec.setWidth_eq]
theorem xRun_wf : ∀ G q n S, WFS n S → WFS (xRun A G q n S).2.1 (xRun A G q n S).2.2
  | 0, q, n, S, h => h
  | G + 1, q, n, S, h => by
    rw [xRun]
    by_cases e : q < rln A
    · rw [if_pos e]
      by_cases f : (xPart A n S q).1 = true
      · rw [if_pos f]; exact xRun_wf G _ _ _ (xPart_wf h f)
      · rw [if_neg f]; exact (WFm.z (p := 0) (fi := 0)).1
    · rw [if_neg e]; exact h
theorem mR0_wf (A : Ab) : WFS (mR0 A).2.1 (mR0 A).2.2 := by
  have e : mR0 A = xRun A (rln A) 0 0 zA := mx_run (rln A) 0 0 0 0 zA (rln A) (by omega) (Nat.le_refl _)
  rw [e]
  exact xRun_wf _ _ _ _ (WFm.z (p := 0) (fi := 0)).1
theorem wHouse (hW : WFA A) : WFA (oHouse A).2 := oHouse_wf hW (fun _ => mR0_wf A)
theorem zA_wf : WFA zA := by
  have e : nm zA = 0 := rfl
  unfold WFA
  rw [e]
  refine ⟨⟨rfl, by omega⟩, ⟨0, by omega, rfl⟩, ⟨0, by omega, rfl⟩, ⟨0, by omega, rfl⟩, ⟨0, by omega, rfl⟩, ⟨0, by omega, rfl⟩, fun w hw => by omega, fun j hj hj2 => absurd hj (no_lt j (by omega)), WFr.z, fun i hi hi2 => absurd hi (no_lt i hi2), fun i hi z => absurd rfl z, fun j hj => ⟨0, by omega, rfl⟩, fun i hi => Or.inl rfl⟩
theorem RX.start {σ : Mem} (hL : LX B σ) (hy : LyR B σ 16 17) (hz : ∀ k j, k < 157 → σ.2.2.1 k j = 0) (hs : σ.2.2.2.1 0 33 = 0) : RX B zA 0 σ :=
  ⟨hL, ⟨16, 17, hy⟩, fun c j hd => hz _ _ (xA_dm (A := zA) (by decide) hd).1, hs⟩
theorem RMm.start {σ : Mem} (hM : LM B σ) (hz : ∀ k j, k < 187 → σ.2.2.1 k j = 0) (hs : σ.2.2.2.1 157 20 = 0) : RMm B zA 0 σ :=
  ⟨hM, fun c j hd => hz _ _ (by have := (mA_dm hd).2.1; omega), hs⟩
theorem lw_gt : ∀ n, n < 257 → ∀ k, k < 65 → (nI n - nI 4 < nI (4 * k) ↔ n < 4 * k + 4) := by decide +kernel
end LawP
