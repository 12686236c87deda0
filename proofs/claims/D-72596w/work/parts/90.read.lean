/-! ===== reading: the automaton of M, the parts of X, purely ===== -/
section ReadP
variable {A : Ab}
def rln (A : Ab) : Nat := (A 1 0).toNatClampNeg
def rtx (A : Ab) (p : Nat) : Nat := (A 0 p).toNatClampNeg
theorem WFA.lenN (hW : WFA A) : A 1 0 = nI (rln A) ∧ rln A ≤ 180 := by
  obtain ⟨n, hn, e⟩ := hW.2.1
  unfold rln
  rw [e, nI_clamp (by omega)]
  exact ⟨rfl, hn⟩
theorem WFA.txN (hW : WFA A) {p : Nat} (hp : p < 180) : A 0 p = nI (rtx A p) ∧ rtx A p < 256 := by
  obtain ⟨t, ht, e⟩ := hW.2.2.2.2.2.2.2.2.2.2.2.1 p hp
  unfold rtx
  rw [e, nI_clamp (by omega)]
  exact ⟨rfl, ht⟩
def zA : Ab := fun _ _ => nI 0
def okS (n : Nat) (S : Ab) (t : Nat) : Bool := if t = 119 then decide (n < 10) else if t = 43 then decide (sm (bg (S 11)) 8 < 12) else if t = 94 then decide (¬ S 11 19 = nI 15) else if t = 46 then decide (¬ S 11 20 = nI 15) else if t = 58 then decide (¬ (S 11 21 = nI 15 ∧ S 11 22 = nI 15 ∧ S 11 23 = nI 15 ∧ S 11 24 = nI 15)) else false
def stS (n : Nat) (S : Ab) (t : Nat) : Ab := if t = 119 then up2 S 2 n (nI 0) else S
def kOK (S : Ab) (j t : Nat) : Bool := decide (65 ≤ t ∧ t < 69) && !hasB (S 11 j) (nI (t - 65))
def kSt (S : Ab) (j t : Nat) : Ab := up2 S 11 j (S 11 j ||| nI (2 ^ (t - 65)))
def adL (S : Ab) (n t : Nat) : Ab := up2 (up2 S 5 (6 * n + sz S n) (nI (t - 97))) 2 n (nI (sz S n + 1))
def mIn (p pl fi n : Nat) (S : Ab) (t : Nat) : Bool × Nat × Nat × Nat × Ab :=
  if p = 119 then
    if pl = 2 then (decide (48 ≤ t ∧ t < 58), 0, fi, n + 1, up2 S 11 (9 + n) (nI (t - 48)))
    else if (97 ≤ t ∧ t < 105) ∧ sz S n < 6 then (true, 1, fi, n, adL S n t)
    else (decide ((65 ≤ t ∧ t < 69) ∧ 0 < sz S n), 2, fi, n, up2 S 3 n (nI (t - 65)))
  else if p = 43 then (decide (97 ≤ t ∧ t < 105), 0, fi, n, up2 S 11 (t - 97) (S 11 (t - 97) + nI 1))
  else if p = 94 then (kOK S 19 t, 0, fi, n, kSt S 19 t)
  else if p = 46 then (kOK S 20 t, 0, fi, n, kSt S 20 t)
  else if pl = 2 then (kOK S (21 + fi) t, 0, fi, n, kSt S (21 + fi) t)
  else (decide ((65 ≤ t ∧ t < 69) ∧ ¬ S 11 (21 + (t - 65)) = nI 15), 2, t - 65, n, S)
def mRun (A : Ab) : Nat → Nat → Nat → Nat → Nat → Nat → Ab → Int32 × Nat × Ab
  | 0, k, _, pl, _, n, S => if pl = 0 then (-9, n, S) else (nI k, 0, zA)
  | F + 1, k, p, pl, fi, n, S =>
    if pl = 0 then (if okS n S (rtx A k) = true then mRun A F (k + 1) (rtx A k) 1 fi n (stS n S (rtx A k)) else (nI k, 0, zA))
    else (if (mIn p pl fi n S (rtx A k)).1 = true then mRun A F (k + 1) p (mIn p pl fi n S (rtx A k)).2.1 (mIn p pl fi n S (rtx A k)).2.2.1 (mIn p pl fi n S (rtx A k)).2.2.2.1 (mIn p pl fi n S (rtx A k)).2.2.2.2 else (nI k, 0, zA))
/-- how far the letter that comes is behind another one -/
def rnx (A : Ab) (f m q : Nat) : Option Nat := if q < rln A ∧ f ≤ rtx A q ∧ rtx A q < f + m then some (rtx A q - f) else none
def spl (A : Ab) (n : Nat) : Nat → Nat → Ab → Nat × Ab
  | 0, q, S => (q, S)
  | F + 1, q, S => if (rnx A 97 8 q).isSome = true then spl A n F (q + 1) (adL S n (rtx A q)) else (q, S)
def wK (A : Ab) (n q : Nat) (S : Ab) : Bool × Nat × Nat × Ab :=
  if (rnx A 65 4 q).isSome = true ∧ 0 < sz S n then
    if (rnx A 48 10 (q + 1)).isSome = true then (true, q + 2, n + 1, up2 (up2 S 3 n (nI (rtx A q - 65))) 11 (9 + n) (nI (rtx A (q + 1) - 48)))
    else (false, q + 1, 0, zA)
  else (false, q, 0, zA)
def xKd (A : Ab) (j n q : Nat) (S : Ab) : Bool × Nat × Nat × Ab :=
  if (rnx A 65 4 q).isSome = true ∧ hasB (S 11 j) (nI (rtx A q - 65)) = false then (true, q + 1, n, kSt S j (rtx A q)) else (false, q, 0, zA)
def xPart (A : Ab) (n : Nat) (S : Ab) (q : Nat) : Bool × Nat × Nat × Ab :=
  if okS n S (rtx A q) = false then (false, q, 0, zA)
  else if rtx A q = 119 then wK A n (spl A n 6 (q + 1) (up2 S 2 n (nI 0))).1 (spl A n 6 (q + 1) (up2 S 2 n (nI 0))).2
  else if rtx A q = 43 then (if (rnx A 97 8 (q + 1)).isSome = true then (true, q + 2, n, up2 S 11 (rtx A (q + 1) - 97) (S 11 (rtx A (q + 1) - 97) + nI 1)) else (false, q + 1, 0, zA))
  else if rtx A q = 94 then xKd A 19 n (q + 1) S
  else if rtx A q = 46 then xKd A 20 n (q + 1) S
  else if (rnx A 65 4 (q + 1)).isSome = true ∧ ¬ S 11 (21 + (rtx A (q + 1) - 65)) = nI 15 then xKd A (21 + (rtx A (q + 1) - 65)) n (q + 2) S
  else (false, q + 1, 0, zA)
def xRun (A : Ab) : Nat → Nat → Nat → Ab → Int32 × Nat × Ab
  | 0, _, n, S => (-9, n, S)
  | G + 1, q, n, S => if q < rln A then (if (xPart A n S q).1 = true then xRun A G (xPart A n S q).2.1 (xPart A n S q).2.2.1 (xPart A n S q).2.2.2 else (nI (xPart A n S q).2.1, 0, zA)) else (-9, n, S)
def xFin (A : Ab) (G : Nat) (r : Bool × Nat × Nat × Ab) : Int32 × Nat × Ab := if r.1 = true then xRun A G r.2.1 r.2.2.1 r.2.2.2 else (nI r.2.1, 0, zA)
theorem rnx_no {f m q : Nat} (h : rln A ≤ q) : (rnx A f m q).isSome = false := by unfold rnx; rw [if_neg (by omega)]; rfl
theorem rnx_is {f m q : Nat} (h : q < rln A) : (rnx A f m q).isSome = decide (f ≤ rtx A q ∧ rtx A q < f + m) := by
  unfold rnx
  by_cases e : f ≤ rtx A q ∧ rtx A q < f + m
  · rw [if_pos ⟨h, e.1, e.2⟩, decide_eq_true e]; rfl
  · rw [if_neg (fun z => e z.2), decide_eq_false e]; rfl
theorem mRun_0 {k p pl fi n : Nat} {S : Ab} (h : pl ≠ 0) : mRun A 0 k p pl fi n S = (nI k, 0, zA) := by unfold mRun; rw [if_neg h]
theorem mRun_s {F k p pl fi n : Nat} {S : Ab} (h : pl ≠ 0) : mRun A (F + 1) k p pl fi n S = if (mIn p pl fi n S (rtx A k)).1 = true then mRun A F (k + 1) p (mIn p pl fi n S (rtx A k)).2.1 (mIn p pl fi n S (rtx A k)).2.2.1 (mIn p pl fi n S (rtx A k)).2.2.2.1 (mIn p pl fi n S (rtx A k)).2.2.2.2 else (nI k, 0, zA) := by
  rw [mRun, if_neg h]
theorem adL_sz {S : Ab} {n t : Nat} (h : sz S n < 6) : sz (adL S n t) n = sz S n + 1 := by
  show (adL S n t 2 n).toNatClampNeg = _
  rw [adL, up2_s, nI_clamp (by omega)]
/-- one kind more in a set -/
theorem kd_run {G j n : Nat} {S : Ab} {p pl fi : Nat} (hpl : pl ≠ 0) (hin : ∀ t, mIn p pl fi n S t = (kOK S j t, 0, fi, n, kSt S j t)) : ∀ F k, k + F = rln A → (∀ F', F' < F → ∀ k p fi n S, k + F' = rln A → mRun A F' k p 0 fi n S = xRun A G k n S) → mRun A F k p pl fi n S = xFin A G (xKd A j n k S)
  | 0, k, hk, _ => by
    have ex : xKd A j n k S = (false, k, 0, zA) := by
      unfold xKd
      rw [if_neg (fun z => by have z1 := z.1; rw [rnx_no (by omega)] at z1; exact absurd z1 (by decide))]
    rw [mRun_0 hpl, ex]
    rfl
  | F + 1, k, hk, ih => by
    rw [mRun_s hpl, hin]
    by_cases e : 65 ≤ rtx A k ∧ rtx A k < 69
    · cases hb : hasB (S 11 j) (nI (rtx A k - 65)) with
      | true =>
        have ek : kOK S j (rtx A k) = false := by unfold kOK; rw [hb, Bool.not_true, Bool.and_false]
        have ex : xKd A j n k S = (false, k, 0, zA) := by unfold xKd; rw [if_neg (fun z => by have z2 := z.2; rw [hb] at z2; exact absurd z2 (by decide))]
        rw [ek, ex]
        rfl
      | false =>
        have ek : kOK S j (rtx A k) = true := by unfold kOK; rw [hb, decide_eq_true e]; rfl
        have ex : xKd A j n k S = (true, k + 1, n, kSt S j (rtx A k)) := by unfold xKd; rw [if_pos ⟨by rw [rnx_is (by omega)]; exact decide_eq_true (by omega), hb⟩]
        rw [ek, ex]
        show mRun A F (k + 1) p 0 fi n (kSt S j (rtx A k)) = _
        rw [ih F (by omega) _ _ _ _ _ (by omega)]
        rfl
    · have ek : kOK S j (rtx A k) = false := by unfold kOK; rw [decide_eq_false e]; rfl
      have ex : xKd A j n k S = (false, k, 0, zA) := by unfold xKd; rw [if_neg (fun z => by have z1 := z.1; rw [rnx_is (by omega)] at z1; have := of_decide_eq_true z1; omega)]
      rw [ek, ex]
      rfl
/-- a word, letter by letter -/
theorem wd_run {G n fi : Nat} : ∀ F k f S, k + F = rln A → sz S n + f = 6 → (∀ F', F' < F → ∀ k p fi n S, k + F' = rln A → mRun A F' k p 0 fi n S = xRun A G k n S) → mRun A F k 119 1 fi n S = xFin A G (wK A n (spl A n f k S).1 (spl A n f k S).2)
  | 0, k, f, S, hk, hs, _ => by
    rw [mRun_0 (by decide)]
    have e1 : spl A n f k S = (k, S) := by
      cases f with
      | zero => rfl
      | succ f => unfold spl; rw [if_neg (by rw [rnx_no (by omega)]; decide)]
    have ex : wK A n k S = (false, k, 0, zA) := by unfold wK; rw [if_neg (fun z => by have z1 := z.1; rw [rnx_no (by omega)] at z1; exact absurd z1 (by decide))]
    rw [e1, ex]
    rfl
  | F + 1, k, f, S, hk, hs, ih => by
    rw [mRun_s (by decide)]
    by_cases e : (97 ≤ rtx A k ∧ rtx A k < 105) ∧ sz S n < 6
    · have em : mIn 119 1 fi n S (rtx A k) = (true, 1, fi, n, adL S n (rtx A k)) := by unfold mIn; rw [if_pos rfl, if_neg (by decide), if_pos e]
      rw [em, if_pos rfl]
      obtain ⟨f', rfl⟩ : ∃ f', f = f' + 1 := ⟨f - 1, by omega⟩
      have e1 : spl A n (f' + 1) k S = spl A n f' (k + 1) (adL S n (rtx A k)) := by rw [spl, if_pos (by rw [rnx_is (by omega)]; exact decide_eq_true (by omega))]
      rw [e1]
      exact wd_run F (k + 1) f' _ (by omega) (by rw [adL_sz e.2]; omega) (fun F' hF => ih F' (by omega))
    · have em : mIn 119 1 fi n S (rtx A k) = (decide ((65 ≤ rtx A k ∧ rtx A k < 69) ∧ 0 < sz S n), 2, fi, n, up2 S 3 n (nI (rtx A k - 65))) := by unfold mIn; rw [if_pos rfl, if_neg (by decide), if_neg e]
      rw [em]
      have e1 : spl A n f k S = (k, S) := by
        cases f with
        | zero => rfl
        | succ f => rw [spl, if_neg (by rw [rnx_is (by omega)]; exact fun z => e ⟨by have := of_decide_eq_true z; omega, by omega⟩)]
      rw [e1]
      show (if decide ((65 ≤ rtx A k ∧ rtx A k < 69) ∧ 0 < sz S n) = true then mRun A F (k + 1) 119 2 fi n (up2 S 3 n (nI (rtx A k - 65))) else (nI k, 0, zA)) = xFin A G (wK A n k S)
      unfold wK
      rw [rnx_is (by omega)]
      by_cases e2 : (65 ≤ rtx A k ∧ rtx A k < 69) ∧ 0 < sz S n
      · rw [if_pos (decide_eq_true e2), if_pos ⟨decide_eq_true (by omega), e2.2⟩]
        cases F with
        | zero =>
          rw [mRun_0 (by decide), if_neg (by rw [rnx_no (by omega)]; decide)]
          rfl
        | succ F =>
          have em2 : mIn 119 2 fi n (up2 S 3 n (nI (rtx A k - 65))) (rtx A (k + 1)) = (decide (48 ≤ rtx A (k + 1) ∧ rtx A (k + 1) < 58), 0, fi, n + 1, up2 (up2 S 3 n (nI (rtx A k - 65))) 11 (9 + n) (nI (rtx A (k + 1) - 48))) := by unfold mIn; rw [if_pos rfl, if_pos rfl]
          rw [mRun_s (by decide), em2, rnx_is (by omega)]
          by_cases e3 : 48 ≤ rtx A (k + 1) ∧ rtx A (k + 1) < 58
          · rw [if_pos (decide_eq_true e3), if_pos (decide_eq_true (by omega))]
            show mRun A F (k + 1 + 1) 119 0 fi (n + 1) _ = _
            rw [ih F (by omega) _ _ _ _ _ (by omega)]
            rfl
          · rw [if_neg (fun z => e3 (of_decide_eq_true z)), if_neg (fun z => e3 (by have := of_decide_eq_true z; omega))]
            rfl
      · rw [if_neg (fun z => e2 (of_decide_eq_true z)), if_neg (fun z => e2 ⟨by have := of_decide_eq_true z.1; omega, z.2⟩)]
        rfl
/-- M reads as X does -/
theorem mx_run : ∀ F k p fi n S G, k + F = rln A → F ≤ G → mRun A F k p 0 fi n S = xRun A G k n S := by
  intro F
  induction F using Nat.strongRecOn with
  | _ F ih =>
    intro k p fi n S G hk hG
    cases F with
    | zero =>
      rw [show mRun A 0 k p 0 fi n S = (-9, n, S) from rfl]
      cases G with
      | zero => rfl
      | succ G => rw [xRun, if_neg (by omega)]
    | succ F =>
      obtain ⟨G, rfl⟩ : ∃ G', G = G' + 1 := ⟨G - 1, by omega⟩
      have hx : xRun A (G + 1) k n S = xFin A G (xPart A n S k) := by rw [xRun, if_pos (by omega)]; rfl
      rw [hx, mRun, if_pos rfl]
      have ih' : ∀ F', F' < F → ∀ k p fi n S, k + F' = rln A → mRun A F' k p 0 fi n S = xRun A G k n S := fun F' hF k p fi n S h => ih F' (by omega) k p fi n S G h (by omega)
      unfold xPart
      cases hok : okS n S (rtx A k) with
      | false => rw [if_neg (by decide), if_pos rfl]; rfl
      | true =>
        rw [if_pos rfl, if_neg (by decide)]
        by_cases t1 : rtx A k = 119
        · rw [if_pos t1]
          have hn : n < 10 := by
            unfold okS at hok
            rw [if_pos t1] at hok
            exact of_decide_eq_true hok
          unfold stS
          rw [if_pos t1, t1]
          exact wd_run F (k + 1) 6 _ (by omega) (by show (up2 S 2 n (nI 0) 2 n).toNatClampNeg + 6 = 6; rw [up2_s]; rfl) ih'
        · rw [if_neg t1]
          have hst : stS n S (rtx A k) = S := by unfold stS; rw [if_neg t1]
          rw [hst]
          by_cases t2 : rtx A k = 43
          · rw [if_pos t2, t2]
            cases F with
            | zero => rw [mRun_0 (by decide), if_neg (by rw [rnx_no (by omega)]; decide)]; rfl
            | succ F =>
              have em : mIn 43 1 fi n S (rtx A (k + 1)) = (decide (97 ≤ rtx A (k + 1) ∧ rtx A (k + 1) < 105), 0, fi, n, up2 S 11 (rtx A (k + 1) - 97) (S 11 (rtx A (k + 1) - 97) + nI 1)) := by unfold mIn; rw [if_neg (by decide), if_pos rfl]
              rw [mRun_s (by decide), em, rnx_is (by omega)]
              by_cases e3 : 97 ≤ rtx A (k + 1) ∧ rtx A (k + 1) < 105
              · rw [if_pos (decide_eq_true e3), if_pos (decide_eq_true (by omega))]
                show mRun A F (k + 1 + 1) 43 0 fi n _ = _
                rw [ih' F (by omega) _ _ _ _ _ (by omega)]
                rfl
              · rw [if_neg (fun z => e3 (of_decide_eq_true z)), if_neg (fun z => e3 (by have := of_decide_eq_true z; omega))]
                rfl
          · rw [if_neg t2]
            by_cases t3 : rtx A k = 94
            · rw [if_pos t3, t3]
              exact kd_run (by decide) (fun t => by unfold mIn; rw [if_neg (by decide), if_neg (by decide), if_pos rfl]) F (k + 1) (by omega) ih'
            · rw [if_neg t3]
              by_cases t4 : rtx A k = 46
              · rw [if_pos t4, t4]
                exact kd_run (by decide) (fun t => by unfold mIn; rw [if_neg (by decide), if_neg (by decide), if_neg (by decide), if_pos rfl]) F (k + 1) (by omega) ih'
              · rw [if_neg t4]
                have em : ∀ t, mIn (rtx A k) 1 fi n S t = (decide ((65 ≤ t ∧ t < 69) ∧ ¬ S 11 (21 + (t - 65)) = nI 15), 2, t - 65, n, S) := fun t => by unfold mIn; rw [if_neg t1, if_neg t2, if_neg t3, if_neg t4, if_neg (by decide)]
                cases F with
                | zero =>
                  rw [mRun_0 (by decide), if_neg (fun z => by have z1 := z.1; rw [rnx_no (by omega)] at z1; exact absurd z1 (by decide))]
                  rfl
                | succ F =>
                  rw [mRun_s (by decide), em, rnx_is (by omega)]
                  by_cases e3 : (65 ≤ rtx A (k + 1) ∧ rtx A (k + 1) < 69) ∧ ¬ S 11 (21 + (rtx A (k + 1) - 65)) = nI 15
                  · rw [if_pos (decide_eq_true e3), if_pos ⟨decide_eq_true (by omega), e3.2⟩]
                    exact kd_run (p := rtx A k) (pl := 2) (fi := rtx A (k + 1) - 65) (by decide) (fun t => by unfold mIn; rw [if_neg t1, if_neg t2, if_neg t3, if_neg t4, if_pos rfl]) F (k + 1 + 1) (by omega) (fun F' hF => ih' F' (by omega))
                  · rw [if_neg (fun z => e3 (of_decide_eq_true z)), if_neg (fun z => e3 ⟨by have := of_decide_eq_true z.1; omega, z.2⟩)]
                    rfl
end ReadP
