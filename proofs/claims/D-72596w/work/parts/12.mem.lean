/-! ===== memory rows ===== -/
/-- cell k is an object of class number c -/
def KO (σ : Mem) (k c : Nat) : Prop := σ.1 k = (10 + c, 0) ∧ k < σ.2.1
/-- cell k is an array of kind t, of length n -/
def KA (σ : Mem) (k t n : Nat) : Prop := σ.1 k = (t, n) ∧ k < σ.2.1 ∧ n < 2147483648
/-- a class by its number -/
def CF (c : Nat) (C : String) (T : u_T) (N : Nat) : Prop := clL[c]? = some (C, T, N) ∧ (∀ w ∈ u_ws C T N, w ∈ lw_all) ∧ (∀ k, k < N → parseFieldDescriptor (T k).2.2.1 = some (clY c k)) ∧ (∀ a, a < N → ∀ b, b < N → a ≠ b → (T a).2.1 ≠ (T b).2.1) ∧ clN c = N ∧ c < 11
theorem cf0 : CF 0 RX0 TX0 36 := ⟨rfl, in_X0, tyX0_ok, nmX0, rfl, by decide⟩
theorem cf1 : CF 1 RX1 TX1 6 := ⟨rfl, in_X1, tyX1_ok, nmX1, rfl, by decide⟩
theorem cf2 : CF 2 RX2 TX2 4 := ⟨rfl, in_X2, tyX2_ok, nmX2, rfl, by decide⟩
theorem cf3 : CF 3 RX3 TX3 45 := ⟨rfl, in_X3, tyX3_ok, nmX3, rfl, by decide⟩
theorem cf4 : CF 4 RX5 TX5 7 := ⟨rfl, in_X5, tyX5_ok, nmX5, rfl, by decide⟩
theorem cf5 : CF 5 RX6 TX6 7 := ⟨rfl, in_X6, tyX6_ok, nmX6, rfl, by decide⟩
theorem cf6 : CF 6 RX7 TX7 8 := ⟨rfl, in_X7, tyX7_ok, nmX7, rfl, by decide⟩
theorem cf7 : CF 7 RX8 TX8 7 := ⟨rfl, in_X8, tyX8_ok, nmX8, rfl, by decide⟩
theorem cf8 : CF 8 RX9 TX9 7 := ⟨rfl, in_X9, tyX9_ok, nmX9, rfl, by decide⟩
theorem cf9 : CF 9 RX10 TX10 7 := ⟨rfl, in_X10, tyX10_ok, nmX10, rfl, by decide⟩
theorem cf10 : CF 10 RX11 TX11 7 := ⟨rfl, in_X11, tyX11_ok, nmX11, rfl, by decide⟩
theorem df0 (j : Nat) : defaultValue (clY 0 j) = fv (clY 0 j) 0 0 none := by show defaultValue (tyX0 j) = fv (tyX0 j) 0 0 none; unfold tyX0; split <;> rfl
theorem df1 (j : Nat) : defaultValue (clY 1 j) = fv (clY 1 j) 0 0 none := by show defaultValue (tyX1 j) = fv (tyX1 j) 0 0 none; unfold tyX1; split <;> rfl
theorem df2 (j : Nat) : defaultValue (clY 2 j) = fv (clY 2 j) 0 0 none := by show defaultValue (tyX2 j) = fv (tyX2 j) 0 0 none; unfold tyX2; split <;> rfl
theorem df3 (j : Nat) : defaultValue (clY 3 j) = fv (clY 3 j) 0 0 none := by show defaultValue (tyX3 j) = fv (tyX3 j) 0 0 none; unfold tyX3; split <;> rfl
theorem Rep.obj {B : Bs} {σ : Mem} {H : Heap} {k c N : Nat} {C : String} {T : u_T} (h : Rep B σ H) (hk : KO σ k c) (hc : CF c C T N) : t_OB (B.1 + k) (B.2.1.1 c) N (B.2.1.2 c) H (fun j => fv (clY c j) (σ.2.2.1 k j) (σ.2.2.2.1 k j) (σ.2.2.2.2 k j)) := by
  have h1 := (h.2 k hk.2).2.1
  rw [hk.1] at h1
  have h2 := h1 (by show 10 ≤ 10 + c; omega) (by show 10 + c < 21; have := hc.2.2.2.2.2; omega)
  rw [show ((10 + c, 0) : Nat × Nat).1 - 10 = c from Nat.add_sub_cancel_left 10 c, hc.2.2.2.2.1] at h2
  exact h2
theorem Rep.arr {B : Bs} {σ : Mem} {H : Heap} {k t n : Nat} (h : Rep B σ H) (hk : KA σ k t n) (ht : t < 5) : H[B.1 + k]? = some (arrV (B.2.2 t) n (fun j => av t (σ.2.2.1 k j) (σ.2.2.2.1 k j) (σ.2.2.2.2 k j))) := by
  have h1 := (h.2 k hk.2.1).1
  rw [hk.1] at h1
  exact h1 ht
theorem cOK.ob {B : Bs} {c N : Nat} {C : String} {T : u_T} {fi : Nat → Int32} {fl : Nat → Int64} {fr : Nat → Option Nat} {a : Nat} {H : Heap} (hc : CF c C T N) (h : t_OB a (B.2.1.1 c) N (B.2.1.2 c) H (fun j => fv (clY c j) (fi j) (fl j) (fr j))) (hmo : ∃ cell : Cell, H[a]? = some cell ∧ cell.monitor = {}) : cOK B (10 + c, 0) fi fl fr a H := by
  refine ⟨fun h1 => absurd h1 (by show ¬ 10 + c < 5; omega), fun _ _ => ?_, fun _ _ => hmo⟩
  rw [show ((10 + c, 0) : Nat × Nat).1 - 10 = c from Nat.add_sub_cancel_left 10 c, hc.2.2.2.2.1]
  exact h
theorem cOK.ar {B : Bs} {t n : Nat} {fi : Nat → Int32} {fl : Nat → Int64} {fr : Nat → Option Nat} {a : Nat} {H : Heap} (ht : t < 5) (h : H[a]? = some (arrV (B.2.2 t) n (fun j => av t (fi j) (fl j) (fr j)))) : cOK B (t, n) fi fl fr a H :=
  ⟨fun _ => h, fun h1 => absurd h1 (by show ¬ 10 ≤ t; omega), fun h1 => absurd h1 (by show ¬ 10 ≤ t; omega)⟩
/-- nobody holds an object's monitor -/
theorem Rep.mon {B : Bs} {σ : Mem} {H : Heap} {k c N : Nat} {C : String} {T : u_T} {cell : Cell} (h : Rep B σ H) (hk : KO σ k c) (hc : CF c C T N) (q : H[B.1 + k]? = some cell) : cell.monitor = {} := by
  have h1 := (h.2 k hk.2).2.2
  rw [hk.1] at h1
  obtain ⟨c2, z1, z2⟩ := h1 (by show 10 ≤ 10 + c; omega) (by show 10 + c < 21; have := hc.2.2.2.2.2; omega)
  rw [q] at z1
  cases z1
  exact z2
theorem KK.arr {B : Bs} {U : State} (h : KK B U) : ArrOfT U (B.2.2 0) .int ∧ ArrOfT U (B.2.2 1) .long ∧ ArrOfT U (B.2.2 2) .boolean ∧ ArrOfT U (B.2.2 3) (.object RX2) ∧ ArrOfT U (B.2.2 4) (.object RX1) :=
  ⟨(h.1.2 0 _ rfl).1, (h.1.2 1 _ rfl).1, (h.1.2 2 _ rfl).1, (h.1.2 3 _ rfl).1, (h.1.2 4 _ rfl).1⟩
section MRows
variable {g : Cx} {l0 : Launch} {B : Bs} {own : String} {cc : ByteArray} {L d mc ms cu su pc : Nat} {σ : Mem} {lv : List (Nat × Value)} {st : List Value}
theorem y_get (hg : Gd g l0 B own cc L d mc ms) {c N k j idx : Nat} {C : String} {T : u_T} (hc : CF c C T N) (hk : KO σ k c) (hj : j < N) (hl : Cond.fieldLink own idx (T j).1 (T j).2.1 (T j).2.2.1 ∈ lw_all) (hd : decode cc pc = .ok (.getfield idx, 3)) (kk : YY g L σ cu su (pc + 3) lv (fv (clY c j) (σ.2.2.1 k j) (σ.2.2.2.1 k j) (σ.2.2.2.2 k j) :: st)) : YY g L σ cu su pc lv (.ref (B.1 + k) :: st) := by
  obtain ⟨p, l, e, R, s, m, args, below, meth, cD, Q, B'⟩ := g
  obtain ⟨rfl, rfl, hx, hb, hml, hown, hts, hK, hfr, hlo, hce, hsl, hlk, hba⟩ := hg
  intro H locs ls hR hS hv
  obtain ⟨cell, q1, q2, q3, q4⟩ := hR.obj hk hc
  obtain ⟨hS9, hfc, kC, hkC, hkind⟩ := hK.1.1 c _ hc.1
  obtain ⟨cf, kf, fi, f, hi, hsl9⟩ := hS9 j hj
  refine W.getf hx hb hown (hts _ hl) hi (u_facts hfc hkC (u_lays hts hc.2.1 hj) hi).1 q1 (by rw [q3]; exact fun h => by cases h) (v := fv (clY c j) (σ.2.2.1 k j) (σ.2.2.2.1 k j) (σ.2.2.2.2 k j)) ?_ rfl rfl hd (kk H locs ls hR hS hv)
  rw [hsl9, q4 j hj]
theorem y_geti (hg : Gd g l0 B own cc L d mc ms) {c N k j idx : Nat} {C : String} {T : u_T} (hc : CF c C T N) (hk : KO σ k c) (hj : j < N) (hty : clY c j = .int) (hl : Cond.fieldLink own idx (T j).1 (T j).2.1 (T j).2.2.1 ∈ lw_all) (hd : decode cc pc = .ok (.getfield idx, 3)) (kk : YY g L σ cu su (pc + 3) lv (.int (σ.2.2.1 k j) :: st)) : YY g L σ cu su pc lv (.ref (B.1 + k) :: st) := by
  refine y_get hg hc hk hj hl hd ?_
  rw [hty]
  exact kk
theorem y_getl (hg : Gd g l0 B own cc L d mc ms) {c N k j idx : Nat} {C : String} {T : u_T} (hc : CF c C T N) (hk : KO σ k c) (hj : j < N) (hty : clY c j = .long) (hl : Cond.fieldLink own idx (T j).1 (T j).2.1 (T j).2.2.1 ∈ lw_all) (hd : decode cc pc = .ok (.getfield idx, 3)) (kk : YY g L σ cu su (pc + 3) lv (.long (σ.2.2.2.1 k j) :: st)) : YY g L σ cu su pc lv (.ref (B.1 + k) :: st) := by
  refine y_get hg hc hk hj hl hd ?_
  rw [hty]
  exact kk
theorem y_getr (hg : Gd g l0 B own cc L d mc ms) {c N k j idx : Nat} {C : String} {T : u_T} {a : Nat} (hc : CF c C T N) (hk : KO σ k c) (hj : j < N) (hty : (clY c j).isReference = true) (hr : σ.2.2.2.2 k j = some a) (hl : Cond.fieldLink own idx (T j).1 (T j).2.1 (T j).2.2.1 ∈ lw_all) (hd : decode cc pc = .ok (.getfield idx, 3)) (kk : YY g L σ cu su (pc + 3) lv (.ref a :: st)) : YY g L σ cu su pc lv (.ref (B.1 + k) :: st) := by
  refine y_get hg hc hk hj hl hd ?_
  have e : fv (clY c j) (σ.2.2.1 k j) (σ.2.2.2.1 k j) (σ.2.2.2.2 k j) = .ref a := by
    rw [hr]
    revert hty
    cases clY c j <;> intro h <;> first | rfl | (exact absurd h (by decide))
  rw [e]
  exact kk
theorem y_getN (hg : Gd g l0 B own cc L d mc ms) {c N k j idx : Nat} {C : String} {T : u_T} (hc : CF c C T N) (hk : KO σ k c) (hj : j < N) (hl : (own, idx, (T j).1, (T j).2.1, (T j).2.2.1, "BagPhrases") ∈ nstF) (hd : decode cc pc = .ok (.getfield idx, 3)) (kk : YY g L σ cu su (pc + 3) lv (fv (clY c j) (σ.2.2.1 k j) (σ.2.2.2.1 k j) (σ.2.2.2.2 k j) :: st)) : YY g L σ cu su pc lv (.ref (B.1 + k) :: st) := by
  obtain ⟨p, l, e, R, s, m, args, below, meth, cD, Q, B'⟩ := g
  obtain ⟨rfl, rfl, hx, hb, hml, hown, hts, hK, hfr, hlo, hce, hsl, hlk, hba⟩ := hg
  intro H locs ls hR hS hv
  obtain ⟨cell, q1, q2, q3, q4⟩ := hR.obj hk hc
  obtain ⟨hS9, hfc, kC, hkC, hkind⟩ := hK.1.1 c _ hc.1
  obtain ⟨cf, kf, fi, f, hi, hsl9⟩ := hS9 j hj
  refine va_Wgetf hx hb hown (va_Nw.use rfl (hK.2.1 _ hl)) hi (u_facts hfc hkC (u_lays hts hc.2.1 hj) hi).1 q1 (by rw [q3]; exact fun h => by cases h) (v := fv (clY c j) (σ.2.2.1 k j) (σ.2.2.2.1 k j) (σ.2.2.2.2 k j)) ?_ rfl rfl hd (kk H locs ls hR hS hv)
  rw [hsl9, q4 j hj]
theorem y_getiN (hg : Gd g l0 B own cc L d mc ms) {c N k j idx : Nat} {C : String} {T : u_T} (hc : CF c C T N) (hk : KO σ k c) (hj : j < N) (hty : clY c j = .int) (hl : (own, idx, (T j).1, (T j).2.1, (T j).2.2.1, "BagPhrases") ∈ nstF) (hd : decode cc pc = .ok (.getfield idx, 3)) (kk : YY g L σ cu su (pc + 3) lv (.int (σ.2.2.1 k j) :: st)) : YY g L σ cu su pc lv (.ref (B.1 + k) :: st) := by
  refine y_getN hg hc hk hj hl hd ?_
  rw [hty]
  exact kk
theorem y_getlN (hg : Gd g l0 B own cc L d mc ms) {c N k j idx : Nat} {C : String} {T : u_T} (hc : CF c C T N) (hk : KO σ k c) (hj : j < N) (hty : clY c j = .long) (hl : (own, idx, (T j).1, (T j).2.1, (T j).2.2.1, "BagPhrases") ∈ nstF) (hd : decode cc pc = .ok (.getfield idx, 3)) (kk : YY g L σ cu su (pc + 3) lv (.long (σ.2.2.2.1 k j) :: st)) : YY g L σ cu su pc lv (.ref (B.1 + k) :: st) := by
  refine y_getN hg hc hk hj hl hd ?_
  rw [hty]
  exact kk
theorem y_getrN (hg : Gd g l0 B own cc L d mc ms) {c N k j idx : Nat} {C : String} {T : u_T} {a : Nat} (hc : CF c C T N) (hk : KO σ k c) (hj : j < N) (hty : (clY c j).isReference = true) (hr : σ.2.2.2.2 k j = some a) (hl : (own, idx, (T j).1, (T j).2.1, (T j).2.2.1, "BagPhrases") ∈ nstF) (hd : decode cc pc = .ok (.getfield idx, 3)) (kk : YY g L σ cu su (pc + 3) lv (.ref a :: st)) : YY g L σ cu su pc lv (.ref (B.1 + k) :: st) := by
  refine y_getN hg hc hk hj hl hd ?_
  have e : fv (clY c j) (σ.2.2.1 k j) (σ.2.2.2.1 k j) (σ.2.2.2.2 k j) = .ref a := by
    rw [hr]
    revert hty
    cases clY c j <;> intro h <;> first | rfl | (exact absurd h (by decide))
  rw [e]
  exact kk
theorem fv_set {c : Nat} {fi fi' : Nat → Int32} {fl fl' : Nat → Int64} {fr fr' : Nat → Option Nat} {j : Nat} {v : Value} (hj : fv (clY c j) (fi' j) (fl' j) (fr' j) = v) (ho : ∀ q, q ≠ j → fi' q = fi q ∧ fl' q = fl q ∧ fr' q = fr q) (q : Nat) : updV (fun j => fv (clY c j) (fi j) (fl j) (fr j)) j v q = fv (clY c q) (fi' q) (fl' q) (fr' q) := by
  unfold updV
  by_cases h : q = j
  · subst h; simp [hj]
  · obtain ⟨e1, e2, e3⟩ := ho q h
    simp [h, e1, e2, e3]
theorem y_put (hg : Gd g l0 B own cc L d mc ms) {c N k j idx : Nat} {C : String} {T : u_T} {v : Value} {σ' : Mem} (hc : CF c C T N) (hk : KO σ k c) (hj : j < N) (hfin : (T j).2.2.2 = false) (hn : narrow (clY c j) v = v) (hfit : fits (clY c j) v = true) (hl : Cond.fieldLink own idx (T j).1 (T j).2.1 (T j).2.2.1 ∈ lw_all) (hd : decode cc pc = .ok (.putfield idx, 3))
    (e0 : σ'.1 = σ.1 ∧ σ'.2.1 = σ.2.1) (e1 : fv (clY c j) (σ'.2.2.1 k j) (σ'.2.2.2.1 k j) (σ'.2.2.2.2 k j) = v) (e2 : ∀ q, q ≠ j → σ'.2.2.1 k q = σ.2.2.1 k q ∧ σ'.2.2.2.1 k q = σ.2.2.2.1 k q ∧ σ'.2.2.2.2 k q = σ.2.2.2.2 k q) (e3 : ∀ q, q ≠ k → σ'.2.2.1 q = σ.2.2.1 q ∧ σ'.2.2.2.1 q = σ.2.2.2.1 q ∧ σ'.2.2.2.2 q = σ.2.2.2.2 q)
    (kk : YY g L σ' cu su (pc + 3) lv st) : YY g L σ cu su pc lv (v :: .ref (B.1 + k) :: st) := by
  obtain ⟨p, l, e, R, s, m, args, below, meth, cD, Q, B'⟩ := g
  obtain ⟨rfl, rfl, hx, hb, hml, hown, hts, hK, hfr, hlo, hce, hsl, hlk, hba⟩ := hg
  intro H locs ls hR hS hv
  have hap := va_apart (own := own) hts hc.2.1 (clY c) hc.2.2.1 hc.2.2.2.1 hK.1 hc.1
  obtain ⟨cell, q1, q2, q3, q4⟩ := hR.obj hk hc
  obtain ⟨hS9, hfc, kC, hkC, hkind⟩ := hK.1.1 c _ hc.1
  obtain ⟨cf, kf, fi, f, hi, hsl9⟩ := hS9 j hj
  have hlay := hts _ (hc.2.1 _ (u_in_lay hj))
  unfold u_lay at hlay
  rw [if_neg (by rw [hfin]; decide)] at hlay
  have hst := (u_facts hfc hkC (u_lays hts hc.2.1 hj) hi).1
  have h6 := u_store hfc hkC hkind hlay hi (hc.2.2.1 j hj) hn hfit
  refine W.putK hx hb (f := f) ⟨hown, hts _ hl, ⟨_, _, _, hi⟩, hst⟩ (by rw [q2]; exact h6) q1 q3 (by rw [hsl9]; exact k2_hasslot (q4 j hj)) rfl rfl hd fun H' w1 w2 w3 => ?_
  rw [hsl9] at w1 ⊢
  refine kk H' _ ls (hR.store (k := k) w2 w3 e0.2 ?_ (fun q hq => ⟨by rw [e0.1], e3 q hq⟩)) (hS.put w2 w3 (Nat.le_add_right _ _)) hv
  rw [e0.1, hk.1]
  exact cOK.ob hc (t_OB.to ⟨_, w1, q2, q3, t_set q4 hap hj v⟩ (fun q _ => fv_set e1 e2 q)) ⟨_, w1, (hR.mon hk hc q1 : cell.monitor = { })⟩
theorem y_putN (hg : Gd g l0 B own cc L d mc ms) {c N k j idx : Nat} {C : String} {T : u_T} {v : Value} {σ' : Mem} (hc : CF c C T N) (hk : KO σ k c) (hj : j < N) (hfin : (T j).2.2.2 = false) (hn : narrow (clY c j) v = v) (hfit : fits (clY c j) v = true) (hl : (own, idx, (T j).1, (T j).2.1, (T j).2.2.1, "BagPhrases") ∈ nstF) (hd : decode cc pc = .ok (.putfield idx, 3))
    (e0 : σ'.1 = σ.1 ∧ σ'.2.1 = σ.2.1) (e1 : fv (clY c j) (σ'.2.2.1 k j) (σ'.2.2.2.1 k j) (σ'.2.2.2.2 k j) = v) (e2 : ∀ q, q ≠ j → σ'.2.2.1 k q = σ.2.2.1 k q ∧ σ'.2.2.2.1 k q = σ.2.2.2.1 k q ∧ σ'.2.2.2.2 k q = σ.2.2.2.2 k q) (e3 : ∀ q, q ≠ k → σ'.2.2.1 q = σ.2.2.1 q ∧ σ'.2.2.2.1 q = σ.2.2.2.1 q ∧ σ'.2.2.2.2 q = σ.2.2.2.2 q)
    (kk : YY g L σ' cu su (pc + 3) lv st) : YY g L σ cu su pc lv (v :: .ref (B.1 + k) :: st) := by
  obtain ⟨p, l, e, R, s, m, args, below, meth, cD, Q, B'⟩ := g
  obtain ⟨rfl, rfl, hx, hb, hml, hown, hts, hK, hfr, hlo, hce, hsl, hlk, hba⟩ := hg
  intro H locs ls hR hS hv
  have hap := va_apart (own := own) hts hc.2.1 (clY c) hc.2.2.1 hc.2.2.2.1 hK.1 hc.1
  obtain ⟨cell, q1, q2, q3, q4⟩ := hR.obj hk hc
  obtain ⟨hS9, hfc, kC, hkC, hkind⟩ := hK.1.1 c _ hc.1
  obtain ⟨cf, kf, fi, f, hi, hsl9⟩ := hS9 j hj
  have hlay := hts _ (hc.2.1 _ (u_in_lay hj))
  unfold u_lay at hlay
  rw [if_neg (by rw [hfin]; decide)] at hlay
  have hst := (u_facts hfc hkC (u_lays hts hc.2.1 hj) hi).1
  have h6 := u_store hfc hkC hkind hlay hi (hc.2.2.1 j hj) hn hfit
  refine va_WputK hx hb (f := f) hown (va_Nw.use rfl (hK.2.1 _ hl)) hi hst (by rw [q2]; exact h6) q1 q3 (by rw [hsl9]; exact k2_hasslot (q4 j hj)) rfl rfl hd fun H' w1 w2 w3 => ?_
  rw [hsl9] at w1 ⊢
  refine kk H' _ ls (hR.store (k := k) w2 w3 e0.2 ?_ (fun q hq => ⟨by rw [e0.1], e3 q hq⟩)) (hS.put w2 w3 (Nat.le_add_right _ _)) hv
  rw [e0.1, hk.1]
  exact cOK.ob hc (t_OB.to ⟨_, w1, q2, q3, t_set q4 hap hj v⟩ (fun q _ => fv_set e1 e2 q)) ⟨_, w1, (hR.mon hk hc q1 : cell.monitor = { })⟩
theorem y_putF (hg : Gd g l0 B own cc L d mc ms) {c N k j idx : Nat} {C : String} {T : u_T} {v : Value} {σ' : Mem} {ret : Option FieldType} {mc' ms' : Nat} {post : Option Value → Mem → Prop} (hc : CF c C T N) (hk : KO σ k c) (hj : j < N) (hfin : (T j).2.2.2 = true) (hin2 : Gr g "<init>" ret mc' ms' post) (hdecl : (T j).1 = own) (hn : narrow (clY c j) v = v) (hfit : fits (clY c j) v = true) (hl : Cond.fieldLink own idx (T j).1 (T j).2.1 (T j).2.2.1 ∈ lw_all) (hd : decode cc pc = .ok (.putfield idx, 3))
    (e0 : σ'.1 = σ.1 ∧ σ'.2.1 = σ.2.1) (e1 : fv (clY c j) (σ'.2.2.1 k j) (σ'.2.2.2.1 k j) (σ'.2.2.2.2 k j) = v) (e2 : ∀ q, q ≠ j → σ'.2.2.1 k q = σ.2.2.1 k q ∧ σ'.2.2.2.1 k q = σ.2.2.2.1 k q ∧ σ'.2.2.2.2 k q = σ.2.2.2.2 k q) (e3 : ∀ q, q ≠ k → σ'.2.2.1 q = σ.2.2.1 q ∧ σ'.2.2.2.1 q = σ.2.2.2.1 q ∧ σ'.2.2.2.2 q = σ.2.2.2.2 q)
    (kk : YY g L σ' cu su (pc + 3) lv st) : YY g L σ cu su pc lv (v :: .ref (B.1 + k) :: st) := by
  obtain ⟨p, l, e, R, s, m, args, below, meth, cD, Q, B'⟩ := g
  obtain ⟨rfl, rfl, hx, hb, hml, hown, hts, hK, hfr, hlo, hce, hsl, hlk, hba⟩ := hg
  intro H locs ls hR hS hv
  have hap := va_apart (own := own) hts hc.2.1 (clY c) hc.2.2.1 hc.2.2.2.1 hK.1 hc.1
  obtain ⟨cell, q1, q2, q3, q4⟩ := hR.obj hk hc
  obtain ⟨hS9, hfc, kC, hkC, hkind⟩ := hK.1.1 c _ hc.1
  obtain ⟨cf, kf, fi, f, hi, hsl9⟩ := hS9 j hj
  have hlay := hts _ (hc.2.1 _ (u_in_lay hj))
  unfold u_lay at hlay
  rw [if_pos hfin] at hlay
  have hst := (u_facts hfc hkC (u_lays hts hc.2.1 hj) hi).1
  have hcf : m.cls = cf := by
    obtain ⟨_, _, c', _, _, _, -, -, hf', -, -, -, hown2, -⟩ := Cond.laysFinal_spec hlay
    have w1 : c' = cf := by have := hi.symm.trans hf'; simp at this; exact this.1.symm
    rw [hdecl] at hown2
    rw [← w1]; exact Option.some.inj (hown.symm.trans hown2)
  have h6 := u_fits hfc hkC hkind (Or.inr hlay) hi (hc.2.2.1 j hj) hn hfit
  refine W.putFinK hx hb hown (hts _ hl) hi hst hcf hin2.1 (by rw [q2]; exact h6) q1 q3 (by rw [hsl9]; exact k2_hasslot (q4 j hj)) rfl rfl hd fun H' w1 w2 w3 => ?_
  rw [hsl9] at w1 ⊢
  refine kk H' _ ls (hR.store (k := k) w2 w3 e0.2 ?_ (fun q hq => ⟨by rw [e0.1], e3 q hq⟩)) (hS.put w2 w3 (Nat.le_add_right _ _)) hv
  rw [e0.1, hk.1]
  exact cOK.ob hc (t_OB.to ⟨_, w1, q2, q3, t_set q4 hap hj v⟩ (fun q _ => fv_set e1 e2 q)) ⟨_, w1, (hR.mon hk hc q1 : cell.monitor = { })⟩
theorem up2_o {α : Type} {f : Nat → Nat → α} {k j : Nat} {v : α} (q : Nat) (h : q ≠ j) : up2 f k j v k q = f k q := up2_n (fun e => h e.2)
theorem fitI (x : Int32) : fits .int (.int x) = true := rfl
theorem y_puti (hg : Gd g l0 B own cc L d mc ms) {c N k j idx : Nat} {C : String} {T : u_T} {x : Int32} (hc : CF c C T N) (hk : KO σ k c) (hj : j < N) (hty : clY c j = .int) (hfin : (T j).2.2.2 = false) (hl : Cond.fieldLink own idx (T j).1 (T j).2.1 (T j).2.2.1 ∈ lw_all) (hd : decode cc pc = .ok (.putfield idx, 3)) (kk : YY g L (setI σ k j x) cu su (pc + 3) lv st) : YY g L σ cu su pc lv (.int x :: .ref (B.1 + k) :: st) := by
  refine y_put (σ' := setI σ k j x) hg hc hk hj hfin (by rw [hty]; rfl) (by rw [hty]; rfl) hl hd ⟨rfl, rfl⟩ ?_ (fun q hq => ?_) (fun q hq => ?_) kk
  · rw [hty]; simp [setI, up2_s, fv]
  · simp [setI, up2_o q hq]
  · simp [setI, up2_row hq]
theorem y_putl (hg : Gd g l0 B own cc L d mc ms) {c N k j idx : Nat} {C : String} {T : u_T} {x : Int64} (hc : CF c C T N) (hk : KO σ k c) (hj : j < N) (hty : clY c j = .long) (hfin : (T j).2.2.2 = false) (hl : Cond.fieldLink own idx (T j).1 (T j).2.1 (T j).2.2.1 ∈ lw_all) (hd : decode cc pc = .ok (.putfield idx, 3)) (kk : YY g L (setL σ k j x) cu su (pc + 3) lv st) : YY g L σ cu su pc lv (.long x :: .ref (B.1 + k) :: st) := by
  refine y_put (σ' := setL σ k j x) hg hc hk hj hfin (by rw [hty]; rfl) (by rw [hty]; rfl) hl hd ⟨rfl, rfl⟩ ?_ (fun q hq => ?_) (fun q hq => ?_) kk
  · rw [hty]; simp [setL, up2_s, fv]
  · simp [setL, up2_o q hq]
  · simp [setL, up2_row hq]
theorem y_putr (hg : Gd g l0 B own cc L d mc ms) {c N k j idx : Nat} {C : String} {T : u_T} {a : Nat} (hc : CF c C T N) (hk : KO σ k c) (hj : j < N) (hty : (clY c j).isReference = true) (hfin : (T j).2.2.2 = false) (hl : Cond.fieldLink own idx (T j).1 (T j).2.1 (T j).2.2.1 ∈ lw_all) (hd : decode cc pc = .ok (.putfield idx, 3)) (kk : YY g L (setR σ k j (some a)) cu su (pc + 3) lv st) : YY g L σ cu su pc lv (.ref a :: .ref (B.1 + k) :: st) := by
  have e1 : narrow (clY c j) (.ref a) = .ref a ∧ fits (clY c j) (.ref a) = true ∧ fv (clY c j) (up2 σ.2.2.1 k j 0 k j) (σ.2.2.2.1 k j) (some a) = .ref a := by
    revert hty
    cases clY c j <;> intro h <;> first | exact ⟨rfl, rfl, rfl⟩ | (exact absurd h (by decide))
  have e9 : fv (clY c j) (σ.2.2.1 k j) (σ.2.2.2.1 k j) (some a) = .ref a := by
    revert hty
    cases clY c j <;> intro h <;> first | rfl | (exact absurd h (by decide))
  refine y_put (σ' := setR σ k j (some a)) hg hc hk hj hfin e1.1 e1.2.1 hl hd ⟨rfl, rfl⟩ ?_ (fun q hq => ?_) (fun q hq => ?_) kk
  · simp only [setR, up2_s]; exact e9
  · simp [setR, up2_o q hq]
  · simp [setR, up2_row hq]
theorem y_putiN (hg : Gd g l0 B own cc L d mc ms) {c N k j idx : Nat} {C : String} {T : u_T} {x : Int32} (hc : CF c C T N) (hk : KO σ k c) (hj : j < N) (hty : clY c j = .int) (hfin : (T j).2.2.2 = false) (hl : (own, idx, (T j).1, (T j).2.1, (T j).2.2.1, "BagPhrases") ∈ nstF) (hd : decode cc pc = .ok (.putfield idx, 3)) (kk : YY g L (setI σ k j x) cu su (pc + 3) lv st) : YY g L σ cu su pc lv (.int x :: .ref (B.1 + k) :: st) := by
  refine y_putN (σ' := setI σ k j x) hg hc hk hj hfin (by rw [hty]; rfl) (by rw [hty]; rfl) hl hd ⟨rfl, rfl⟩ ?_ (fun q hq => ?_) (fun q hq => ?_) kk
  · rw [hty]; simp [setI, up2_s, fv]
  · simp [setI, up2_o q hq]
  · simp [setI, up2_row hq]
theorem y_putlN (hg : Gd g l0 B own cc L d mc ms) {c N k j idx : Nat} {C : String} {T : u_T} {x : Int64} (hc : CF c C T N) (hk : KO σ k c) (hj : j < N) (hty : clY c j = .long) (hfin : (T j).2.2.2 = false) (hl : (own, idx, (T j).1, (T j).2.1, (T j).2.2.1, "BagPhrases") ∈ nstF) (hd : decode cc pc = .ok (.putfield idx, 3)) (kk : YY g L (setL σ k j x) cu su (pc + 3) lv st) : YY g L σ cu su pc lv (.long x :: .ref (B.1 + k) :: st) := by
  refine y_putN (σ' := setL σ k j x) hg hc hk hj hfin (by rw [hty]; rfl) (by rw [hty]; rfl) hl hd ⟨rfl, rfl⟩ ?_ (fun q hq => ?_) (fun q hq => ?_) kk
  · rw [hty]; simp [setL, up2_s, fv]
  · simp [setL, up2_o q hq]
  · simp [setL, up2_row hq]
theorem y_putrN (hg : Gd g l0 B own cc L d mc ms) {c N k j idx : Nat} {C : String} {T : u_T} {a : Nat} (hc : CF c C T N) (hk : KO σ k c) (hj : j < N) (hty : (clY c j).isReference = true) (hfin : (T j).2.2.2 = false) (hl : (own, idx, (T j).1, (T j).2.1, (T j).2.2.1, "BagPhrases") ∈ nstF) (hd : decode cc pc = .ok (.putfield idx, 3)) (kk : YY g L (setR σ k j (some a)) cu su (pc + 3) lv st) : YY g L σ cu su pc lv (.ref a :: .ref (B.1 + k) :: st) := by
  have e1 : narrow (clY c j) (.ref a) = .ref a ∧ fits (clY c j) (.ref a) = true ∧ fv (clY c j) (up2 σ.2.2.1 k j 0 k j) (σ.2.2.2.1 k j) (some a) = .ref a := by
    revert hty
    cases clY c j <;> intro h <;> first | exact ⟨rfl, rfl, rfl⟩ | (exact absurd h (by decide))
  have e9 : fv (clY c j) (σ.2.2.1 k j) (σ.2.2.2.1 k j) (some a) = .ref a := by
    revert hty
    cases clY c j <;> intro h <;> first | rfl | (exact absurd h (by decide))
  refine y_putN (σ' := setR σ k j (some a)) hg hc hk hj hfin e1.1 e1.2.1 hl hd ⟨rfl, rfl⟩ ?_ (fun q hq => ?_) (fun q hq => ?_) kk
  · simp only [setR, up2_s]; exact e9
  · simp [setR, up2_o q hq]
  · simp [setR, up2_row hq]
theorem y_putiF (hg : Gd g l0 B own cc L d mc ms) {c N k j idx : Nat} {C : String} {T : u_T} {x : Int32} (hc : CF c C T N) (hk : KO σ k c) (hj : j < N) (hty : clY c j = .int) (hfin : (T j).2.2.2 = true) {ret : Option FieldType} {mc9 ms9 : Nat} {post : Option Value → Mem → Prop} (hin2 : Gr g "<init>" ret mc9 ms9 post) (hdecl : (T j).1 = own) (hl : Cond.fieldLink own idx (T j).1 (T j).2.1 (T j).2.2.1 ∈ lw_all) (hd : decode cc pc = .ok (.putfield idx, 3)) (kk : YY g L (setI σ k j x) cu su (pc + 3) lv st) : YY g L σ cu su pc lv (.int x :: .ref (B.1 + k) :: st) := by
  refine y_putF (σ' := setI σ k j x) hg hc hk hj hfin hin2 hdecl (by rw [hty]; rfl) (by rw [hty]; rfl) hl hd ⟨rfl, rfl⟩ ?_ (fun q hq => ?_) (fun q hq => ?_) kk
  · rw [hty]; simp [setI, up2_s, fv]
  · simp [setI, up2_o q hq]
  · simp [setI, up2_row hq]
theorem y_putlF (hg : Gd g l0 B own cc L d mc ms) {c N k j idx : Nat} {C : String} {T : u_T} {x : Int64} (hc : CF c C T N) (hk : KO σ k c) (hj : j < N) (hty : clY c j = .long) (hfin : (T j).2.2.2 = true) {ret : Option FieldType} {mc9 ms9 : Nat} {post : Option Value → Mem → Prop} (hin2 : Gr g "<init>" ret mc9 ms9 post) (hdecl : (T j).1 = own) (hl : Cond.fieldLink own idx (T j).1 (T j).2.1 (T j).2.2.1 ∈ lw_all) (hd : decode cc pc = .ok (.putfield idx, 3)) (kk : YY g L (setL σ k j x) cu su (pc + 3) lv st) : YY g L σ cu su pc lv (.long x :: .ref (B.1 + k) :: st) := by
  refine y_putF (σ' := setL σ k j x) hg hc hk hj hfin hin2 hdecl (by rw [hty]; rfl) (by rw [hty]; rfl) hl hd ⟨rfl, rfl⟩ ?_ (fun q hq => ?_) (fun q hq => ?_) kk
  · rw [hty]; simp [setL, up2_s, fv]
  · simp [setL, up2_o q hq]
  · simp [setL, up2_row hq]
theorem y_putrF (hg : Gd g l0 B own cc L d mc ms) {c N k j idx : Nat} {C : String} {T : u_T} {a : Nat} (hc : CF c C T N) (hk : KO σ k c) (hj : j < N) (hty : (clY c j).isReference = true) (hfin : (T j).2.2.2 = true) {ret : Option FieldType} {mc9 ms9 : Nat} {post : Option Value → Mem → Prop} (hin2 : Gr g "<init>" ret mc9 ms9 post) (hdecl : (T j).1 = own) (hl : Cond.fieldLink own idx (T j).1 (T j).2.1 (T j).2.2.1 ∈ lw_all) (hd : decode cc pc = .ok (.putfield idx, 3)) (kk : YY g L (setR σ k j (some a)) cu su (pc + 3) lv st) : YY g L σ cu su pc lv (.ref a :: .ref (B.1 + k) :: st) := by
  have e1 : narrow (clY c j) (.ref a) = .ref a ∧ fits (clY c j) (.ref a) = true ∧ fv (clY c j) (up2 σ.2.2.1 k j 0 k j) (σ.2.2.2.1 k j) (some a) = .ref a := by
    revert hty
    cases clY c j <;> intro h <;> first | exact ⟨rfl, rfl, rfl⟩ | (exact absurd h (by decide))
  have e9 : fv (clY c j) (σ.2.2.1 k j) (σ.2.2.2.1 k j) (some a) = .ref a := by
    revert hty
    cases clY c j <;> intro h <;> first | rfl | (exact absurd h (by decide))
  refine y_putF (σ' := setR σ k j (some a)) hg hc hk hj hfin hin2 hdecl e1.1 e1.2.1 hl hd ⟨rfl, rfl⟩ ?_ (fun q hq => ?_) (fun q hq => ?_) kk
  · simp only [setR, up2_s]; exact e9
  · simp [setR, up2_o q hq]
  · simp [setR, up2_row hq]
theorem ix_in {n len : Nat} (h : n < len) (hl : len < 2147483648) : vp_in (nI n) len := vp_in_nI h hl
theorem ix_cl {n len : Nat} (h : n < len) (hl : len < 2147483648) : (nI n).toNatClampNeg = n := nI_clamp (Nat.lt_trans h hl)
theorem y_iald (hg : Gd g l0 B own cc L d mc ms) {k len : Nat} {i : Int32} (n : Nat) (hk : KA σ k 0 len) (hi : i = nI n) (hn : n < len) (hd : decode cc pc = .ok (.iaload, 1)) (kk : YY g L σ cu su (pc + 1) lv (.int (σ.2.2.1 k n) :: st)) : YY g L σ cu su pc lv (.int i :: .ref (B.1 + k) :: st) := by
  obtain ⟨p, l, e, R, s, m, args, below, meth, cD, Q, B'⟩ := g
  obtain ⟨rfl, rfl, hx, hb, hml, hown, hts, hK, hfr, hlo, hce, hsl, hlk, hba⟩ := hg
  intro H locs ls hR hS hv
  subst hi
  have hc0 := hR.arr hk (by decide)
  refine W.iald (v := .int (σ.2.2.1 k n)) hx hb hc0 (hK.arr.1 len _) (fun q => by cases q) (by rw [arrV_size]; exact ix_in hn hk.2.2) ?_ rfl rfl hd (kk H locs ls hR hS hv)
  rw [ix_cl hn hk.2.2, arrV_read _ _ hn]
  rfl
theorem y_zald (hg : Gd g l0 B own cc L d mc ms) {k len : Nat} {i : Int32} (n : Nat) (hk : KA σ k 2 len) (hi : i = nI n) (hn : n < len) (hd : decode cc pc = .ok (.baload, 1)) (kk : YY g L σ cu su (pc + 1) lv (.int (σ.2.2.1 k n) :: st)) : YY g L σ cu su pc lv (.int i :: .ref (B.1 + k) :: st) := by
  obtain ⟨p, l, e, R, s, m, args, below, meth, cD, Q, B'⟩ := g
  obtain ⟨rfl, rfl, hx, hb, hml, hown, hts, hK, hfr, hlo, hce, hsl, hlk, hba⟩ := hg
  intro H locs ls hR hS hv
  subst hi
  have hc0 := hR.arr hk (by decide)
  refine W.zald (v := .int (σ.2.2.1 k n)) hx hb hc0 (hK.arr.2.2.1 len _) (fun q => by cases q) (by rw [arrV_size]; exact ix_in hn hk.2.2) ?_ rfl rfl hd (kk H locs ls hR hS hv)
  rw [ix_cl hn hk.2.2, arrV_read _ _ hn]
  rfl
theorem y_lald (hg : Gd g l0 B own cc L d mc ms) {k len : Nat} {i : Int32} (n : Nat) (hk : KA σ k 1 len) (hi : i = nI n) (hn : n < len) (hd : decode cc pc = .ok (.laload, 1)) (kk : YY g L σ cu su (pc + 1) lv (.long (σ.2.2.2.1 k n) :: st)) : YY g L σ cu su pc lv (.int i :: .ref (B.1 + k) :: st) := by
  obtain ⟨p, l, e, R, s, m, args, below, meth, cD, Q, B'⟩ := g
  obtain ⟨rfl, rfl, hx, hb, hml, hown, hts, hK, hfr, hlo, hce, hsl, hlk, hba⟩ := hg
  intro H locs ls hR hS hv
  subst hi
  have hc0 := hR.arr hk (by decide)
  refine W.lald (v := .long (σ.2.2.2.1 k n)) hx hb hc0 (hK.arr.2.1 len _) (fun q => by cases q) (by rw [arrV_size]; exact ix_in hn hk.2.2) ?_ rfl rfl hd (kk H locs ls hR hS hv)
  rw [ix_cl hn hk.2.2, arrV_read _ _ hn]
  rfl
theorem y_aald3 (hg : Gd g l0 B own cc L d mc ms) {k len a : Nat} {i : Int32} (n : Nat) (hk : KA σ k 3 len) (hi : i = nI n) (hn : n < len) (hr : σ.2.2.2.2 k n = some a) (hd : decode cc pc = .ok (.aaload, 1)) (kk : YY g L σ cu su (pc + 1) lv (.ref a :: st)) : YY g L σ cu su pc lv (.int i :: .ref (B.1 + k) :: st) := by
  obtain ⟨p, l, e, R, s, m, args, below, meth, cD, Q, B'⟩ := g
  obtain ⟨rfl, rfl, hx, hb, hml, hown, hts, hK, hfr, hlo, hce, hsl, hlk, hba⟩ := hg
  intro H locs ls hR hS hv
  subst hi
  have hc0 := hR.arr hk (by decide)
  refine W.aald (v := .ref a) (ty := .object RX2) hx hb hc0 (hK.arr.2.2.2.1 len _) rfl (fun q => by cases q) (by rw [arrV_size]; exact ix_in hn hk.2.2) ?_ rfl rfl hd (kk H locs ls hR hS hv)
  rw [ix_cl hn hk.2.2, arrV_read _ _ hn]
  simp [av, hr, va_rf]
theorem y_aald4 (hg : Gd g l0 B own cc L d mc ms) {k len a : Nat} {i : Int32} (n : Nat) (hk : KA σ k 4 len) (hi : i = nI n) (hn : n < len) (hr : σ.2.2.2.2 k n = some a) (hd : decode cc pc = .ok (.aaload, 1)) (kk : YY g L σ cu su (pc + 1) lv (.ref a :: st)) : YY g L σ cu su pc lv (.int i :: .ref (B.1 + k) :: st) := by
  obtain ⟨p, l, e, R, s, m, args, below, meth, cD, Q, B'⟩ := g
  obtain ⟨rfl, rfl, hx, hb, hml, hown, hts, hK, hfr, hlo, hce, hsl, hlk, hba⟩ := hg
  intro H locs ls hR hS hv
  subst hi
  have hc0 := hR.arr hk (by decide)
  refine W.aald (v := .ref a) (ty := .object RX1) hx hb hc0 (hK.arr.2.2.2.2 len _) rfl (fun q => by cases q) (by rw [arrV_size]; exact ix_in hn hk.2.2) ?_ rfl rfl hd (kk H locs ls hR hS hv)
  rw [ix_cl hn hk.2.2, arrV_read _ _ hn]
  simp [av, hr, va_rf]
theorem y_iast (hg : Gd g l0 B own cc L d mc ms) {k len : Nat} {i : Int32} {x : Int32} (n : Nat) (hk : KA σ k 0 len) (hi : i = nI n) (hn : n < len)  (hd : decode cc pc = .ok (.iastore, 1)) (kk : YY g L (setI σ k n x) cu su (pc + 1) lv st) : YY g L σ cu su pc lv (.int x :: .int i :: .ref (B.1 + k) :: st) := by
  obtain ⟨p, l, e, R, s, m, args, below, meth, cD, Q, B'⟩ := g
  obtain ⟨rfl, rfl, hx, hb, hml, hown, hts, hK, hfr, hlo, hce, hsl, hlk, hba⟩ := hg
  intro H locs ls hR hS hv
  subst hi
  have hc0 := hR.arr hk (by decide)
  refine W.iast hx hb hc0 (hK.arr.1 len _) (fun q => by cases q) (by rw [arrV_size]; exact ix_in hn hk.2.2) rfl rfl hd fun H1 w1 w2 w3 => ?_
  refine kk H1 _ ls (hR.store (k := k) w2 w3 rfl ?_ (fun q hq => ⟨rfl, by simp [setI, up2_row hq]⟩)) (hS.put w2 w3 (Nat.le_add_right _ _)) hv
  show cOK B' (σ.1 k) _ _ _ _ _
  rw [hk.1]
  refine cOK.ar (by decide) ?_
  rw [w1, ix_cl hn hk.2.2, arrV_store]
  congr 2
  funext q
  by_cases hq : q = n
  · subst hq
    simp [updV, setI, up2_s, av]
  · simp [updV, setI, up2_o q hq, hq]
theorem y_last (hg : Gd g l0 B own cc L d mc ms) {k len : Nat} {i : Int32} {x : Int64} (n : Nat) (hk : KA σ k 1 len) (hi : i = nI n) (hn : n < len)  (hd : decode cc pc = .ok (.lastore, 1)) (kk : YY g L (setL σ k n x) cu su (pc + 1) lv st) : YY g L σ cu su pc lv (.long x :: .int i :: .ref (B.1 + k) :: st) := by
  obtain ⟨p, l, e, R, s, m, args, below, meth, cD, Q, B'⟩ := g
  obtain ⟨rfl, rfl, hx, hb, hml, hown, hts, hK, hfr, hlo, hce, hsl, hlk, hba⟩ := hg
  intro H locs ls hR hS hv
  subst hi
  have hc0 := hR.arr hk (by decide)
  refine W.last hx hb hc0 (hK.arr.2.1 len _) (fun q => by cases q) (by rw [arrV_size]; exact ix_in hn hk.2.2) rfl rfl hd fun H1 w1 w2 w3 => ?_
  refine kk H1 _ ls (hR.store (k := k) w2 w3 rfl ?_ (fun q hq => ⟨rfl, by simp [setL, up2_row hq]⟩)) (hS.put w2 w3 (Nat.le_add_right _ _)) hv
  show cOK B' (σ.1 k) _ _ _ _ _
  rw [hk.1]
  refine cOK.ar (by decide) ?_
  rw [w1, ix_cl hn hk.2.2, arrV_store]
  congr 2
  funext q
  by_cases hq : q = n
  · subst hq
    simp [updV, setL, up2_s, av]
  · simp [updV, setL, up2_o q hq, hq]
theorem y_zast (hg : Gd g l0 B own cc L d mc ms) {k len : Nat} {i : Int32} {x : Int32} (n : Nat) (hk : KA σ k 2 len) (hi : i = nI n) (hn : n < len) (hz : narrow .boolean (.int x) = .int x) (hd : decode cc pc = .ok (.bastore, 1)) (kk : YY g L (setI σ k n x) cu su (pc + 1) lv st) : YY g L σ cu su pc lv (.int x :: .int i :: .ref (B.1 + k) :: st) := by
  obtain ⟨p, l, e, R, s, m, args, below, meth, cD, Q, B'⟩ := g
  obtain ⟨rfl, rfl, hx, hb, hml, hown, hts, hK, hfr, hlo, hce, hsl, hlk, hba⟩ := hg
  intro H locs ls hR hS hv
  subst hi
  have hc0 := hR.arr hk (by decide)
  refine W.zast hx hb hc0 (hK.arr.2.2.1 len _) (fun q => by cases q) (by rw [arrV_size]; exact ix_in hn hk.2.2) rfl rfl hd fun H1 w1 w2 w3 => ?_
  refine kk H1 _ ls (hR.store (k := k) w2 w3 rfl ?_ (fun q hq => ⟨rfl, by simp [setI, up2_row hq]⟩)) (hS.put w2 w3 (Nat.le_add_right _ _)) hv
  show cOK B' (σ.1 k) _ _ _ _ _
  rw [hk.1]
  refine cOK.ar (by decide) ?_
  rw [w1, ix_cl hn hk.2.2, arrV_store]
  congr 2
  funext q
  by_cases hq : q = n
  · subst hq
    simp [updV, setI, up2_s, av, hz]
  · simp [updV, setI, up2_o q hq, hq]
theorem y_aast3 (hg : Gd g l0 B own cc L d mc ms) {k k2 len : Nat} {i : Int32} (n : Nat) (hk : KA σ k 3 len) (hi : i = nI n) (hn : n < len) (hk2 : KO σ k2 2) (hd : decode cc pc = .ok (.aastore, 1)) (kk : YY g L (setR σ k n (some (B.1 + k2))) cu su (pc + 1) lv st) : YY g L σ cu su pc lv (.ref (B.1 + k2) :: .int i :: .ref (B.1 + k) :: st) := by
  obtain ⟨p, l, e, R, s, m, args, below, meth, cD, Q, B'⟩ := g
  obtain ⟨rfl, rfl, hx, hb, hml, hown, hts, hK, hfr, hlo, hce, hsl, hlk, hba⟩ := hg
  intro H locs ls hR hS hv
  subst hi
  have hc0 := hR.arr hk (by decide)
  obtain ⟨cellV, g1, g2, g3, -⟩ := hR.obj hk2 cf2
  have hcls := (hK.1.1 2 _ cf2.1).2
  obtain ⟨kA, comp, k1, k3, k4, -⟩ := (hK.1.2 3 _ rfl).2
  have hcomp : comp = B'.2.1.1 2 := Option.some.inj (k4.symm.trans hcls.1)
  subst hcomp
  obtain ⟨kC, hkC, -⟩ := hcls.2
  refine W.aast hx hb hc0 (fun q h => by cases h) (fun h => by cases h) k1 k3 rfl hkC ⟨fun q => (ix_in hn hk.2.2) (Or.inl q), by rw [arrV_size, ix_cl hn hk.2.2]; exact hn⟩ g1 (fun q h => by rw [g3] at h; cases h) (by rw [g2]; exact hkC) (by rw [g2]; exact va_assign hcls) rfl rfl hd fun H1 w1 w2 w3 => ?_
  refine kk H1 _ ls (hR.store (k := k) w2 w3 rfl ?_ (fun q hq => ⟨rfl, by simp [setR, up2_row hq]⟩)) (hS.put w2 w3 (Nat.le_add_right _ _)) hv
  show cOK B' (σ.1 k) _ _ _ _ _
  rw [hk.1]
  refine cOK.ar (by decide) ?_
  rw [w1, ix_cl hn hk.2.2, arrV_store]
  congr 2
  funext q
  by_cases hq : q = n
  · subst hq
    simp [updV, setR, up2_s, av, va_rf]
  · simp [updV, setR, up2_o q hq, hq]
theorem y_aast4 (hg : Gd g l0 B own cc L d mc ms) {k k2 len : Nat} {i : Int32} (n : Nat) (hk : KA σ k 4 len) (hi : i = nI n) (hn : n < len) (hk2 : KO σ k2 1) (hd : decode cc pc = .ok (.aastore, 1)) (kk : YY g L (setR σ k n (some (B.1 + k2))) cu su (pc + 1) lv st) : YY g L σ cu su pc lv (.ref (B.1 + k2) :: .int i :: .ref (B.1 + k) :: st) := by
  obtain ⟨p, l, e, R, s, m, args, below, meth, cD, Q, B'⟩ := g
  obtain ⟨rfl, rfl, hx, hb, hml, hown, hts, hK, hfr, hlo, hce, hsl, hlk, hba⟩ := hg
  intro H locs ls hR hS hv
  subst hi
  have hc0 := hR.arr hk (by decide)
  obtain ⟨cellV, g1, g2, g3, -⟩ := hR.obj hk2 cf1
  have hcls := (hK.1.1 1 _ cf1.1).2
  obtain ⟨kA, comp, k1, k3, k4, -⟩ := (hK.1.2 4 _ rfl).2
  have hcomp : comp = B'.2.1.1 1 := Option.some.inj (k4.symm.trans hcls.1)
  subst hcomp
  obtain ⟨kC, hkC, -⟩ := hcls.2
  refine W.aast hx hb hc0 (fun q h => by cases h) (fun h => by cases h) k1 k3 rfl hkC ⟨fun q => (ix_in hn hk.2.2) (Or.inl q), by rw [arrV_size, ix_cl hn hk.2.2]; exact hn⟩ g1 (fun q h => by rw [g3] at h; cases h) (by rw [g2]; exact hkC) (by rw [g2]; exact va_assign hcls) rfl rfl hd fun H1 w1 w2 w3 => ?_
  refine kk H1 _ ls (hR.store (k := k) w2 w3 rfl ?_ (fun q hq => ⟨rfl, by simp [setR, up2_row hq]⟩)) (hS.put w2 w3 (Nat.le_add_right _ _)) hv
  show cOK B' (σ.1 k) _ _ _ _ _
  rw [hk.1]
  refine cOK.ar (by decide) ?_
  rw [w1, ix_cl hn hk.2.2, arrV_store]
  congr 2
  funext q
  by_cases hq : q = n
  · subst hq
    simp [updV, setR, up2_s, av, va_rf]
  · simp [updV, setR, up2_o q hq, hq]
theorem y_new (hg : Gd g l0 B own cc L d mc ms) {c N idx : Nat} {C : String} {T : u_T} (hc : CF c C T N) (hdf : ∀ j, defaultValue (clY c j) = fv (clY c j) 0 0 none) (hl : Cond.classLink own idx C ∈ lw_all) (hins : Cond.instantiable C N ∈ lw_all) (hini : Cond.initialized C ∈ lw_all) (h1 : cu + 1 ≤ mc) (h2 : su + N ≤ ms) (hd : decode cc pc = .ok (.new idx, 3)) (kk : YY g L (newK σ (10 + c, 0)) (cu + 1) (su + N) (pc + 3) lv (.ref (B.1 + σ.2.1) :: st)) : YY g L σ cu su pc lv st := by
  obtain ⟨p, l, e, R, s, m, args, below, meth, cD, Q, B'⟩ := g
  obtain ⟨rfl, rfl, hx, hb, hml, hown, hts, hK, hfr, hlo, hce, hsl, hlk, hba⟩ := hg
  intro H locs ls hR hS hv
  have hKn := hK.1.1 c _ hc.1
  refine W.newcK hx hb hown (hts _ hl) (hts _ hins) (hts _ hini) rfl hd (by omega) (by omega) hKn.2.1 rfl fun H1 kC hkC w1 w2 w3 => ?_
  have e := hR.1
  rw [show B'.1 + σ.2.1 = H.size from e.symm] at kk
  refine kk H1 locs ls (hR.push w2 w3 (cOK.ob hc ?_ ⟨_, w1, rfl⟩)) ⟨Nat.le_trans hS.1 (by omega), fun x z1 z2 => (w3 x (Nat.lt_of_lt_of_le z1 hS.1)).trans (hS.2.1 x z1 z2), hS.2.2⟩ hv
  refine (u_born (clY c) hts hc.2.1 hKn hkC w1 hc.2.2.1).to (fun j _ => ?_)
  exact hdf j
theorem y_newa0 (hg : Gd g l0 B own cc L d mc ms) {i : Int32} (n : Nat) (hi : i = nI n) (hn : n < 65536) (h1 : cu + 1 ≤ mc) (h2 : su + n ≤ ms) (hd : decode cc pc = .ok (.newarray .int, 2)) (kk : YY g L (newK σ (0, n)) (cu + 1) (su + n) (pc + 2) lv (.ref (B.1 + σ.2.1) :: st)) : YY g L σ cu su pc lv (.int i :: st) := by
  obtain ⟨p, l, e, R, s, m, args, below, meth, cD, Q, B'⟩ := g
  obtain ⟨rfl, rfl, hx, hb, hml, hown, hts, hK, hfr, hlo, hce, hsl, hlk, hba⟩ := hg
  intro H locs ls hR hS hv
  subst hi
  refine va_newaK (atype := .int) hx hb (hts _ q143) rfl hd rfl (nI_pos (by omega)) (nI_clamp (by omega)) (Nat.le_trans (Nat.mul_le_mul_right _ (Nat.le_of_lt hn)) (by decide)) (by omega) (by omega) rfl fun H1 cA w1 w2 w3 w4 w5 => ?_
  have hcA : cA = B'.2.2 0 := Option.some.inj (w5.symm.trans (hK.1.2 0 _ rfl).2)
  subst hcA
  have e := hR.1
  rw [show B'.1 + σ.2.1 = H.size from e.symm] at kk
  refine kk H1 locs ls (hR.push w2 w3 (cOK.ar (by decide) w1)) ⟨Nat.le_trans hS.1 (by omega), fun x z1 z2 => (w3 x (Nat.lt_of_lt_of_le z1 hS.1)).trans (hS.2.1 x z1 z2), hS.2.2⟩ hv
theorem y_newa1 (hg : Gd g l0 B own cc L d mc ms) {i : Int32} (n : Nat) (hi : i = nI n) (hn : n < 65536) (h1 : cu + 1 ≤ mc) (h2 : su + n ≤ ms) (hd : decode cc pc = .ok (.newarray .long, 2)) (kk : YY g L (newK σ (1, n)) (cu + 1) (su + n) (pc + 2) lv (.ref (B.1 + σ.2.1) :: st)) : YY g L σ cu su pc lv (.int i :: st) := by
  obtain ⟨p, l, e, R, s, m, args, below, meth, cD, Q, B'⟩ := g
  obtain ⟨rfl, rfl, hx, hb, hml, hown, hts, hK, hfr, hlo, hce, hsl, hlk, hba⟩ := hg
  intro H locs ls hR hS hv
  subst hi
  refine va_newaK (atype := .long) hx hb (hts _ q170) rfl hd rfl (nI_pos (by omega)) (nI_clamp (by omega)) (Nat.le_trans (Nat.mul_le_mul_right _ (Nat.le_of_lt hn)) (by decide)) (by omega) (by omega) rfl fun H1 cA w1 w2 w3 w4 w5 => ?_
  have hcA : cA = B'.2.2 1 := Option.some.inj (w5.symm.trans (hK.1.2 1 _ rfl).2)
  subst hcA
  have e := hR.1
  rw [show B'.1 + σ.2.1 = H.size from e.symm] at kk
  refine kk H1 locs ls (hR.push w2 w3 (cOK.ar (by decide) w1)) ⟨Nat.le_trans hS.1 (by omega), fun x z1 z2 => (w3 x (Nat.lt_of_lt_of_le z1 hS.1)).trans (hS.2.1 x z1 z2), hS.2.2⟩ hv
theorem y_newa2 (hg : Gd g l0 B own cc L d mc ms) {i : Int32} (n : Nat) (hi : i = nI n) (hn : n < 65536) (h1 : cu + 1 ≤ mc) (h2 : su + n ≤ ms) (hd : decode cc pc = .ok (.newarray .boolean, 2)) (kk : YY g L (newK σ (2, n)) (cu + 1) (su + n) (pc + 2) lv (.ref (B.1 + σ.2.1) :: st)) : YY g L σ cu su pc lv (.int i :: st) := by
  obtain ⟨p, l, e, R, s, m, args, below, meth, cD, Q, B'⟩ := g
  obtain ⟨rfl, rfl, hx, hb, hml, hown, hts, hK, hfr, hlo, hce, hsl, hlk, hba⟩ := hg
  intro H locs ls hR hS hv
  subst hi
  refine va_newaK (atype := .boolean) hx hb (hts _ q171) rfl hd rfl (nI_pos (by omega)) (nI_clamp (by omega)) (Nat.le_trans (Nat.mul_le_mul_right _ (Nat.le_of_lt hn)) (by decide)) (by omega) (by omega) rfl fun H1 cA w1 w2 w3 w4 w5 => ?_
  have hcA : cA = B'.2.2 2 := Option.some.inj (w5.symm.trans (hK.1.2 2 _ rfl).2)
  subst hcA
  have e := hR.1
  rw [show B'.1 + σ.2.1 = H.size from e.symm] at kk
  refine kk H1 locs ls (hR.push w2 w3 (cOK.ar (by decide) w1)) ⟨Nat.le_trans hS.1 (by omega), fun x z1 z2 => (w3 x (Nat.lt_of_lt_of_le z1 hS.1)).trans (hS.2.1 x z1 z2), hS.2.2⟩ hv
theorem y_anew3 (hg : Gd g l0 B own cc L d mc ms) {i : Int32} {idx : Nat} (n : Nat) (hi : i = nI n) (hn : n < 65536) (hl : Cond.classLink own idx RX2 ∈ lw_all) (h1 : cu + 1 ≤ mc) (h2 : su + n ≤ ms) (hd : decode cc pc = .ok (.anewarray idx, 3)) (kk : YY g L (newK σ (3, n)) (cu + 1) (su + n) (pc + 3) lv (.ref (B.1 + σ.2.1) :: st)) : YY g L σ cu su pc lv (.int i :: st) := by
  obtain ⟨p, l, e, R, s, m, args, below, meth, cD, Q, B'⟩ := g
  obtain ⟨rfl, rfl, hx, hb, hml, hown, hts, hK, hfr, hlo, hce, hsl, hlk, hba⟩ := hg
  intro H locs ls hR hS hv
  subst hi
  have ecl : (nI n).toNatClampNeg = n := nI_clamp (by omega)
  refine W.anew hx hb hown (hts _ hl) (va_AO.use hK.2.2.2.1) rfl hd rfl (nI_pos (by omega)) (by rw [ecl]; omega) (by omega) (by rw [ecl]; omega) fun cA kA comp f1 f2 f3 f4 => ?_
  obtain ⟨kA', comp', z1, z2, z3, z4⟩ := (hK.1.2 3 _ rfl).2
  have hcA : cA = B'.2.2 3 := Option.some.inj (f1.symm.trans z4)
  subst hcA
  rw [ecl]
  have e := hR.1
  rw [show B'.1 + σ.2.1 = H.size from e.symm] at kk
  generalize hH1 : H.push ({ cls := B'.2.2 3, slots := Array.replicate n .null, vm := .none } : Cell) = H1
  have w2 : H1.size = H.size + 1 := by rw [← hH1, Array.size_push]
  have w1 : H1[H.size]? = some (arrV (B'.2.2 3) n (fun _ => .null)) := by rw [← hH1, Array.getElem?_push_size, ← arrV_new]
  have w3 : ∀ q : Nat, q < H.size → H1[q]? = H[q]? := fun q hq => by rw [← hH1, Array.getElem?_push, if_neg (Nat.ne_of_lt hq)]
  refine kk H1 locs ls (hR.push w2 w3 (cOK.ar (by decide) w1)) ⟨Nat.le_trans hS.1 (by omega), fun x z1 z2 => (w3 x (Nat.lt_of_lt_of_le z1 hS.1)).trans (hS.2.1 x z1 z2), hS.2.2⟩ hv
theorem y_anew4 (hg : Gd g l0 B own cc L d mc ms) {i : Int32} {idx : Nat} (n : Nat) (hi : i = nI n) (hn : n < 65536) (hl : Cond.classLink own idx RX1 ∈ lw_all) (h1 : cu + 1 ≤ mc) (h2 : su + n ≤ ms) (hd : decode cc pc = .ok (.anewarray idx, 3)) (kk : YY g L (newK σ (4, n)) (cu + 1) (su + n) (pc + 3) lv (.ref (B.1 + σ.2.1) :: st)) : YY g L σ cu su pc lv (.int i :: st) := by
  obtain ⟨p, l, e, R, s, m, args, below, meth, cD, Q, B'⟩ := g
  obtain ⟨rfl, rfl, hx, hb, hml, hown, hts, hK, hfr, hlo, hce, hsl, hlk, hba⟩ := hg
  intro H locs ls hR hS hv
  subst hi
  have ecl : (nI n).toNatClampNeg = n := nI_clamp (by omega)
  refine W.anew hx hb hown (hts _ hl) (va_AO.use hK.2.2.2.2.1) rfl hd rfl (nI_pos (by omega)) (by rw [ecl]; omega) (by omega) (by rw [ecl]; omega) fun cA kA comp f1 f2 f3 f4 => ?_
  obtain ⟨kA', comp', z1, z2, z3, z4⟩ := (hK.1.2 4 _ rfl).2
  have hcA : cA = B'.2.2 4 := Option.some.inj (f1.symm.trans z4)
  subst hcA
  rw [ecl]
  have e := hR.1
  rw [show B'.1 + σ.2.1 = H.size from e.symm] at kk
  generalize hH1 : H.push ({ cls := B'.2.2 4, slots := Array.replicate n .null, vm := .none } : Cell) = H1
  have w2 : H1.size = H.size + 1 := by rw [← hH1, Array.size_push]
  have w1 : H1[H.size]? = some (arrV (B'.2.2 4) n (fun _ => .null)) := by rw [← hH1, Array.getElem?_push_size, ← arrV_new]
  have w3 : ∀ q : Nat, q < H.size → H1[q]? = H[q]? := fun q hq => by rw [← hH1, Array.getElem?_push, if_neg (Nat.ne_of_lt hq)]
  refine kk H1 locs ls (hR.push w2 w3 (cOK.ar (by decide) w1)) ⟨Nat.le_trans hS.1 (by omega), fun x z1 z2 => (w3 x (Nat.lt_of_lt_of_le z1 hS.1)).trans (hS.2.1 x z1 z2), hS.2.2⟩ hv
theorem y_objInit (hg : Gd g l0 B own cc L d mc ms) {idx a : Nat} (hl : Cond.methodLink own idx Lib.objectInit ∈ lw_all) (hd : decode cc pc = .ok (.invokespecial idx, 3)) (hd1 : 1 ≤ d) (hst : (st.map fun v => v.category).sum ≤ 8) (kk : YY g L σ cu su (pc + 3) lv st) : YY g L σ cu su pc lv (.ref a :: st) := by
  obtain ⟨p, l, e, R, s, m, args, below, meth, cD, Q, B'⟩ := g
  obtain ⟨rfl, rfl, hx, hb, hml, hown, hts, hK, hfr, hlo, hce, hsl, hlk, hba⟩ := hg
  intro H locs ls hR hS hv
  exact W.objInit hx hb hown (hts _ hl) (hts _ q108) (hts _ q109) rfl (by rw [hml]; exact hv.1) rfl hd (by omega) (by show 2 * 0 + _ + 12 ≤ _; omega) (kk H locs ls hR hS hv)
end MRows
