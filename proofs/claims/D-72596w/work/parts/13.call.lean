/-! ===== calls and ends ===== -/
def pI (P : Int32 → Mem → Prop) : Option Value → Mem → Prop := fun v σ' => ∃ r : Int32, v = some (.int r) ∧ P r σ'
def pL (P : Int64 → Mem → Prop) : Option Value → Mem → Prop := fun v σ' => ∃ r : Int64, v = some (.long r) ∧ P r σ'
def pV (P : Mem → Prop) : Option Value → Mem → Prop := fun v σ' => v = none ∧ P σ'
def pR (P : Nat → Mem → Prop) : Option Value → Mem → Prop := fun v σ' => ∃ r : Nat, v = some (.ref r) ∧ P r σ'
/-- an instance method: its words -/
def MIf (y : MethodName) (code : ByteArray) (L : Nat) (ret : Option FieldType) (n : Nat) : Prop := (y.cls ≠ "java/lang/invoke/MethodHandle" ∧ y.cls ≠ "java/lang/invoke/VarHandle" ∧ (parseMethodDescriptor y.desc).map (fun d => d.parameters.length) = some n) ∧ Cond.instanceMethod y ∈ lw_all ∧ Cond.selects y.cls y y ∈ lw_all ∧ Cond.initialized y.cls ∈ lw_all ∧ Cond.code y code L ret ∈ lw_all ∧ L ≤ 45
def MSf (y : MethodName) (code : ByteArray) (L : Nat) (ret : Option FieldType) (n : Nat) : Prop := (y.cls ≠ "java/lang/invoke/MethodHandle" ∧ y.cls ≠ "java/lang/invoke/VarHandle" ∧ (parseMethodDescriptor y.desc).map (fun d => d.parameters.length) = some n) ∧ Cond.static y ∈ lw_all ∧ Cond.initialized y.cls ∈ lw_all ∧ Cond.code y code L ret ∈ lw_all ∧ L ≤ 45
def MCf (y : MethodName) (code : ByteArray) (L : Nat) (n : Nat) : Prop := (y.cls ≠ "java/lang/invoke/MethodHandle" ∧ y.cls ≠ "java/lang/invoke/VarHandle" ∧ (parseMethodDescriptor y.desc).map (fun d => d.parameters.length) = some n) ∧ Cond.instanceMethod y ∈ lw_all ∧ y.name = "<init>" ∧ Cond.initialized y.cls ∈ lw_all ∧ Cond.code y code L none ∈ lw_all ∧ L ≤ 45
theorem y_after {p : Program} {l : Launch} {e : Env} {R : Room} {s : State} {m : MethodId} {args : Array Value} {below : List Frame} {meth : Method} {c : Code} {H : Heap} {locs : List Loc} {cells slots : Nat} {Q : State → Prop} {pc : Nat} {ls : Array Slot} {rest st0 : List Value} {a : Array Value} {mc ms : Nat} {B : Bs} {post : Option Value → Mem → Prop}
    (hr : va_Run p l e R s m args below meth c H locs cells slots mc ms (F0 m pc ls st0) rest (QCx B post a) (fun q => B.1 ≤ q)) (hS : va_S (fun q => B.1 ≤ q) s.heap H locs)
    (kk : ∀ (v : Option Value) (σ' : Mem) (H1 : Heap) (locs1 : List Loc), post v σ' → Rep B σ' H1 → va_S (fun q => B.1 ≤ q) s.heap H1 locs1 → W p l e R s m args below meth c H1 locs1 (cells + mc) (slots + ms) Q (F0 m (pc + 3) ls (v.toList ++ rest))) : W p l e R s m args below meth c H locs cells slots Q (F0 m pc ls st0) := by
  intro T hT X
  obtain ⟨v, st₀, t, T', L, h0, X', hL, e1, e2, ⟨⟨v', σ', hv, hp, hb⟩, hz, hk⟩, st⟩ := hr T hT X
  cases hv
  rw [h0] at hz hk
  obtain ⟨t2, a1, b1⟩ := kk v σ' T'.heap (locs ++ L) hp (by rw [e1]; exact hb)
    ⟨Nat.le_trans hS.1 (by rw [e1]; exact hz), fun q h1 h2 => by rw [e1, hk q (Nat.lt_of_lt_of_le h1 hS.1) h2]; exact hS.2.1 q h1 h2, fun q hq => by
      rcases List.mem_append.mp hq with h | h
      · exact hS.2.2 q h
      · exact hL q h⟩ T' rfl X'
  exact ⟨t2, st t2 a1, b1⟩
section CRows
variable {g : Cx} {l0 : Launch} {B : Bs} {own : String} {cc : ByteArray} {L d mc ms cu su pc : Nat} {σ : Mem} {lv : List (Nat × Value)} {st : List Value}
theorem y_callV (hg : Gd g l0 B own cc L d mc ms) {y : MethodName} {code : ByteArray} {Lc n idx d2 mc2 ms2 : Nat} {ret : Option FieldType} {As rest : List Value} {post : Option Value → Mem → Prop} {k c N : Nat} {T : u_T} (hM : MT l0 B d2 mc2 ms2 y code Lc ret (.ref (B.1 + k) :: As) σ post) (hi : MIf y code Lc ret n) (hl : Cond.methodLink own idx y ∈ lw_all) (hk : KO σ k c) (hc : CF c y.cls T N) (hn : As.length = n) (hs : st = As.reverse ++ .ref (B.1 + k) :: rest) (hw : (rest.map fun v => v.category).sum ≤ 8) (h1 : cu + mc2 ≤ mc) (h2 : su + ms2 ≤ ms) (hdd : d2 + 1 ≤ d) (hd : decode cc pc = .ok (.invokevirtual idx, 3)) (kk : ∀ v σ1, post v σ1 → YY g L σ1 (cu + mc2) (su + ms2) (pc + 3) lv (v.toList ++ rest)) : YY g L σ cu su pc lv st := by
  obtain ⟨p, l, e, R, s, m, args, below, meth, cD, Q, B'⟩ := g
  obtain ⟨rfl, rfl, hx, hb, hml, hown, hts, hK, hfr, hlo, hce, hsl, hlk, hba⟩ := hg
  intro H locs ls hR hS hv
  refine y_after (va_runV (As := As) (rest := rest) ⟨hx, hb, hml, hown, hts⟩ hM (cwV n hts (lw_V hl hi.2.1 hi.2.2.1 hi.2.2.2.1 hi.2.2.2.2.1) rfl rfl rfl ⟨rfl, hi.1⟩ ⟨by show d2 + 1 ≤ _; omega, by show 8 + (Lc + 11) + 64 * d2 ≤ _; have := hi.2.2.2.2.2; omega⟩) ⟨PCx.blind, ?_, fun U hU hW => ⟨rfl, by rw [hU]; exact hR, hK.warm hW hU hS⟩⟩ rfl hn hv.1 hs (lv_room hw) hd ⟨by omega, by omega⟩) hS (fun v σ1 H1 locs1 h1 h2 h3 => kk v σ1 h1 H1 locs1 ls h2 h3 hv)
  obtain ⟨cell, q1, q2, q3, q4⟩ := hR.obj hk hc
  exact ⟨cell, q1, by rw [q3]; rfl, by rw [q2]; exact (hK.1.1 c _ hc.1).2.1⟩
theorem y_callS (hg : Gd g l0 B own cc L d mc ms) {y : MethodName} {code : ByteArray} {Lc n idx d2 mc2 ms2 : Nat} {ret : Option FieldType} {As rest : List Value} {post : Option Value → Mem → Prop} (hM : MT l0 B d2 mc2 ms2 y code Lc ret As σ post) (hi : MSf y code Lc ret n) (hl : Cond.methodLink own idx y ∈ lw_all) (hn : As.length = n) (hs : st = As.reverse ++ rest) (hw : (rest.map fun v => v.category).sum ≤ 8) (h1 : cu + mc2 ≤ mc) (h2 : su + ms2 ≤ ms) (hdd : d2 + 1 ≤ d) (hd : decode cc pc = .ok (.invokestatic idx, 3)) (kk : ∀ v σ1, post v σ1 → YY g L σ1 (cu + mc2) (su + ms2) (pc + 3) lv (v.toList ++ rest)) : YY g L σ cu su pc lv st := by
  obtain ⟨p, l, e, R, s, m, args, below, meth, cD, Q, B'⟩ := g
  obtain ⟨rfl, rfl, hx, hb, hml, hown, hts, hK, hfr, hlo, hce, hsl, hlk, hba⟩ := hg
  intro H locs ls hR hS hv
  exact y_after (va_runS (As := As) (rest := rest) ⟨hx, hb, hml, hown, hts⟩ hM (va_cwS n hts (lw_S hl hi.2.1 hi.2.2.1 hi.2.2.2.1) rfl rfl rfl hi.1 ⟨by show d2 + 1 ≤ _; omega, by show 8 + (Lc + 11) + 64 * d2 ≤ _; have := hi.2.2.2.2; omega⟩) ⟨PCx.blind, fun U hU hW => ⟨rfl, by rw [hU]; exact hR, hK.warm hW hU hS⟩⟩ rfl hn hv.1 hs (lv_room hw) hd ⟨by omega, by omega⟩) hS (fun v σ1 H1 locs1 h1 h2 h3 => kk v σ1 h1 H1 locs1 ls h2 h3 hv)
theorem y_callI (hg : Gd g l0 B own cc L d mc ms) {y : MethodName} {code : ByteArray} {Lc n idx d2 mc2 ms2 : Nat} {ret : Option FieldType} {As rest : List Value} {post : Option Value → Mem → Prop} {a : Nat} (hM : MT l0 B d2 mc2 ms2 y code Lc none (.ref a :: As) σ post) (hi : MCf y code Lc n) (hl : Cond.methodLink own idx y ∈ lw_all) (hn : As.length = n) (hs : st = As.reverse ++ .ref a :: rest) (hw : (rest.map fun v => v.category).sum ≤ 8) (h1 : cu + mc2 ≤ mc) (h2 : su + ms2 ≤ ms) (hdd : d2 + 1 ≤ d) (hd : decode cc pc = .ok (.invokespecial idx, 3)) (kk : ∀ v σ1, post v σ1 → YY g L σ1 (cu + mc2) (su + ms2) (pc + 3) lv (v.toList ++ rest)) : YY g L σ cu su pc lv st := by
  obtain ⟨p, l, e, R, s, m, args, below, meth, cD, Q, B'⟩ := g
  obtain ⟨rfl, rfl, hx, hb, hml, hown, hts, hK, hfr, hlo, hce, hsl, hlk, hba⟩ := hg
  intro H locs ls hR hS hv
  exact y_after (va_runI (b := a) (As := As) (rest := rest) ⟨hx, hb, hml, hown, hts⟩ hM (cwI n hts (lw_meth hi.2.2.2.2.1) rfl rfl rfl (hts _ hi.2.2.2.1) (hts _ hl) (hts _ hi.2.1) hi.2.2.1 hi.1 ⟨by show d2 + 1 ≤ _; omega, by show 8 + (Lc + 11) + 64 * d2 ≤ _; have := hi.2.2.2.2.2; omega⟩) ⟨PCx.blind, fun U hU hW => ⟨rfl, by rw [hU]; exact hR, hK.warm hW hU hS⟩⟩ rfl hn hv.1 hs (lv_room hw) hd ⟨by omega, by omega⟩) hS (fun v σ1 H1 locs1 h1 h2 h3 => kk v σ1 h1 H1 locs1 ls h2 h3 hv)
theorem y_callIN (hg : Gd g l0 B own cc L d mc ms) {y : MethodName} {code : ByteArray} {Lc n idx d2 mc2 ms2 : Nat} {ret : Option FieldType} {As rest : List Value} {post : Option Value → Mem → Prop} {a : Nat} (hM : MT l0 B d2 mc2 ms2 y code Lc none (.ref a :: As) σ post) (hi : MCf y code Lc n) (hl : (own, idx, y, "BagPhrases") ∈ nstM) (hn : As.length = n) (hs : st = As.reverse ++ .ref a :: rest) (hw : (rest.map fun v => v.category).sum ≤ 8) (h1 : cu + mc2 ≤ mc) (h2 : su + ms2 ≤ ms) (hdd : d2 + 1 ≤ d) (hd : decode cc pc = .ok (.invokespecial idx, 3)) (kk : ∀ v σ1, post v σ1 → YY g L σ1 (cu + mc2) (su + ms2) (pc + 3) lv (v.toList ++ rest)) : YY g L σ cu su pc lv st := by
  obtain ⟨p, l, e, R, s, m, args, below, meth, cD, Q, B'⟩ := g
  obtain ⟨rfl, rfl, hx, hb, hml, hown, hts, hK, hfr, hlo, hce, hsl, hlk, hba⟩ := hg
  intro H locs ls hR hS hv
  exact y_after (va_runIN (b := a) (As := As) (rest := rest) ⟨hx, hb, hml, hown, hts⟩ hM ⟨va_cnB n hts (lw_meth hi.2.2.2.2.1) rfl rfl rfl (hK.2.2.1 _ hl) (hts _ hi.2.2.2.1) hi.1 ⟨by show d2 + 1 ≤ _; omega, by show 8 + (Lc + 11) + 64 * d2 ≤ _; have := hi.2.2.2.2.2; omega⟩, hi.2.2.1, hts _ hi.2.1⟩ ⟨PCx.blind, fun U hU hW => ⟨rfl, by rw [hU]; exact hR, hK.warm hW hU hS⟩⟩ rfl hn hv.1 hs (lv_room hw) hd ⟨by omega, by omega⟩) hS (fun v σ1 H1 locs1 h1 h2 h3 => kk v σ1 h1 H1 locs1 ls h2 h3 hv)
theorem y_cVi (hg : Gd g l0 B own cc L d mc ms) {y : MethodName} {code : ByteArray} {Lc n idx d2 : Nat} {ret : Option FieldType} {As rest : List Value} {P : Int32 → Mem → Prop} {k c N : Nat} {T : u_T} (hM : MT l0 B d2 0 0 y code Lc ret (.ref (B.1 + k) :: As) σ (pI P)) (hi : MIf y code Lc ret n) (hl : Cond.methodLink own idx y ∈ lw_all) (hk : KO σ k c) (hc : CF c y.cls T N) (hn : As.length = n) (hs : st = As.reverse ++ .ref (B.1 + k) :: rest) (hw : (rest.map fun v => v.category).sum ≤ 8) (h1 : cu ≤ mc) (h2 : su ≤ ms) (hdd : d2 + 1 ≤ d) (hd : decode cc pc = .ok (.invokevirtual idx, 3)) (kk : ∀ r σ1, P r σ1 → YY g L σ1 cu su (pc + 3) lv (.int r :: rest)) : YY g L σ cu su pc lv st :=
  y_callV hg hM hi hl hk hc hn hs hw (by omega) (by omega) hdd hd (fun v σ1 h => by obtain ⟨r, rfl, hp⟩ := h; exact kk r σ1 hp)
theorem y_cSi (hg : Gd g l0 B own cc L d mc ms) {y : MethodName} {code : ByteArray} {Lc n idx d2 : Nat} {ret : Option FieldType} {As rest : List Value} {P : Int32 → Mem → Prop} (hM : MT l0 B d2 0 0 y code Lc ret As σ (pI P)) (hi : MSf y code Lc ret n) (hl : Cond.methodLink own idx y ∈ lw_all) (hn : As.length = n) (hs : st = As.reverse ++ rest) (hw : (rest.map fun v => v.category).sum ≤ 8) (h1 : cu ≤ mc) (h2 : su ≤ ms) (hdd : d2 + 1 ≤ d) (hd : decode cc pc = .ok (.invokestatic idx, 3)) (kk : ∀ r σ1, P r σ1 → YY g L σ1 cu su (pc + 3) lv (.int r :: rest)) : YY g L σ cu su pc lv st :=
  y_callS hg hM hi hl hn hs hw (by omega) (by omega) hdd hd (fun v σ1 h => by obtain ⟨r, rfl, hp⟩ := h; exact kk r σ1 hp)
theorem y_cVl (hg : Gd g l0 B own cc L d mc ms) {y : MethodName} {code : ByteArray} {Lc n idx d2 : Nat} {ret : Option FieldType} {As rest : List Value} {P : Int64 → Mem → Prop} {k c N : Nat} {T : u_T} (hM : MT l0 B d2 0 0 y code Lc ret (.ref (B.1 + k) :: As) σ (pL P)) (hi : MIf y code Lc ret n) (hl : Cond.methodLink own idx y ∈ lw_all) (hk : KO σ k c) (hc : CF c y.cls T N) (hn : As.length = n) (hs : st = As.reverse ++ .ref (B.1 + k) :: rest) (hw : (rest.map fun v => v.category).sum ≤ 8) (h1 : cu ≤ mc) (h2 : su ≤ ms) (hdd : d2 + 1 ≤ d) (hd : decode cc pc = .ok (.invokevirtual idx, 3)) (kk : ∀ r σ1, P r σ1 → YY g L σ1 cu su (pc + 3) lv (.long r :: rest)) : YY g L σ cu su pc lv st :=
  y_callV hg hM hi hl hk hc hn hs hw (by omega) (by omega) hdd hd (fun v σ1 h => by obtain ⟨r, rfl, hp⟩ := h; exact kk r σ1 hp)
theorem y_cSl (hg : Gd g l0 B own cc L d mc ms) {y : MethodName} {code : ByteArray} {Lc n idx d2 : Nat} {ret : Option FieldType} {As rest : List Value} {P : Int64 → Mem → Prop} (hM : MT l0 B d2 0 0 y code Lc ret As σ (pL P)) (hi : MSf y code Lc ret n) (hl : Cond.methodLink own idx y ∈ lw_all) (hn : As.length = n) (hs : st = As.reverse ++ rest) (hw : (rest.map fun v => v.category).sum ≤ 8) (h1 : cu ≤ mc) (h2 : su ≤ ms) (hdd : d2 + 1 ≤ d) (hd : decode cc pc = .ok (.invokestatic idx, 3)) (kk : ∀ r σ1, P r σ1 → YY g L σ1 cu su (pc + 3) lv (.long r :: rest)) : YY g L σ cu su pc lv st :=
  y_callS hg hM hi hl hn hs hw (by omega) (by omega) hdd hd (fun v σ1 h => by obtain ⟨r, rfl, hp⟩ := h; exact kk r σ1 hp)
theorem y_cVv (hg : Gd g l0 B own cc L d mc ms) {y : MethodName} {code : ByteArray} {Lc n idx d2 : Nat} {ret : Option FieldType} {As rest : List Value} {P : Mem → Prop} {k c N : Nat} {T : u_T} (hM : MT l0 B d2 0 0 y code Lc ret (.ref (B.1 + k) :: As) σ (pV P)) (hi : MIf y code Lc ret n) (hl : Cond.methodLink own idx y ∈ lw_all) (hk : KO σ k c) (hc : CF c y.cls T N) (hn : As.length = n) (hs : st = As.reverse ++ .ref (B.1 + k) :: rest) (hw : (rest.map fun v => v.category).sum ≤ 8) (h1 : cu ≤ mc) (h2 : su ≤ ms) (hdd : d2 + 1 ≤ d) (hd : decode cc pc = .ok (.invokevirtual idx, 3)) (kk : ∀  σ1, P  σ1 → YY g L σ1 cu su (pc + 3) lv rest) : YY g L σ cu su pc lv st :=
  y_callV hg hM hi hl hk hc hn hs hw (by omega) (by omega) hdd hd (fun v σ1 h => by obtain ⟨rfl, hp⟩ := h; exact kk σ1 hp)
theorem y_cSv (hg : Gd g l0 B own cc L d mc ms) {y : MethodName} {code : ByteArray} {Lc n idx d2 : Nat} {ret : Option FieldType} {As rest : List Value} {P : Mem → Prop} (hM : MT l0 B d2 0 0 y code Lc ret As σ (pV P)) (hi : MSf y code Lc ret n) (hl : Cond.methodLink own idx y ∈ lw_all) (hn : As.length = n) (hs : st = As.reverse ++ rest) (hw : (rest.map fun v => v.category).sum ≤ 8) (h1 : cu ≤ mc) (h2 : su ≤ ms) (hdd : d2 + 1 ≤ d) (hd : decode cc pc = .ok (.invokestatic idx, 3)) (kk : ∀  σ1, P  σ1 → YY g L σ1 cu su (pc + 3) lv rest) : YY g L σ cu su pc lv st :=
  y_callS hg hM hi hl hn hs hw (by omega) (by omega) hdd hd (fun v σ1 h => by obtain ⟨rfl, hp⟩ := h; exact kk σ1 hp)
theorem y_iret (hg : Gd g l0 B own cc L d mc ms) {nm : String} {post : Option Value → Mem → Prop} {x : Int32} (hr : Gr g nm (some .int) mc ms post)  (hp : post (some (.int x)) σ) (hd : decode cc pc = .ok (.ireturn, 1)) (h1 : cu ≤ mc) (h2 : su ≤ ms) : YY g L σ cu su pc lv [.int x] := by
  obtain ⟨p, l, e, R, s, m, args, below, meth, cD, Q, B'⟩ := g
  obtain ⟨rfl, rfl, hx, hb, hml, hown, hts, hK, hfr, hlo, hce, hsl, hlk, hba⟩ := hg
  obtain ⟨hnm, hrt, rfl⟩ := hr
  intro H locs ls hR hS hv
  exact W.widen h1 h2 (W.iret (v := x) hx hb hrt  (fun t ht hW => ⟨⟨_, σ, rfl, hp, by rw [ht]; exact hR⟩, hS.F ht⟩) hS.2.2 hd (hlocks := hlk))
theorem y_zret (hg : Gd g l0 B own cc L d mc ms) {nm : String} {post : Option Value → Mem → Prop} {x : Int32} (hr : Gr g nm (some .boolean) mc ms post) (hz : narrow .boolean (.int x) = .int x) (hp : post (some (.int x)) σ) (hd : decode cc pc = .ok (.ireturn, 1)) (h1 : cu ≤ mc) (h2 : su ≤ ms) : YY g L σ cu su pc lv [.int x] := by
  obtain ⟨p, l, e, R, s, m, args, below, meth, cD, Q, B'⟩ := g
  obtain ⟨rfl, rfl, hx, hb, hml, hown, hts, hK, hfr, hlo, hce, hsl, hlk, hba⟩ := hg
  obtain ⟨hnm, hrt, rfl⟩ := hr
  intro H locs ls hR hS hv
  exact W.widen h1 h2 (W.zret (v := x) hx hb hrt hz (fun t ht hW => ⟨⟨_, σ, rfl, hp, by rw [ht]; exact hR⟩, hS.F ht⟩) hS.2.2 hd (hlocks := hlk))
theorem y_lret (hg : Gd g l0 B own cc L d mc ms) {nm : String} {post : Option Value → Mem → Prop} {x : Int64} (hr : Gr g nm (some .long) mc ms post)  (hp : post (some (.long x)) σ) (hd : decode cc pc = .ok (.lreturn, 1)) (h1 : cu ≤ mc) (h2 : su ≤ ms) : YY g L σ cu su pc lv [.long x] := by
  obtain ⟨p, l, e, R, s, m, args, below, meth, cD, Q, B'⟩ := g
  obtain ⟨rfl, rfl, hx, hb, hml, hown, hts, hK, hfr, hlo, hce, hsl, hlk, hba⟩ := hg
  obtain ⟨hnm, hrt, rfl⟩ := hr
  intro H locs ls hR hS hv
  exact W.widen h1 h2 (W.lret (v := x) hx hb hrt  (fun t ht hW => ⟨⟨_, σ, rfl, hp, by rw [ht]; exact hR⟩, hS.F ht⟩) hS.2.2 hd (hlocks := hlk))
theorem y_vret (hg : Gd g l0 B own cc L d mc ms) {nm : String} {post : Option Value → Mem → Prop} (hr : Gr g nm none mc ms post) (hp : post none σ) (hd : decode cc pc = .ok (.return_, 1)) (h1 : cu ≤ mc) (h2 : su ≤ ms) : YY g L σ cu su pc lv [] := by
  obtain ⟨p, l, e, R, s, m, args, below, meth, cD, Q, B'⟩ := g
  obtain ⟨rfl, rfl, hx, hb, hml, hown, hts, hK, hfr, hlo, hce, hsl, hlk, hba⟩ := hg
  obtain ⟨hnm, hrt, rfl⟩ := hr
  intro H locs ls hR hS hv
  exact W.widen h1 h2 (W.vret hx hb hrt (fun t ht hW => ⟨⟨_, σ, rfl, hp, by rw [ht]; exact hR⟩, hS.F ht⟩) hS.2.2 hd (hlocks := hlk))
theorem y_aret (hg : Gd g l0 B own cc L d mc ms) {nm : String} {post : Option Value → Mem → Prop} {a : Nat} {rt : FieldType} (hr : Gr g nm (some rt) mc ms post) (hrt0 : (∃ n, rt = .object n) ∨ ∃ t, rt = .array t) (hp : post (some (.ref a)) σ) (hd : decode cc pc = .ok (.areturn, 1)) (h1 : cu ≤ mc) (h2 : su ≤ ms) : YY g L σ cu su pc lv [.ref a] := by
  obtain ⟨p, l, e, R, s, m, args, below, meth, cD, Q, B'⟩ := g
  obtain ⟨rfl, rfl, hx, hb, hml, hown, hts, hK, hfr, hlo, hce, hsl, hlk, hba⟩ := hg
  obtain ⟨hnm, hrt, rfl⟩ := hr
  intro H locs ls hR hS hv
  exact W.widen h1 h2 (W.aret hx hb hrt hrt0 (Or.inr ⟨a, rfl⟩) (fun t ht hW => ⟨⟨_, σ, rfl, hp, by rw [ht]; exact hR⟩, hS.F ht⟩) hS.2.2 hd (hlocks := hlk))
theorem y_acopy (hg : Gd g l0 B own cc L d mc ms) {k0 k1 len0 len1 idx : Nat} {nn : Int32} (n : Nat) (hk0 : KA σ k0 0 len0) (hk1 : KA σ k1 0 len1) (hnn : nn = nI n) (hn0 : n ≤ len0) (hn1 : n ≤ len1) (hl : Cond.methodLink own idx arraycopyName ∈ lw_all) (hw : (st.map fun v => v.category).sum ≤ 8) (hdd : 1 ≤ d) (hd : decode cc pc = .ok (.invokestatic idx, 3)) (kk : YY g L (rowI σ k1 (fun j => if j < n then σ.2.2.1 k0 j else σ.2.2.1 k1 j)) cu su (pc + 3) lv st) : YY g L σ cu su pc lv (.int nn :: .int 0 :: .ref (B.1 + k1) :: .int 0 :: .ref (B.1 + k0) :: st) := by
  obtain ⟨p, l, e, R, s, m, args, below, meth, cD, Q, B'⟩ := g
  obtain ⟨rfl, rfl, hx, hb, hml, hown, hts, hK, hfr, hlo, hce, hsl, hlk, hba⟩ := hg
  intro H locs ls hR hS hv
  subst hnn
  have ecl : (nI n).toNatClampNeg = n := nI_clamp (by have := hk0.2.2; omega)
  have e0 : (0 : Int32).toNatClampNeg = 0 := sb_cl0
  have hnw : nativeFrameWords "java/lang/System" "arraycopy" 5 ≤ 40 := by decide
  have hc0 := hR.arr hk0 (by decide)
  have hc1 := hR.arr hk1 (by decide)
  intro T hT X
  obtain ⟨-, kc0, hkc0, cm0, hkk0⟩ := hK.arr.1 len0 (fun j => .int (σ.2.2.1 k0 j))
  obtain ⟨-, kc1, hkc1, cm1, hkk1⟩ := hK.arr.1 len1 (fun j => .int (σ.2.2.1 k1 j))
  obtain ⟨vm', X', step⟩ := X.arraycopy hx hown (hts _ hl) (hts _ q307) (hts _ q306) (hts _ q89) (src := B'.1 + k0) (dst := B'.1 + k1) (cs := arrV (B'.2.2 0) len0 (fun j => .int (σ.2.2.1 k0 j))) (cd := arrV (B'.2.2 0) len1 (fun j => .int (σ.2.2.1 k1 j))) (srcPos := 0) (destPos := 0) (n := nI n) (by rw [hT]; exact hc0) (by rw [hT]; exact hc1)
    (fun _ h => by cases h) (fun _ h => by cases h) (fun h => by cases h) (fun h => by cases h) hkc0 hkc1 hkk0 hkk1 (by simp [refKind]) (by decide) (by decide) (nI_pos (by have := hk0.2.2; omega))
    (by rw [nI_toInt (by have := hk0.2.2; omega), arrV_size]; show ¬ (0 : Int) + _ > _; omega)
    (by rw [nI_toInt (by have := hk0.2.2; omega), arrV_size]; show ¬ (0 : Int) + _ > _; omega)
    (fun vm₁ _ i hi => by
      rw [ecl] at hi
      have e9 : (arrV (B'.2.2 0) len0 (fun j => Value.int (σ.2.2.1 k0 j))).slots.getD ((0 : Int32).toNatClampNeg + i) .null = .int (σ.2.2.1 k0 (0 + i)) := by
        rw [e0, Array.getD_eq_getD_getElem?, arrV_read _ _ (by omega)]
        rfl
      exact ⟨by rw [e9]; rfl, by rw [e9]; exact trivial⟩)
    (g := F0 m pc ls (.int (nI n) :: .int 0 :: .ref (B'.1 + k1) :: .int 0 :: .ref (B'.1 + k0) :: st)) rfl (by rw [hml]; exact hv.1) (rest := st) rfl (by rw [hb]; exact hd) (by omega) (by show 2 * 0 + _ + (nativeFrameWords "java/lang/System" "arraycopy" 5 + 11) ≤ _; omega)
  have e1 : copied (arrV (B'.2.2 0) len0 (fun j => .int (σ.2.2.1 k0 j))) (arrV (B'.2.2 0) len1 (fun j => .int (σ.2.2.1 k1 j))) 0 0 (nI n) = arrV (B'.2.2 0) len1 (fun j => .int (va_cpy (σ.2.2.1 k0) (σ.2.2.1 k1) (0 : Int32).toNatClampNeg (0 : Int32).toNatClampNeg (nI n).toNatClampNeg j)) := va_copied (fun z => .int z) (B'.2.2 0) (B'.2.2 0) (σ.2.2.1 k0) (σ.2.2.1 k1) (by rw [ecl, e0]; omega)
  rw [e1] at X' step
  have hlt : B'.1 + k1 < H.size := (Array.getElem?_eq_some_iff.mp hc1).1
  obtain ⟨H1, hH1⟩ : ∃ H1 : Heap, H1 = H.setIfInBounds (B'.1 + k1) (arrV (B'.2.2 0) len1 (fun j => .int (va_cpy (σ.2.2.1 k0) (σ.2.2.1 k1) (0 : Int32).toNatClampNeg (0 : Int32).toNatClampNeg (nI n).toNatClampNeg j))) := ⟨_, rfl⟩
  have hheap : ((T.setVm vm').setCell (B'.1 + k1) (arrV (B'.2.2 0) len1 (fun j => .int (va_cpy (σ.2.2.1 k0) (σ.2.2.1 k1) (0 : Int32).toNatClampNeg (0 : Int32).toNatClampNeg (nI n).toNatClampNeg j)))).heap = H1 := by rw [hH1, ← hT]; rfl
  have w3 : ∀ q : Nat, q ≠ B'.1 + k1 → H1[q]? = H[q]? := fun q hq => by rw [hH1]; simp [Array.getElem?_setIfInBounds, Ne.symm hq]
  have w2 : H1.size = H.size := by rw [hH1]; simp
  have w1 : H1[B'.1 + k1]? = some (arrV (B'.2.2 0) len1 (fun j => .int (va_cpy (σ.2.2.1 k0) (σ.2.2.1 k1) (0 : Int32).toNatClampNeg (0 : Int32).toNatClampNeg (nI n).toNatClampNeg j))) := by rw [hH1]; simp [Array.getElem?_setIfInBounds, hlt]
  obtain ⟨t, a1, b1⟩ := kk H1 _ ls (hR.store (k := k1) w2 w3 rfl (by
      show cOK B' (σ.1 k1) _ _ _ _ _
      rw [hk1.1]
      refine cOK.ar (by decide) ?_
      rw [w1, ecl, e0]
      congr 2
      funext j
      simp [rowI, up1_s, av, va_cpy]) (fun q hq => ⟨rfl, by simp [rowI, up1_n hq]⟩)) ⟨by rw [w2]; exact hS.1, fun q g1 g2 => by
      rw [w3 q (fun e => g2 (by rw [e]; exact Nat.le_add_right _ _))]
      exact hS.2.1 q g1 g2, fun q hq => by
      rcases List.mem_append.mp hq with h | h
      · exact hS.2.2 q h
      · obtain ⟨z, -, hz⟩ := List.mem_map.mp h
        rw [← hz]
        exact Nat.le_add_right _ _⟩ hv _ hheap X'
  exact ⟨t, step t a1, b1⟩
end CRows
