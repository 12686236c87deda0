/-! ===== contracts of methods that return or throw ===== -/
/-- thrown: the class, the cell's number, the memory -/
def XCx (B : Bs) (px : String → Nat → Mem → Prop) : String → Addr → State → State → Prop := fun E q st t => (∃ (k : Nat) (σ' : Mem), q = B.1 + k ∧ px E k σ' ∧ Rep B σ' t.heap) ∧ va_F (fun q => B.1 ≤ q) st t
def MX (l : Launch) (B : Bs) (d mc ms : Nat) (y : MethodName) (ws : List Cond) (av : List Value) (σ : Mem) (post : Option Value → Mem → Prop) (px : String → Nat → Mem → Prop) : Prop :=
  vx_Met l y ws (RM d mc ms) (PCx B av σ) (QCx B post) (XCx B px) mc ms (fun q => B.1 ≤ q)
/-- how such a method ends; its table of handlers -/
def GrX (g : Cx) (nm : String) (ret : Option FieldType) (mc ms : Nat) (post : Option Value → Mem → Prop) (px : String → Nat → Mem → Prop) (tb : List ExceptionTableEntry) : Prop := match g with
  | (_, _, _, _, s, _, args, below, meth, c, Q, B) => meth.name = nm ∧ meth.sig.returnType = ret ∧ Q = vx_MQ below (QCx B post) (XCx B px) args s mc ms (fun q => B.1 ≤ q) ∧ c.exceptionTable.toList = tb
theorem MX.of {l : Launch} {B : Bs} {d mc ms : Nat} {y : MethodName} {code : ByteArray} {L : Nat} {ret : Option FieldType} {av : List Value} {σ : Mem} {post : Option Value → Mem → Prop} {px : String → Nat → Mem → Prop} (hy : plainName y.cls = true) (hL : (lg_sl av).length ≤ L)
    (body : ∀ g : Cx, Gd g l B y.cls code L d mc ms → GrX g y.name ret mc ms post px [] → YY g L σ 0 0 0 (lv_args 0 av) []) : MX l B d mc ms y (ws_ y code L ret) av σ post px := by
  refine vx_ofW (cc := code) (maxL := L) (ret := ret) hy rfl ?_
  intro p e s m args below meth c s₁ Bd hml htb hv
  obtain ⟨rfl, hR, hK⟩ := hv
  have hts := atoms_spec (ws := ws_ y code L ret) Bd.pre
  have hts : ∀ w ∈ lw_all, w.before _ s = true := fun w h => hts w (List.mem_cons_of_mem _ h)
  have hown : s.vm.findClass y.cls = some m.cls := findClass_of_methodNamed Bd.named
  have hnm : meth.name = y.name := (name_of_methodNamed Bd.named Bd.method).1
  have hl := lv_entry av (n := L) hL
  rw [lg_entry_eq]
  exact body (p, l, e, RM d mc ms, s, m, av.toArray, below, meth, c, vx_MQ below (QCx B post) (XCx B px) av.toArray s mc ms (fun q => B.1 ≤ q), B)
    ⟨rfl, rfl, Bd.exec, Bd.bytes, hml, hown, hts, hK, Nat.le_refl _, Nat.le_refl _, Nat.le_refl _, Nat.le_refl _, Bd.notSynchronized, hR.base⟩ ⟨hnm, Bd.returns, rfl, List.eq_nil_iff_forall_not_mem.mpr (fun x hx => htb x hx)⟩ s.heap [] _ hR va_S.rf hl
theorem MX.ofH {l : Launch} {B : Bs} {d mc ms : Nat} {y : MethodName} {code : ByteArray} {L : Nat} {ret : Option FieldType} {hh : List (Nat × Nat × Nat × Nat)} {av : List Value} {σ : Mem} {post : Option Value → Mem → Prop} {px : String → Nat → Mem → Prop} (hy : plainName y.cls = true) (hL : (lg_sl av).length ≤ L)
    (body : ∀ g : Cx, Gd g l B y.cls code L d mc ms → GrX g y.name ret mc ms post px (tableOf hh) → YY g L σ 0 0 0 (lv_args 0 av) []) : MX l B d mc ms y (wsW_ y code L ret hh) av σ post px := by
  refine vx_ofWH (cc := code) (maxL := L) (ret := ret) (hh := hh) hy rfl ?_
  intro p e s m args below meth c s₁ Bd hml hv
  obtain ⟨rfl, hR, hK⟩ := hv
  have hts0 := atoms_spec (ws := wsW_ y code L ret hh) Bd.pre
  have hts : ∀ w ∈ lw_all, w.before _ s = true := fun w h => hts0 w (List.mem_cons_of_mem _ h)
  have hown : s.vm.findClass y.cls = some m.cls := findClass_of_methodNamed Bd.named
  have hnm : meth.name = y.name := (name_of_methodNamed Bd.named Bd.method).1
  have hl := lv_entry av (n := L) hL
  have htb := vx_table (x := y) Bd (hts0 _ List.mem_cons_self)
  rw [lg_entry_eq]
  exact body (p, l, e, RM d mc ms, s, m, av.toArray, below, meth, c, vx_MQ below (QCx B post) (XCx B px) av.toArray s mc ms (fun q => B.1 ≤ q), B)
    ⟨rfl, rfl, Bd.exec, Bd.bytes, hml, hown, hts, hK, Nat.le_refl _, Nat.le_refl _, Nat.le_refl _, Nat.le_refl _, Bd.notSynchronized, hR.base⟩ ⟨hnm, Bd.returns, rfl, htb⟩ s.heap [] _ hR va_S.rf hl
section XRows
variable {g : Cx} {l0 : Launch} {B : Bs} {own : String} {cc : ByteArray} {L d mc ms cu su pc : Nat} {σ : Mem} {lv : List (Nat × Value)} {st : List Value} {nm : String} {ret : Option FieldType} {post : Option Value → Mem → Prop} {px : String → Nat → Mem → Prop} {tb : List ExceptionTableEntry}
/-- as if it could not throw -/
def gQ (g : Cx) (post : Option Value → Mem → Prop) (mc ms : Nat) : Cx := match g with
  | (p, l, e, R, s, m, args, below, meth, c, _, B) => (p, l, e, R, s, m, args, below, meth, c, MQ below (QCx B post) args s mc ms (fun q => B.1 ≤ q), B)
theorem gQ_d {mc' ms' : Nat} (hg : Gd g l0 B own cc L d mc ms) : Gd (gQ g post mc' ms') l0 B own cc L d mc ms := by
  obtain ⟨p, l, e, R, s, m, args, below, meth, c, Q, B'⟩ := g
  exact hg
theorem gQ_r (hr : GrX g nm ret mc ms post px tb) : Gr (gQ g post mc ms) nm ret mc ms post := by
  obtain ⟨p, l, e, R, s, m, args, below, meth, c, Q, B'⟩ := g
  exact ⟨hr.1, hr.2.1, rfl⟩
theorem y_xr (hr : GrX g nm ret mc ms post px tb) (k : YY (gQ g post mc ms) L σ cu su pc lv st) : YY g L σ cu su pc lv st := by
  obtain ⟨p, l, e, R, s, m, args, below, meth, c, Q, B'⟩ := g
  obtain ⟨h1, h2, rfl, h4⟩ := hr
  intro H locs ls hR hS hv
  exact vx_ret (k H locs ls hR hS hv)
/-- on its way: cell k of class E is thrown at pc -/
def YX (g : Cx) (L : Nat) (σ : Mem) (cu su pc : Nat) (lv : List (Nat × Value)) (k : Nat) (E : String) : Prop := match g with
  | (p, l, e, R, s, m, args, below, meth, c, Q, B) => ∀ (H : Heap) (locs : List Loc) (ls : Array Slot) (rest : List Value) (ce : Cell), Rep B σ H → va_S (fun q => B.1 ≤ q) s.heap H locs → lv_has ls L lv → H[B.1 + k]? = some ce → ce.vm = .none → s.vm.findClass E = some ce.cls → vx_W p l e R s m args below meth c H locs cu su Q (F0 m pc ls rest) (B.1 + k)
theorem y_athrow (hg : Gd g l0 B own cc L d mc ms) {k c N : Nat} {C : String} {T : u_T} (hc : CF c C T N) (hk : KO σ k c) (hd : decode cc pc = .ok (.athrow, 1)) (kk : YX g L σ cu su pc lv k C) : YY g L σ cu su pc lv (.ref (B.1 + k) :: st) := by
  obtain ⟨p, l, e, R, s, m, args, below, meth, cD, Q, B'⟩ := g
  obtain ⟨rfl, rfl, hx, hb, hml, hown, hts, hK, hfr, hlo, hce, hsl, hlk, hba⟩ := hg
  intro H locs ls hR hS hv
  obtain ⟨cell, q1, q2, q3, q4⟩ := hR.obj hk hc
  exact vx_athrow hx hb hd (kk H locs ls st cell hR hS hv q1 q3 (by rw [q2]; exact (hK.1.1 c _ hc.1).2.1))
theorem yx_out (hg : Gd g l0 B own cc L d mc ms) (hr : GrX g nm ret mc ms post px tb) {k : Nat} {E : String} (hout : ∀ x ∈ tb, covers x pc = false) (hp : px E k σ) (h1 : cu ≤ mc) (h2 : su ≤ ms) : YX g L σ cu su pc lv k E := by
  obtain ⟨p, l, e, R, s, m, args, below, meth, cD, Q, B'⟩ := g
  obtain ⟨rfl, rfl, hx, hb, hml, hown, hts, hK, hfr, hlo, hce, hsl, hlk, hba⟩ := hg
  obtain ⟨r1, r2, rfl, r4⟩ := hr
  intro H locs ls rest ce hR hS hv w1 w2 w3
  exact vx_out (by rw [r4]; exact hout) hlk w1 w2 w3 (fun t ht _ => ⟨⟨k, σ, rfl, hp, by rw [ht]; exact hR⟩, hS.F ht⟩) hS.2.2 h1 h2
theorem yx_catch (hg : Gd g l0 B own cc L d mc ms) (hr : GrX g nm ret mc ms post px tb) {k : Nat} {E name : String} (pre : List ExceptionTableEntry) (x : ExceptionTableEntry) (suf : List ExceptionTableEntry) (hsplit : tb = pre ++ x :: suf)
    (hpass : ∀ z ∈ pre, z.catchType ≠ 0 ∧ ∃ n : String, Cond.classLink own z.catchType n ∈ lw_all ∧ (E, n) ∈ ncL) (hx0 : covers x pc = true) (h0 : x.catchType ≠ 0) (hlink : Cond.classLink own x.catchType name ∈ lw_all) (hcast : (E, name) ∈ caL) (kk : YY g L σ cu su x.handlerPc lv [.ref (B.1 + k)]) : YX g L σ cu su pc lv k E := by
  obtain ⟨p, l, e, R, s, m, args, below, meth, cD, Q, B'⟩ := g
  obtain ⟨rfl, rfl, hx, hb, hml, hown, hts, hK, hfr, hlo, hce, hsl, hlk, hba⟩ := hg
  obtain ⟨r1, r2, r3, r4⟩ := hr
  intro H locs ls rest ce hR hS hv w1 w2 w3
  obtain ⟨k1, k2, k3, k4, k5, k6, k7, k8, k9, k10⟩ := hK
  exact vx_catch hown pre x suf (r4.trans hsplit) (fun z hz => by
    obtain ⟨z1, n, z2, z3⟩ := hpass z hz
    exact Or.inr ⟨z1, n, hts _ z2, k8 _ z3⟩) hx0 h0 (hts _ hlink) (va_Nw.use rfl (k9 _ hcast)) w1 w2 w3 (kk H locs ls hR hS hv)
/-- fewer locals -/
theorem yx_sub (ks : List Nat) {lv' : List (Nat × Value)} {k : Nat} {E : String} (hl : lv_pick lv ks = lv') (kk : YX g L σ cu su pc lv' k E) : YX g L σ cu su pc lv k E := by
  obtain ⟨p, l, e, R, s, m, args, below, meth, c, Q, B'⟩ := g
  intro H locs ls rest ce hR hS hv
  exact kk H locs ls rest ce hR hS (lv_sub hv ks hl)
end XRows
theorem y_afterX {p : Program} {l : Launch} {e : Env} {R : Room} {s : State} {m : MethodId} {args : Array Value} {below : List Frame} {meth : Method} {c : Code} {H : Heap} {locs : List Loc} {cells slots : Nat} {Q : State → Prop} {pc : Nat} {ls : Array Slot} {rest st0 : List Value} {a : Array Value} {mc ms : Nat} {B : Bs} {post : Option Value → Mem → Prop} {px : String → Nat → Mem → Prop}
    (hr : vx_Run p l e R s m args below meth c H locs cells slots mc ms (F0 m pc ls st0) rest (QCx B post a) (XCx B px) (fun q => B.1 ≤ q)) (hS : va_S (fun q => B.1 ≤ q) s.heap H locs)
    (kk : ∀ (v : Option Value) (σ' : Mem) (H1 : Heap) (locs1 : List Loc), post v σ' → Rep B σ' H1 → va_S (fun q => B.1 ≤ q) s.heap H1 locs1 → W p l e R s m args below meth c H1 locs1 (cells + mc) (slots + ms) Q (F0 m (pc + 3) ls (v.toList ++ rest)))
    (kx : ∀ (E : String) (k : Nat) (σ' : Mem) (H1 : Heap) (locs1 : List Loc) (ce : Cell), px E k σ' → Rep B σ' H1 → va_S (fun q => B.1 ≤ q) s.heap H1 locs1 → H1[B.1 + k]? = some ce → ce.vm = .none → s.vm.findClass E = some ce.cls → vx_W p l e R s m args below meth c H1 locs1 (cells + mc) (slots + ms) Q (F0 m pc ls rest) (B.1 + k)) : W p l e R s m args below meth c H locs cells slots Q (F0 m pc ls st0) := by
  intro T hT X
  rcases hr T hT X with ⟨v, st₀, t, T', L, h0, X', hL, e1, e2, ⟨⟨v', σ', hv, hp, hb⟩, hz, hk⟩, st⟩ | ⟨q, st₀, t, T', L, E, ce, h0, X', hL, e1, e2, ⟨⟨k, σ', hq, hp, hb⟩, hz, hk⟩, hce, hcv, hcl, st⟩
  · cases hv
    rw [h0] at hz hk
    obtain ⟨t2, a1, b1⟩ := kk v σ' T'.heap (locs ++ L) hp (by rw [e1]; exact hb)
      ⟨Nat.le_trans hS.1 (by rw [e1]; exact hz), fun q h1 h2 => by rw [e1, hk q (Nat.lt_of_lt_of_le h1 hS.1) h2]; exact hS.2.1 q h1 h2, fun q hq => by
        rcases List.mem_append.mp hq with h | h
        · exact hS.2.2 q h
        · exact hL q h⟩ T' rfl X'
    exact ⟨t2, st t2 a1, b1⟩
  · subst hq
    rw [h0] at hz hk
    obtain ⟨t2, a1, b1⟩ := kx E k σ' T'.heap (locs ++ L) ce hp (by rw [e1]; exact hb)
      ⟨Nat.le_trans hS.1 (by rw [e1]; exact hz), fun q h1 h2 => by rw [e1, hk q (Nat.lt_of_lt_of_le h1 hS.1) h2]; exact hS.2.1 q h1 h2, fun q hq => by
        rcases List.mem_append.mp hq with h | h
        · exact hS.2.2 q h
        · exact hL q h⟩ (by rw [e1]; exact hce) hcv hcl T' rfl X'
    exact ⟨t2, st.trans a1, b1⟩
def MIw (y : MethodName) (code : ByteArray) (L : Nat) (ret : Option FieldType) (hh : List (Nat × Nat × Nat × Nat)) (n : Nat) : Prop := (y.cls ≠ "java/lang/invoke/MethodHandle" ∧ y.cls ≠ "java/lang/invoke/VarHandle" ∧ (parseMethodDescriptor y.desc).map (fun d => d.parameters.length) = some n) ∧ Cond.instanceMethod y ∈ lw_all ∧ Cond.selects y.cls y y ∈ lw_all ∧ Cond.initialized y.cls ∈ lw_all ∧ Cond.codeWith y code L ret hh ∈ lw_all ∧ L ≤ 45
section XCalls
variable {g : Cx} {l0 : Launch} {B : Bs} {own : String} {cc : ByteArray} {L d mc ms cu su pc : Nat} {σ : Mem} {lv : List (Nat × Value)} {st : List Value}
theorem y_callX (hg : Gd g l0 B own cc L d mc ms) {y : MethodName} {code : ByteArray} {Lc n idx d2 mc2 ms2 : Nat} {ret : Option FieldType} {As rest : List Value} {post : Option Value → Mem → Prop} {px : String → Nat → Mem → Prop} {k c N : Nat} {T : u_T} (hM : MX l0 B d2 mc2 ms2 y (ws_ y code Lc ret) (.ref (B.1 + k) :: As) σ post px) (hi : MIf y code Lc ret n) (hl : Cond.methodLink own idx y ∈ lw_all) (hk : KO σ k c) (hc : CF c y.cls T N) (hn : As.length = n) (hs : st = As.reverse ++ .ref (B.1 + k) :: rest) (hw : (rest.map fun v => v.category).sum ≤ 8) (h1 : cu + mc2 ≤ mc) (h2 : su + ms2 ≤ ms) (hdd : d2 + 1 ≤ d) (hd : decode cc pc = .ok (.invokevirtual idx, 3))
    (kk : ∀ v σ1, post v σ1 → YY g L σ1 (cu + mc2) (su + ms2) (pc + 3) lv (v.toList ++ rest)) (kx : ∀ E q σ1, px E q σ1 → YX g L σ1 (cu + mc2) (su + ms2) pc lv q E) : YY g L σ cu su pc lv st := by
  obtain ⟨p, l, e, R, s, m, args, below, meth, cD, Q, B'⟩ := g
  obtain ⟨rfl, rfl, hx, hb, hml, hown, hts, hK, hfr, hlo, hce, hsl, hlk, hba⟩ := hg
  intro H locs ls hR hS hv
  refine y_afterX (vx_runV (As := As) (rest := rest) ⟨hx, hb, hml, hown, hts⟩ hM (cwV n hts (lw_V hl hi.2.1 hi.2.2.1 hi.2.2.2.1 hi.2.2.2.2.1) rfl rfl rfl ⟨rfl, hi.1⟩ ⟨by show d2 + 1 ≤ _; omega, by show 8 + (Lc + 11) + 64 * d2 ≤ _; have := hi.2.2.2.2.2; omega⟩) ⟨PCx.blind, ?_, fun U hU hW => ⟨rfl, by rw [hU]; exact hR, hK.warm hW hU hS⟩⟩ rfl hn hv.1 hs (lv_room hw) hd ⟨by omega, by omega⟩) hS (fun v σ1 H1 locs1 h1 h2 h3 => kk v σ1 h1 H1 locs1 ls h2 h3 hv) (fun E q σ1 H1 locs1 ce h1 h2 h3 h4 h5 h6 => kx E q σ1 h1 H1 locs1 ls rest ce h2 h3 hv h4 h5 h6)
  obtain ⟨cell, q1, q2, q3, q4⟩ := hR.obj hk hc
  exact ⟨cell, q1, by rw [q3]; rfl, by rw [q2]; exact (hK.1.1 c _ hc.1).2.1⟩
theorem y_callXW (hg : Gd g l0 B own cc L d mc ms) {y : MethodName} {code : ByteArray} {Lc n idx d2 mc2 ms2 : Nat} {ret : Option FieldType} {hh : List (Nat × Nat × Nat × Nat)} {As rest : List Value} {post : Option Value → Mem → Prop} {px : String → Nat → Mem → Prop} {k c N : Nat} {T : u_T} (hM : MX l0 B d2 mc2 ms2 y (wsW_ y code Lc ret hh) (.ref (B.1 + k) :: As) σ post px) (hi : MIw y code Lc ret hh n) (hl : Cond.methodLink own idx y ∈ lw_all) (hk : KO σ k c) (hc : CF c y.cls T N) (hn : As.length = n) (hs : st = As.reverse ++ .ref (B.1 + k) :: rest) (hw : (rest.map fun v => v.category).sum ≤ 8) (h1 : cu + mc2 ≤ mc) (h2 : su + ms2 ≤ ms) (hdd : d2 + 1 ≤ d) (hd : decode cc pc = .ok (.invokevirtual idx, 3))
    (kk : ∀ v σ1, post v σ1 → YY g L σ1 (cu + mc2) (su + ms2) (pc + 3) lv (v.toList ++ rest)) (kx : ∀ E q σ1, px E q σ1 → YX g L σ1 (cu + mc2) (su + ms2) pc lv q E) : YY g L σ cu su pc lv st := by
  obtain ⟨p, l, e, R, s, m, args, below, meth, cD, Q, B'⟩ := g
  obtain ⟨rfl, rfl, hx, hb, hml, hown, hts, hK, hfr, hlo, hce, hsl, hlk, hba⟩ := hg
  intro H locs ls hR hS hv
  refine y_afterX (vx_runVX (As := As) (rest := rest) ⟨hx, hb, hml, hown, hts⟩ hM (vx_cwVW n hts (lw_VW hl hi.2.1 hi.2.2.1 hi.2.2.2.1 hi.2.2.2.2.1) rfl rfl rfl ⟨rfl, hi.1⟩ ⟨by show d2 + 1 ≤ _; omega, by show 8 + (Lc + 11) + 64 * d2 ≤ _; have := hi.2.2.2.2.2; omega⟩) ⟨PCx.blind, ?_, fun U hU hW => ⟨rfl, by rw [hU]; exact hR, hK.warm hW hU hS⟩⟩ rfl hn hv.1 hs (lv_room hw) hd ⟨by omega, by omega⟩) hS (fun v σ1 H1 locs1 h1 h2 h3 => kk v σ1 h1 H1 locs1 ls h2 h3 hv) (fun E q σ1 H1 locs1 ce h1 h2 h3 h4 h5 h6 => kx E q σ1 h1 H1 locs1 ls rest ce h2 h3 hv h4 h5 h6)
  obtain ⟨cell, q1, q2, q3, q4⟩ := hR.obj hk hc
  exact ⟨cell, q1, by rw [q3]; rfl, by rw [q2]; exact (hK.1.1 c _ hc.1).2.1⟩
end XCalls
