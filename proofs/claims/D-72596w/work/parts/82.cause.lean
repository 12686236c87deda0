/-! ===== Throwable.getCause() ===== -/
section GC
theorem gc_d0 : decode prog_18_method_8_code 0 = .ok (.aload_n 0, 1) := by decide +kernel
theorem gc_d1 : decode prog_18_method_8_code 1 = .ok (.getfield 7, 3) := by decide +kernel
theorem gc_d4 : decode prog_18_method_8_code 4 = .ok (.aload_n 0, 1) := by decide +kernel
theorem gc_d5 : decode prog_18_method_8_code 5 = .ok (.if_acmp .ne 7, 3) := by decide +kernel
theorem gc_d12 : decode prog_18_method_8_code 12 = .ok (.aload_n 0, 1) := by decide +kernel
theorem gc_d13 : decode prog_18_method_8_code 13 = .ok (.getfield 7, 3) := by decide +kernel
theorem gc_d16 : decode prog_18_method_8_code 16 = .ok (.areturn, 1) := by decide +kernel
set_option maxHeartbeats 1000000 in
theorem gc_steps (p : Program) {e : Env} {below : List Frame} {s₀ V : State} {g : JFrame} {c : Code} (h : At V g.method c below) (hexec : p.tables.exec = Jvm.exec) (T : ThrowableC) (L : T.Links e.platform s₀) (hW : s₀.WarmedH V.vm) {self : Addr} {mG : MethodId} {methG : Method} {cG : Code} {cell : Cell} {co : Option Nat} {ig : Instr} {len : Nat}
    (hcl : mG.cls = T.cT) (hmG : s₀.vm.method? mG = some methG) (hcG : methG.code = some cG) (hbG : cG.code = prog_18_method_8_code) (hlG : cG.maxLocals = 1) (hrG : methG.sig.returnType = some (.object "java/lang/Throwable")) (hkG : methG.locks = true) (hsG : methG.isStatic = false)
    (hcell : V.heap[self]? = some cell) (hknown : cell.vm ≠ .unknown) (hmon : cell.monitor = {}) (hv : cell.slots[T.fCause.slot]? = some (va_rf co)) (hne : co ≠ some self) (hdg : decode c.code g.pc = .ok (ig, len))
    (hroom : e.platform.stackFull (((V.setTop g).threads[(V.setTop g).cur]?).getD { frames := [] }) (V.setTop g).frames (1 + 2) = false) :
    ∃ vm', s₀.WarmedH vm' ∧ ∀ target, Steps p.tables e below ((V.setVm vm').setTop { g with pc := g.pc + len, stack := va_rf co :: g.stack }) target → Steps p.tables e below (doInvoke e (V.setTop g) [] mG #[.ref self]).1 target := by
  have hlt : self < V.heap.size := (Array.getElem?_eq_some_iff.mp hcell).1
  have hplainG : ∀ k, s₀.vm.classes[mG.cls]? = some k → plainName k.name = true := by rw [hcl]; exact L.plain
  have hAof : ∀ vm, s₀.WarmedH vm → At (fillInside (V.setVm vm) g mG self cell) mG cG below := fun vm hWv => by
    have := At.enter_sync (g := g) (h.setVm (hW.alike.symm.trans hWv.alike)) #[.ref self] self (cell.withEntry V.cur) (hWv.methodAt hmG) hcG (hWv.plainAt (m := mG) hplainG)
    rw [hlG] at this
    exact this
  have hcellU : ∀ vm, (fillInside (V.setVm vm) g mG self cell).heap[self]? = some (cell.withEntry V.cur) := fun vm => by
    show (V.heap.setIfInBounds self (cell.withEntry V.cur))[self]? = _
    simp [hlt]
  have hA : At (fillInside V g mG self cell) mG cG below := hAof V.vm hW
  have hl7 : s₀.vm.FieldLinks e.platform mG.cls 7 T.ci7 T.cT T.i7 := by rw [hcl]; exact L.link7
  have hr7 : s₀.rightAt mG.cls 7 (.field T.cT T.i7) = true := by rw [hcl]; exact L.right7
  obtain ⟨vm1, hW1, st1⟩ := Steps.getfieldCold (tb := p.tables) (s₀ := s₀) (U := fillInside V g mG self cell) (f := fillJ mG self 1 [.ref self]) (a := self) (rest := []) (cell := cell.withEntry V.cur) (v := va_rf co) hA hexec (by rw [hbG]; exact gc_d1) hW hl7 hr7 L.cls L.at7 L.causeInstance rfl (hcellU V.vm) hknown hv
  obtain ⟨vm2, hW2, st2⟩ := Steps.getfieldCold (tb := p.tables) (s₀ := s₀) (U := fillInside (V.setVm vm1) g mG self cell) (f := fillJ mG self 13 [.ref self]) (a := self) (rest := []) (cell := cell.withEntry V.cur) (v := va_rf co) (hAof vm1 hW1) hexec (by rw [hbG]; exact gc_d13) hW1 hl7 hr7 L.cls L.at7 L.causeInstance rfl (hcellU vm1) hknown hv
  refine ⟨vm2, hW2, fun target hrest => ?_⟩
  rw [doInvoke_enter_sync h.top [] (hW.methodAt hmG) hcG hkG hsG rfl hcell (Or.inl (by rw [hmon])) (by rw [hlG]; exact hroom), hlG]
  show Steps p.tables e below ((fillInside V g mG self cell).setTop (fillJ mG self 0 [])) target
  jvm_step hA [hexec, hbG, gc_d0, Value.isRef]
  refine st1 target ?_
  have hA1 := hAof vm1 hW1
  show Steps p.tables e below ((fillInside (V.setVm vm1) g mG self cell).setTop (fillJ mG self 4 [va_rf co])) target
  jvm_step hA1 [hexec, hbG, gc_d4, Value.isRef]
  suffices hs : Steps p.tables e below ((fillInside (V.setVm vm1) g mG self cell).setTop (fillJ mG self 12 [])) target by
    cases co with
    | none =>
      jvm_step hA1 [hexec, hbG, gc_d5, va_rf, Value.asRef?, Op.if_acmp.holds]
      exact hs
    | some a =>
      have hne' : a ≠ self := fun z => hne (by rw [z])
      jvm_step hA1 [hexec, hbG, gc_d5, va_rf, Value.asRef?, Op.if_acmp.holds, hne']
      exact hs
  jvm_step hA1 [hexec, hbG, gc_d12, Value.isRef]
  refine st2 target ?_
  have hA2 := hAof vm2 hW2
  show Steps p.tables e below ((fillInside (V.setVm vm2) g mG self cell).setTop (fillJ mG self 16 [va_rf co])) target
  have hok := va_rf_ok co
  jvm_step hA2 [hexec, hbG, gc_d16, areturn.wp_sem, hok, FieldType.isReference]
  refine ⟨methG, hW2.methodAt hmG, ⟨_, hrG, rfl⟩, fun acts' => ?_⟩
  have hfr : (fillInside (V.setVm vm2) g mG self cell).frames = .java (entryFrameSync mG #[.ref self] 1 self) :: .java g :: V.frames.tail := frames_entered (g := g) (show ((V.setVm vm2).setCell self (cell.withEntry V.cur)).topJava?.isSome from h.top) _
  have hcode : (fillInside (V.setVm vm2) g mG self cell).code? g.method = some c := by
    have := (h.setVm (hW.alike.symm.trans hW2.alike)).code
    rw [State.code?_eq] at this ⊢
    exact this
  rw [doReturn_leave_sync (u := fillInside (V.setVm vm2) g mG self cell) (g := g) (meth := methG) (cg := c) (ig := ig) (len := len) (a := self) (cell := cell.withEntry V.cur)
      (f := fillJ mG self 16 []) (f₀ := entryFrameSync mG #[.ref self] 1 self) (r := V.frames.tail) acts' L.owns hfr (hW2.methodAt hmG) hkG rfl rfl (hcellU vm2) rfl hcode hdg, left_entry0 hmon]
  have hH := heapOnly_id.thenSetCell self cell
  have e1 : ((fillInside (V.setVm vm2) g mG self cell).setCell self cell).setFrames (.java g :: V.frames.tail) = (((V.setVm vm2).setCell self (cell.withEntry V.cur)).setTop g).setCell self cell := by
    rw [← hH.setFrames]
    show ((fillInside (V.setVm vm2) g mG self cell).setFrames (.java g :: ((V.setVm vm2).setCell self (cell.withEntry V.cur)).frames.tail)).setCell self _ = _
    exact congrArg (fun u : State => u.setCell self cell) (setFrames_entered (g := g) (s := (V.setVm vm2).setCell self (cell.withEntry V.cur)) h.top _)
  rw [e1, hH.setTop_setTop (s := (V.setVm vm2).setCell self (cell.withEntry V.cur)) h.top, setCell_twice, State.setCell_asItLies (s := V.setVm vm2) hcell]
  exact hrest
end GC
section GC2
variable {g : Cx} {l0 : Launch} {B : Bs} {own : String} {cc : ByteArray} {L d mc ms cu su pc : Nat} {σ : Mem} {lv : List (Nat × Value)} {st : List Value}
set_option maxHeartbeats 1000000 in
theorem y_gc (hg : Gd g l0 B own cc L d mc ms) {c N k jC idx : Nat} {C : String} {T : u_T} {co : Option Nat} (hc : CF c C T N) (hk : KO σ k c) (hjC : jC < N) (hTC : T jC = (Bundle.tN, "cause", "Ljava/lang/Throwable;", false)) (htyC : (clY c jC).isReference = true) (hv0 : σ.2.2.2.2 k jC = co) (hne : co ≠ some (B.1 + k))
    (hl : Cond.methodLink own idx ⟨"BagPhrases$Misfit", "getCause", "()Ljava/lang/Throwable;"⟩ ∈ lw_all) (hsel : Cond.selects C ⟨"BagPhrases$Misfit", "getCause", "()Ljava/lang/Throwable;"⟩ ⟨"java/lang/Throwable", "getCause", "()Ljava/lang/Throwable;"⟩ ∈ lw_all) (hd : decode cc pc = .ok (.invokevirtual idx, 3)) (hdd : 3 ≤ d) (hw : (st.map fun v => v.category).sum ≤ 8)
    (kk : YY g L σ cu su (pc + 3) lv (va_rf co :: st)) : YY g L σ cu su pc lv (.ref (B.1 + k) :: st) := by
  obtain ⟨p, l, e, R, s, m, args, below, meth, cD, Q, B'⟩ := g
  obtain ⟨rfl, rfl, hx, hb, hml, hown, hts, hK, hfr, hlo, hce, hsl, hlk, hba⟩ := hg
  intro H locs ls hR hS hv T0 hT X
  have howns : e.platform.frameOwnsMonitors = true := by rw [X.admits.platform]
  have hfin : e.platform.finalization = false := by rw [X.admits.platform]
  have hpl : e.platform.magicAccessors = ({} : Platform).magicAccessors := by rw [X.admits.platform]
  have hat := thr_at hts hK
  obtain ⟨TT, Z, Ln, LZ, Y⟩ := ThrowableC.of_atoms (args := args) howns hfin hpl hat
  obtain ⟨cell, q1, q2, q3, q4⟩ := hR.obj hk hc
  have hmon := hR.mon hk hc q1
  obtain ⟨hS9, hfc, kC, hkC, hkind⟩ := hK.1.1 c _ hc.1
  have hcls : s.vm.findClass C = some cell.cls := by rw [q2]; exact hfc
  obtain ⟨cf, kf, fi, f, hi, hsl9⟩ := hS9 jC hjC
  have hvC0 : cell.slots[B'.2.1.2 c jC]? = some (fv (clY c jC) (σ.2.2.1 k jC) (σ.2.2.2.1 k jC) (σ.2.2.2.2 k jC)) := q4 jC hjC
  rw [fv_rf htyC, hv0, ← hsl9] at hvC0
  have hi' : s.fieldFound? Bundle.tN "cause" "Ljava/lang/Throwable;" = some (cf, kf, fi, f) := by
    have z : s.fieldFound? (T jC).1 (T jC).2.1 (T jC).2.2.1 = some (cf, kf, fi, f) := hi
    rw [hTC] at z; exact z
  have ef : f = TT.fCause := by
    have := hi'.symm.trans Y.cause
    simp at this
    exact this.2.2.2
  subst ef
  obtain ⟨cn, ck, r1, hcn, hck, hni, hf, hn1⟩ := Cond.sameMethod_found (hts _ q791)
  obtain ⟨mk, methM, hnamed, hmethM, hstM, habM⟩ := Cond.instanceMethod_spec (hts _ q799)
  obtain ⟨methM', cM, hmethM', hcM, hbM, hlM, hrM, hkM, -, hsigM⟩ := Cond.codeSync_spec hnamed (hts _ q800)
  cases hmethM.symm.trans hmethM'
  obtain ⟨c2, r2, m2, w1, w2, w3, w4, kP, hkP, hkPi⟩ := Cond.selects_spec (hts _ hsel)
  cases hcls.symm.trans w1
  cases hf.symm.trans w2
  cases hnamed.symm.trans w3
  cases hnamed.symm.trans hn1
  have hselP : selectMethod e.platform s.vm cell.cls r1 = .method r1 := by rw [Launch.admits_selectMethod X.admits]; exact w4
  have hlen0 : ([] : List Value).length = methM.sig.parameters.length := by
    have hp : (parseMethodDescriptor "()Ljava/lang/Throwable;").map (fun d => d.parameters.length) = some 0 := by decide +kernel
    rw [show parseMethodDescriptor "()Ljava/lang/Throwable;" = some methM.sig from hsigM] at hp
    exact (Option.some.inj hp).symm
  obtain ⟨vm₁, X₁, hstep₁⟩ := X.invokevirtualUp hx hown (hts _ hl) (hts _ q791) (by decide) hnamed hmethM hstM (a := B'.1 + k) (cell := cell) (by rw [hT]; exact q1) (fun z h => by rw [q3] at h; cases h) hselP hmethM habM hkP hkPi
    (g := F0 m pc ls (.ref (B'.1 + k) :: st)) rfl (argsL := []) (rest := st) hlen0 rfl (by rw [hb]; exact hd)
  have hsize : (F0 m pc ls st).locals.size = cD.maxLocals := by rw [hml]; exact hv.1
  have hcnt := X₁.framesAbove (n := 2) (by omega)
  have hwords := X₁.stackAbove (g := F0 m pc ls st) hsize (K := 120) (by show 2 * 0 + (st.map fun v => v.category).sum + 120 ≤ R.locals; omega)
  obtain ⟨g₀, hg0⟩ := Option.isSome_iff_exists.mp X₁.here.top
  obtain ⟨r, hr⟩ := State.topJava?_eq_some.mp hg0
  have hlen : (T0.setVm vm₁).frames.length = (Frame.java (F0 m pc ls st) :: (T0.setVm vm₁).frames.tail).length := by rw [hr]; rfl
  have hroom : e.platform.stackFull ((((T0.setVm vm₁).setTop (F0 m pc ls st)).threads[((T0.setVm vm₁).setTop (F0 m pc ls st)).cur]?).getD { frames := [] }) ((T0.setVm vm₁).setTop (F0 m pc ls st)).frames (1 + 2) = false :=
    roomAbove (pl := e.platform) (u := (T0.setVm vm₁).setTop (F0 m pc ls st)) (vars := 1 + 2) (pushed := []) (base := .java (F0 m pc ls st) :: (T0.setVm vm₁).frames.tail) (free := 120) (lim := e.platform.stackLimits (T0.setVm vm₁).me)
      (by rw [State.frames_setTop' _ X₁.here.top]; rfl) (State.stackLimits_setTop _ X₁.here.top _) (by rw [← hlen]; show 0 + _ < _; omega) hwords (by rw [stackUse_nil]; decide)
  obtain ⟨vm', hW', st'⟩ := gc_steps p (s₀ := s) (V := T0.setVm vm₁) (g := F0 m pc ls st) (c := cD) (below := below) X₁.here hx TT Ln X₁.warmed (self := B'.1 + k) (co := co) (ig := .invokevirtual idx) (len := 3)
    (Option.some.inj ((findClass_of_methodNamed hnamed).symm.trans Y.found)) hmethM hcM hbM hlM hrM hkM hstM (show T0.heap[B'.1 + k]? = some cell by rw [hT]; exact q1) (fun h => by rw [q3] at h; cases h) hmon hvC0 hne (by rw [hb]; exact hd) hroom
  obtain ⟨t, a1, b1⟩ := kk H locs ls hR hS hv ((T0.setVm vm₁).setVm vm') hT (X₁.noted hW')
  refine ⟨t, hstep₁ t (fun acts => ?_), b1⟩
  rw [doInvoke_state]
  exact st' t a1
end GC2
