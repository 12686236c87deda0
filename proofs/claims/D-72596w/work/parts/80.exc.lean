/-! ===== exceptions: Throwable's statics, fillInStackTrace(), getCause() ===== -/
section Exc0
variable {g : Cx} {l0 : Launch} {B : Bs} {own : String} {cc : ByteArray} {L d mc ms cu su pc : Nat} {σ : Mem} {lv : List (Nat × Value)} {st : List Value}
/-- the value of Throwable's UNASSIGNED_STACK at the method's start -/
def ZU (g : Cx) (u : Option Nat) : Prop := match g with
  | (_, _, _, _, s, _, _, _, _, _, _, B) => va_Z Bundle.tN "UNASSIGNED_STACK" Bundle.steD (va_rf u) (fun q => B.1 ≤ q) s s.heap
theorem y_gets1 (hg : Gd g l0 B own cc L d mc ms) {idx : Nat} (hl : Cond.fieldLink own idx Bundle.tN "UNASSIGNED_STACK" Bundle.steD ∈ lw_all) (hd : decode cc pc = .ok (.getstatic idx, 3)) (k : ∀ u, ZU g u → YY g L σ cu su (pc + 3) lv (va_rf u :: st)) : YY g L σ cu su pc lv st := by
  obtain ⟨p, l, e, R, s, m, args, below, meth, cD, Q, B'⟩ := g
  obtain ⟨rfl, rfl, hx, hb, hml, hown, hts, hK, hfr, hlo, hce, hsl, hlk, hba⟩ := hg
  intro H locs ls hR hS hv
  rcases hK.2.2.2.2.2.1.1 with hz | ⟨t, hz⟩
  · exact va_gets hx hb hz hS hown (hts _ hl) (fun _ h => h) hd (k none hz H locs ls hR hS hv)
  · exact va_gets hx hb hz hS hown (hts _ hl) (fun _ h => h) hd (k (some t) hz H locs ls hR hS hv)
theorem y_gets2 (hg : Gd g l0 B own cc L d mc ms) {idx : Nat} (hl : Cond.fieldLink own idx Bundle.tN "SUPPRESSED_SENTINEL" Bundle.listD ∈ lw_all) (hd : decode cc pc = .ok (.getstatic idx, 3)) (k : ∀ u, YY g L σ cu su (pc + 3) lv (va_rf u :: st)) : YY g L σ cu su pc lv st := by
  obtain ⟨p, l, e, R, s, m, args, below, meth, cD, Q, B'⟩ := g
  obtain ⟨rfl, rfl, hx, hb, hml, hown, hts, hK, hfr, hlo, hce, hsl, hlk, hba⟩ := hg
  intro H locs ls hR hS hv
  rcases hK.2.2.2.2.2.2.1.1 with hz | ⟨t, hz⟩
  · exact va_gets hx hb hz hS hown (hts _ hl) (fun _ h => h) hd (k none H locs ls hR hS hv)
  · exact va_gets hx hb hz hS hown (hts _ hl) (fun _ h => h) hd (k (some t) H locs ls hR hS hv)
/-- a reference or null is put -/
theorem y_putq (hg : Gd g l0 B own cc L d mc ms) {c N k j idx : Nat} {C : String} {T : u_T} {o : Option Nat} (hc : CF c C T N) (hk : KO σ k c) (hj : j < N) (hty : (clY c j).isReference = true) (hfin : (T j).2.2.2 = false) (hl : Cond.fieldLink own idx (T j).1 (T j).2.1 (T j).2.2.1 ∈ lw_all) (hd : decode cc pc = .ok (.putfield idx, 3)) (kk : YY g L (setR σ k j o) cu su (pc + 3) lv st) : YY g L σ cu su pc lv (va_rf o :: .ref (B.1 + k) :: st) := by
  cases o with
  | some a => exact y_putr hg hc hk hj hty hfin hl hd kk
  | none =>
    have e1 : narrow (clY c j) .null = .null ∧ fits (clY c j) .null = true ∧ fv (clY c j) (σ.2.2.1 k j) (σ.2.2.2.1 k j) none = .null := by
      revert hty
      cases clY c j <;> intro h <;> first | exact ⟨rfl, rfl, rfl⟩ | (exact absurd h (by decide))
    refine y_put (σ' := setR σ k j none) hg hc hk hj hfin e1.1 e1.2.1 hl hd ⟨rfl, rfl⟩ ?_ (fun q hq => ?_) (fun q hq => ?_) kk
    · simp only [setR, up2_s]; exact e1.2.2
    · simp [setR, up2_o q hq]
    · simp [setR, up2_row hq]
theorem fv_rf {ty : FieldType} (h : ty.isReference = true) (i : Int32) (n : Int64) (r : Option Nat) : fv ty i n r = va_rf r := by
  cases ty <;> first | rfl | (exact absurd h (by decide))
theorem va_rf_ok (u : Option Nat) : (va_rf u).isRef = true := by cases u <;> rfl
theorem left_entry {cell : Cell} {t : ThreadId} {i : Nat} {v : Value} (hm : cell.monitor = {}) (h : cell.slots[i]? = some v) : ((cell.withEntry t).setSlot i v).left = cell := by
  have h1 := Cell.setSlot_same h
  have h2 : cell.slots.setIfInBounds i v = cell.slots := congrArg Cell.slots h1
  obtain ⟨a, b, mo, d, e⟩ := cell
  dsimp only at hm h2
  subst hm
  unfold Cell.left Cell.setSlot Cell.withEntry
  dsimp only
  rw [if_pos (by decide), h2]
theorem left_entry0 {cell : Cell} {t : ThreadId} (hm : cell.monitor = {}) : (cell.withEntry t).left = cell := by
  obtain ⟨a, b, mo, d, e⟩ := cell
  dsimp only at hm
  subst hm
  unfold Cell.left Cell.withEntry
  dsimp only
  rw [if_pos (by decide)]
theorem thr_in : ∀ w ∈ Bundle.throwableAtoms, w = Cond.laysStatic Bundle.tN "UNASSIGNED_STACK" Bundle.steD ∨ w = Cond.laysStatic Bundle.tN "SUPPRESSED_SENTINEL" Bundle.listD ∨ w ∈ lw_all := by
  intro w hw
  simp only [Bundle.throwableAtoms, List.mem_cons, List.not_mem_nil, or_false] at hw
  rcases hw with rfl | rfl | rfl | rfl | rfl | rfl | rfl | rfl | rfl | rfl | rfl | rfl | rfl | rfl | rfl | rfl | rfl | rfl | rfl | rfl | rfl | rfl | rfl | rfl
  · exact Or.inr (Or.inr q91)
  · exact Or.inr (Or.inr q594)
  · exact Or.inr (Or.inr q603)
  · exact Or.inr (Or.inr q611)
  · exact Or.inr (Or.inr q614)
  · exact Or.inr (Or.inr q616)
  · exact Or.inr (Or.inr q595)
  · exact Or.inr (Or.inr q596)
  · exact Or.inr (Or.inr q108)
  · exact Or.inr (Or.inr q109)
  · exact Or.inr (Or.inr q597)
  · exact Or.inr (Or.inr q602)
  · exact Or.inr (Or.inr q612)
  · exact Or.inr (Or.inr q632)
  · exact Or.inr (Or.inr q584)
  · exact Or.inr (Or.inr q633)
  · exact Or.inr (Or.inr q586)
  · exact Or.inr (Or.inr q634)
  · exact Or.inr (Or.inr q588)
  · exact Or.inr (Or.inr q598)
  · exact Or.inl rfl
  · exact Or.inr (Or.inr q600)
  · exact Or.inr (Or.inl rfl)
  · exact Or.inr (Or.inr q590)
theorem thr_at {B : Bs} {s : State} {args : Array Value} (hts : ∀ w ∈ lw_all, w.before args s = true) (hK : KK B s) : ∀ w ∈ Bundle.throwableAtoms, w.before args s = true := by
  intro w hw
  rcases thr_in w hw with rfl | rfl | h
  · exact vx_L.word hK.2.2.2.2.2.1.2
  · exact vx_L.word hK.2.2.2.2.2.2.1.2
  · exact hts w h
set_option maxHeartbeats 1000000 in
/-- fillInStackTrace() where no traces are kept: nothing changes -/
theorem y_fill (hg : Gd g l0 B Bundle.tN cc L d mc ms) (htr : l0.stackTraces = false) {c N k jS jB : Nat} {C : String} {T : u_T} {u : Option Nat} (hc : CF c C T N) (hk : KO σ k c) (hjS : jS < N) (hTS : T jS = (Bundle.tN, "stackTrace", Bundle.steD, false)) (htyS : (clY c jS).isReference = true)
    (hjB : jB < N) (hTB : T jB = (Bundle.tN, "backtrace", "Ljava/lang/Object;", false)) (htyB : (clY c jB).isReference = true) (hZ : ZU g u) (hst : σ.2.2.2.2 k jS = u) (hbk : σ.2.2.2.2 k jB = none) (hselF : Cond.selects C Bundle.tFill Bundle.tFill ∈ lw_all) (hsel0 : Cond.selects C Bundle.tFill0 Bundle.tFill0 ∈ lw_all)
    (hd : decode cc pc = .ok (.invokevirtual 27, 3)) (hdd : 4 ≤ d) (hw : (st.map fun v => v.category).sum ≤ 8) (kk : YY g L σ cu su (pc + 3) lv (.ref (B.1 + k) :: st)) : YY g L σ cu su pc lv (.ref (B.1 + k) :: st) := by
  obtain ⟨p, l, e, R, s, m, args, below, meth, cD, Q, B'⟩ := g
  obtain ⟨rfl, rfl, hx, hb, hml, hown, hts, hK, hfr, hlo, hce, hsl, hlk, hba⟩ := hg
  intro H locs ls hR hS hv T0 hT X
  have howns : e.platform.frameOwnsMonitors = true := by rw [X.admits.platform]
  have hfin : e.platform.finalization = false := by rw [X.admits.platform]
  have hpl : e.platform.magicAccessors = ({} : Platform).magicAccessors := by rw [X.admits.platform]
  have htr' : e.platform.stackTraces = false := (show e.platform.stackTraces = l.stackTraces by rw [X.admits.platform]).trans htr
  have hat := thr_at hts hK
  obtain ⟨TT, Z, Ln, LZ, Y⟩ := ThrowableC.of_atoms (args := args) howns hfin hpl hat
  obtain ⟨cell, q1, q2, q3, q4⟩ := hR.obj hk hc
  have hmon := hR.mon hk hc q1
  obtain ⟨hS9, hfc, kC, hkC, hkind⟩ := hK.1.1 c _ hc.1
  have hcls : s.vm.findClass C = some cell.cls := by rw [q2]; exact hfc
  obtain ⟨cf, kf, fi, f, hi, hsl9⟩ := hS9 jS hjS
  have hlay : (Cond.lays C (T jS).1 (T jS).2.1 (T jS).2.2.1).before args s = true := by
    have := hts _ (hc.2.1 _ (u_in_lay hjS))
    unfold u_lay at this
    rw [if_neg (by rw [hTS]; decide)] at this
    exact this
  have e1 : narrow (clY c jS) (va_rf u) = va_rf u ∧ fits (clY c jS) (va_rf u) = true := by
    revert htyS
    cases clY c jS <;> intro h <;> first | (cases u <;> exact ⟨rfl, rfl⟩) | (exact absurd h (by decide))
  have h6 := u_fits (v := va_rf u) hfc hkC hkind (Or.inl hlay) hi (hc.2.2.1 jS hjS) e1.1 e1.2
  have hvS0 : cell.slots[B'.2.1.2 c jS]? = some (fv (clY c jS) (σ.2.2.1 k jS) (σ.2.2.2.1 k jS) (σ.2.2.2.2 k jS)) := q4 jS hjS
  rw [fv_rf htyS, hst, ← hsl9] at hvS0
  have hi' : s.fieldFound? Bundle.tN "stackTrace" Bundle.steD = some (cf, kf, fi, f) := by
    have z : s.fieldFound? (T jS).1 (T jS).2.1 (T jS).2.2.1 = some (cf, kf, fi, f) := hi
    rw [hTS] at z; exact z
  have ef : f = TT.fStack := by
    have := hi'.symm.trans Y.stack
    simp at this
    exact this.2.2.2
  subst ef
  obtain ⟨cfB, kfB, fiB, fB, hiB, hslB⟩ := hS9 jB hjB
  have hvB0 : cell.slots[B'.2.1.2 c jB]? = some (fv (clY c jB) (σ.2.2.1 k jB) (σ.2.2.2.1 k jB) (σ.2.2.2.2 k jB)) := q4 jB hjB
  rw [fv_rf htyB, hbk, ← hslB] at hvB0
  have hiB' : s.fieldFound? Bundle.tN "backtrace" "Ljava/lang/Object;" = some (cfB, kfB, fiB, fB) := by
    have z : s.fieldFound? (T jB).1 (T jB).2.1 (T jB).2.2.1 = some (cfB, kfB, fiB, fB) := hiB
    rw [hTB] at z; exact z
  obtain ⟨ci198, i198, fB', hk198, hg198, ha198, hsB, -, hnB, htB, hffB⟩ := Cond.ownField (t := .object "java/lang/Object") (C := Bundle.tN) (C' := Bundle.tN) (name := "backtrace") (desc := "Ljava/lang/Object;") Y.found Ln.cls (by decide +kernel) (hts _ q593) (hts _ q592) e.platform hpl
  have efB : fB = fB' := by
    have := hiB'.symm.trans hffB
    simp at this
    exact this.2.2.2
  subst efB
  have hselF' : selectMethod e.platform s.vm cell.cls TT.fill = .method TT.fill := by
    obtain ⟨c2, r2, m2, w1, w2, w3, w4, -⟩ := Cond.selects_spec (hts _ hselF)
    cases Option.some.inj (w1.symm.trans hcls)
    cases Option.some.inj (w2.symm.trans (State.methodFound?_of_named Y.fill (by decide)))
    cases Option.some.inj (w3.symm.trans Y.fill)
    rw [Launch.admits_selectMethod X.admits]; exact w4
  have hsel0' : selectMethod e.platform s.vm cell.cls TT.fill0 = .method TT.fill0 := by
    obtain ⟨c2, r2, m2, w1, w2, w3, w4, -⟩ := Cond.selects_spec (hts _ hsel0)
    cases Option.some.inj (w1.symm.trans hcls)
    cases Option.some.inj (w2.symm.trans (State.methodFound?_of_named Y.fill0 (by decide)))
    cases Option.some.inj (w3.symm.trans Y.fill0)
    rw [Launch.admits_selectMethod X.admits]; exact w4
  have hmF := Ln.method Ln.fillAt
  obtain ⟨vm₁, X₁, hstep₁⟩ := X.invokevirtual hx hown (hts _ q602) Y.fill hmF Ln.fillStatic Ln.cls Ln.notInterface (by decide) (a := B'.1 + k) (cell := cell) (by rw [hT]; exact q1) (fun z h => by rw [q3] at h; cases h) hselF' hmF Ln.fillAbstract Ln.cls Ln.notInterface
    (g := F0 m pc ls (.ref (B'.1 + k) :: st)) rfl (argsL := []) (rest := st) (by rw [Ln.fillParams]; rfl) rfl (by rw [hb]; exact hd)
  obtain ⟨cfu, kfu, fiu, fu, aS, cellS, z1, z2, z3, z4, z5, z6, z7, z8⟩ := hZ
  have eU : cfu = TT.cT ∧ kfu = TT.kT ∧ fiu = TT.i13 ∧ fu = TT.fUnassigned := by
    have := z1.symm.trans Y.unassigned
    simp at this
    exact this
  obtain ⟨-, ekf, -, efu⟩ := eU
  rw [ekf] at z4
  rw [efu] at z7
  have haS : aS = TT.aS := Option.some.inj (z4.symm.trans Ln.statics)
  rw [haS] at z5 z8
  have z5' : H[TT.aS]? = some cellS := (hS.2.1 _ (Array.getElem?_eq_some_iff.mp z5).1 z8).trans z5
  have hneS : TT.aS ≠ B'.1 + k := fun h => z8 (by rw [h]; exact Nat.le_add_right _ _)
  have hknownS : cellS.vm ≠ .unknown := fun h => by rw [h] at z6; cases z6
  have hsize : (F0 m pc ls st).locals.size = cD.maxLocals := by rw [hml]; exact hv.1
  have hcnt := X₁.framesAbove (n := 3) (by omega)
  have hwords := X₁.stackAbove (g := F0 m pc ls st) hsize (K := 120) (by show 2 * 0 + (st.map fun v => v.category).sum + 120 ≤ R.locals; omega)
  obtain ⟨g₀, hg0⟩ := Option.isSome_iff_exists.mp X₁.here.top
  obtain ⟨r, hr⟩ := State.topJava?_eq_some.mp hg0
  have hlen : (T0.setVm vm₁).frames.length = (Frame.java (F0 m pc ls st) :: (T0.setVm vm₁).frames.tail).length := by rw [hr]; rfl
  have hroom : e.platform.stackFull ((((T0.setVm vm₁).setTop (F0 m pc ls st)).threads[((T0.setVm vm₁).setTop (F0 m pc ls st)).cur]?).getD { frames := [] }) ((T0.setVm vm₁).setTop (F0 m pc ls st)).frames (1 + 2) = false :=
    roomAbove (pl := e.platform) (u := (T0.setVm vm₁).setTop (F0 m pc ls st)) (vars := 1 + 2) (pushed := []) (base := .java (F0 m pc ls st) :: (T0.setVm vm₁).frames.tail) (free := 120) (lim := e.platform.stackLimits (T0.setVm vm₁).me)
      (by rw [State.frames_setTop' _ X₁.here.top]; rfl) (State.stackLimits_setTop _ X₁.here.top _) (by rw [← hlen]; show 0 + _ < _; omega) hwords (by rw [stackUse_nil]; decide)
  obtain ⟨vm', hW', st'⟩ := Steps.fillColdAnyV p (s₀ := s) (V := T0.setVm vm₁) (g := F0 m pc ls st) (c := cD) (below := below) X₁.here hx TT Ln X₁.warmed (Nn := fun u => u) heapOnly_id (fun _ _ => rfl) (fun _ => rfl) (self := B'.1 + k) (fun u x y => setCell_twice _ _ _ _)
    (cell := cell) (cellS := cellS) (cN := cell.withEntry (T0.setVm vm₁).cur) (u0 := ⟨va_rf u, va_rf_ok u⟩) (ig := .invokevirtual 27) (len := 3) []
    (show T0.heap[B'.1 + k]? = some cell by rw [hT]; exact q1) (fun z h => by rw [q3] at h; cases h) (fun h => by rw [q3] at h; cases h) (Or.inl (by rw [hmon])) hvS0 hsel0' (show T0.heap[TT.aS]? = some cellS by rw [hT]; exact z5') hneS hknownS z7
    (fun _ hu => hu) (fun _ hu => hu) rfl rfl rfl (by simp [Cell.withEntry]) ⟨(Array.getElem?_eq_some_iff.mp hvS0).1, by rw [q2, q3]; exact h6.2⟩ (by rw [hb]; exact hd)
    (fun _ vm1 hW1 hA t' hrest => Ln.nativeOff p htr' hA hW1 (roomAbove (pl := e.platform) (u := (fillInside ((T0.setVm vm₁).setVm vm1) (F0 m pc ls st) TT.fill (B'.1 + k) cell).setTop (fillJ TT.fill (B'.1 + k) 16 [])) (pushed := [.java (fillJ TT.fill (B'.1 + k) 16 [])]) (base := .java (F0 m pc ls st) :: (T0.setVm vm₁).frames.tail) (free := 120) (lim := e.platform.stackLimits (T0.setVm vm₁).me)
      (by
        rw [State.frames_setTop' _ hA.top, frames_entered (g := F0 m pc ls st) (show (((T0.setVm vm₁).setVm vm1).setCell (B'.1 + k) (cell.withEntry _)).topJava?.isSome from X₁.here.top)]
        rfl)
      (by
        rw [State.stackLimits_setTop _ hA.top, State.stackLimits_pushFrame, State.stackLimits_setTop _ (show (((T0.setVm vm₁).setVm vm1).setCell (B'.1 + k) (cell.withEntry _)).topJava?.isSome from X₁.here.top)]
        rfl)
      (by rw [← hlen]; show 1 + _ < _; omega) hwords (Nat.le_of_ble_eq_true rfl)) hrest)
    hroom ⟨{ ci198 := ci198, i198 := i198, fBack := fB }, ⟨hk198, hg198, ha198, hsB⟩, hvB0, fun _ _ => rfl⟩
  obtain ⟨t, a1, b1⟩ := kk H locs ls hR hS hv ((T0.setVm vm₁).setVm vm') hT (X₁.noted hW')
  refine ⟨t, hstep₁ t (fun acts => ?_), b1⟩
  rw [doInvoke_state]
  refine st' t ?_
  rw [left_entry hmon hvS0, State.setCell_asItLies (s := (T0.setVm vm₁).setVm vm') (show T0.heap[B'.1 + k]? = some cell by rw [hT]; exact q1)]
  exact a1
end Exc0
