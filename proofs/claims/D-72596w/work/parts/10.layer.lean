/-! ===== THE LAYER: one memory for the whole world, rows over it ===== -/
/-- base address, classes' numbers and slots, array classes (0 int, 1 long, 2 boolean, 3 Word, 4 Setting) -/
abbrev Bs : Type := Nat × va_G × (Nat → ClassId)
/-- kinds and lengths of cells, their number, ints, longs, references (absolute) -/
abbrev Mem : Type := (Nat → Nat × Nat) × Nat × (Nat → Nat → Int32) × (Nat → Nat → Int64) × (Nat → Nat → Option Nat)
abbrev Cx : Type := Program × Launch × Env × Room × State × MethodId × Array Value × List Frame × Method × Code × (State → Prop) × Bs
abbrev mS (σ : Mem) : Nat → Nat × Nat := σ.1
abbrev mN (σ : Mem) : Nat := σ.2.1
abbrev mI (σ : Mem) : Nat → Nat → Int32 := σ.2.2.1
abbrev mL (σ : Mem) : Nat → Nat → Int64 := σ.2.2.2.1
abbrev mR (σ : Mem) : Nat → Nat → Option Nat := σ.2.2.2.2
def up2 {α : Type} (f : Nat → Nat → α) (k j : Nat) (v : α) : Nat → Nat → α := fun a b => if a = k ∧ b = j then v else f a b
theorem up2_s {α : Type} {f : Nat → Nat → α} {k j : Nat} {v : α} : up2 f k j v k j = v := by simp [up2]
theorem up2_n {α : Type} {f : Nat → Nat → α} {k j : Nat} {v : α} {a b : Nat} (h : ¬ (a = k ∧ b = j)) : up2 f k j v a b = f a b := by simp [up2, h]
theorem up2_row {α : Type} {f : Nat → Nat → α} {k j : Nat} {v : α} {a : Nat} (h : a ≠ k) : up2 f k j v a = f a := by funext b; simp [up2, h]
def up1 {α : Type} (f : Nat → α) (k : Nat) (v : α) : Nat → α := fun a => if a = k then v else f a
theorem up1_s {α : Type} {f : Nat → α} {k : Nat} {v : α} : up1 f k v k = v := by simp [up1]
theorem up1_n {α : Type} {f : Nat → α} {k : Nat} {v : α} {a : Nat} (h : a ≠ k) : up1 f k v a = f a := by simp [up1, h]
def setI (σ : Mem) (k j : Nat) (v : Int32) : Mem := (σ.1, σ.2.1, up2 σ.2.2.1 k j v, σ.2.2.2.1, σ.2.2.2.2)
def setL (σ : Mem) (k j : Nat) (v : Int64) : Mem := (σ.1, σ.2.1, σ.2.2.1, up2 σ.2.2.2.1 k j v, σ.2.2.2.2)
def setR (σ : Mem) (k j : Nat) (v : Option Nat) : Mem := (σ.1, σ.2.1, σ.2.2.1, σ.2.2.2.1, up2 σ.2.2.2.2 k j v)
/-- a whole row of ints at once (arraycopy) -/
def rowI (σ : Mem) (k : Nat) (f : Nat → Int32) : Mem := (σ.1, σ.2.1, up1 σ.2.2.1 k f, σ.2.2.2.1, σ.2.2.2.2)
/-- a new cell of a kind, at the end -/
def newK (σ : Mem) (kd : Nat × Nat) : Mem := (up1 σ.1 σ.2.1 kd, σ.2.1 + 1, up1 σ.2.2.1 σ.2.1 (fun _ => 0), up1 σ.2.2.2.1 σ.2.1 (fun _ => 0), up1 σ.2.2.2.2 σ.2.1 (fun _ => none))
/-- what a field of a type holds -/
def fv (ty : FieldType) (i : Int32) (l : Int64) (r : Option Nat) : Value := match ty with
  | .int => .int i
  | .long => .long l
  | _ => va_rf r
/-- what an array of a kind holds -/
def av (t : Nat) (i : Int32) (l : Int64) (r : Option Nat) : Value := match t with
  | 0 => .int i
  | 1 => .long l
  | 2 => .int i
  | _ => va_rf r
abbrev clL : List vw_C := [(RX0, TX0, 36), (RX1, TX1, 6), (RX2, TX2, 4), (RX3, TX3, 45), (RX5, TX5, 7), (RX6, TX6, 7), (RX7, TX7, 8), (RX8, TX8, 7), (RX9, TX9, 7), (RX10, TX10, 7), (RX11, TX11, 7)]
def clN : Nat → Nat := fun c => match c with
  | 0 => 36 | 1 => 6 | 2 => 4 | 3 => 45 | 6 => 8 | _ => 7
def clY : Nat → Nat → FieldType := fun c => match c with
  | 0 => tyX0 | 1 => tyX1 | 2 => tyX2 | 3 => tyX3 | 4 => tyX5 | 5 => tyX6 | 6 => tyX7 | 7 => tyX8 | 8 => tyX9 | 9 => tyX10 | _ => tyX11
/-- one cell as its kind says -/
def cOK (B : Bs) (kd : Nat × Nat) (fi : Nat → Int32) (fl : Nat → Int64) (fr : Nat → Option Nat) (a : Nat) (H : Heap) : Prop :=
  (kd.1 < 5 → H[a]? = some (arrV (B.2.2 kd.1) kd.2 (fun j => av kd.1 (fi j) (fl j) (fr j)))) ∧
  (10 ≤ kd.1 → kd.1 < 21 → t_OB a (B.2.1.1 (kd.1 - 10)) (clN (kd.1 - 10)) (B.2.1.2 (kd.1 - 10)) H (fun j => fv (clY (kd.1 - 10) j) (fi j) (fl j) (fr j))) ∧
  (10 ≤ kd.1 → kd.1 < 21 → ∃ cell : Cell, H[a]? = some cell ∧ cell.monitor = {})
def Rep (B : Bs) (σ : Mem) (H : Heap) : Prop := H.size = B.1 + σ.2.1 ∧ ∀ k, k < σ.2.1 → cOK B (σ.1 k) (σ.2.2.1 k) (σ.2.2.2.1 k) (σ.2.2.2.2 k) (B.1 + k) H
theorem cOK.kept {B : Bs} {kd : Nat × Nat} {fi : Nat → Int32} {fl : Nat → Int64} {fr : Nat → Option Nat} {a : Nat} {H H1 : Heap} (h : cOK B kd fi fl fr a H) (hq : H1[a]? = H[a]?) : cOK B kd fi fl fr a H1 :=
  ⟨fun h1 => hq.trans (h.1 h1), fun h1 h2 => (h.2.1 h1 h2).kept hq, fun h1 h2 => by
    obtain ⟨cell, z1, z2⟩ := h.2.2 h1 h2
    exact ⟨cell, hq.trans z1, z2⟩⟩
/-- one cell has changed -/
theorem Rep.store {B : Bs} {σ σ' : Mem} {H H1 : Heap} {k : Nat} (h : Rep B σ H) (z : H1.size = H.size) (oq : ∀ q : Nat, q ≠ B.1 + k → H1[q]? = H[q]?) (hn : σ'.2.1 = σ.2.1)
    (hk : cOK B (σ'.1 k) (σ'.2.2.1 k) (σ'.2.2.2.1 k) (σ'.2.2.2.2 k) (B.1 + k) H1) (ho : ∀ q, q ≠ k → σ'.1 q = σ.1 q ∧ σ'.2.2.1 q = σ.2.2.1 q ∧ σ'.2.2.2.1 q = σ.2.2.2.1 q ∧ σ'.2.2.2.2 q = σ.2.2.2.2 q) : Rep B σ' H1 := by
  refine ⟨by rw [z, hn]; exact h.1, fun q hq => ?_⟩
  by_cases e : q = k
  · subst e; exact hk
  · obtain ⟨e1, e2, e3, e4⟩ := ho q e
    rw [e1, e2, e3, e4]
    rw [hn] at hq
    exact (h.2 q hq).kept (oq _ (by omega))
/-- one cell more -/
theorem Rep.push {B : Bs} {σ : Mem} {H H1 : Heap} {kd : Nat × Nat} (h : Rep B σ H) (z : H1.size = H.size + 1) (o1 : ∀ q : Nat, q < H.size → H1[q]? = H[q]?)
    (hk : cOK B kd (fun _ => 0) (fun _ => 0) (fun _ => none) H.size H1) : Rep B (newK σ kd) H1 := by
  refine ⟨by rw [z, h.1]; show B.1 + σ.2.1 + 1 = B.1 + (σ.2.1 + 1); omega, fun q hq => ?_⟩
  have hq' : q < σ.2.1 + 1 := hq
  by_cases e : q = σ.2.1
  · subst e
    simp only [newK, up1_s]
    rw [← h.1]
    exact hk
  · simp only [newK, up1_n e]
    refine (h.2 q (by omega)).kept (o1 _ (by rw [h.1]; omega))
/-- nest mates' links -/
def nstF : List (String × Nat × String × String × String × String) := [("BagPhrases", 104, "BagPhrases$Setting", "bag", "[I", "BagPhrases"), ("BagPhrases", 119, "BagPhrases$Setting", "barred", "I", "BagPhrases"), ("BagPhrases", 156, "BagPhrases$Setting", "ranks", "[I", "BagPhrases"), ("BagPhrases", 129, "BagPhrases$Setting", "begins", "I", "BagPhrases"), ("BagPhrases", 138, "BagPhrases$Setting", "ends", "I", "BagPhrases"), ("BagPhrases", 132, "BagPhrases$Setting", "follows", "[I", "BagPhrases"), ("BagPhrases", 340, "BagPhrases$Word", "spelt", "[I", "BagPhrases"), ("BagPhrases", 210, "BagPhrases$Word", "length", "I", "BagPhrases"), ("BagPhrases", 135, "BagPhrases$Word", "kind", "I", "BagPhrases"), ("BagPhrases", 112, "BagPhrases$Word", "has", "[I", "BagPhrases"), ("BagPhrases", 396, "BagPhrases$Amiss", "letter", "I", "BagPhrases"), ("BagPhrases", 399, "BagPhrases$Amiss", "many", "I", "BagPhrases")]
def nstM : List (String × Nat × MethodName × String) := [("BagPhrases", 17, ⟨"BagPhrases$Setting", "<init>", "()V"⟩, "BagPhrases"), ("BagPhrases", 96, ⟨"BagPhrases$Word", "<init>", "()V"⟩, "BagPhrases")]
def tysL (B : Bs) : List (ClassId × FieldType) := [(B.2.2 0, .int), (B.2.2 1, .long), (B.2.2 2, .boolean), (B.2.2 3, .object RX2), (B.2.2 4, .object RX1)]
/-- which class is none of another's; which is -/
def ncL : List (String × String) := [("BagPhrases$Unlet", "BagPhrases$Banned"), ("BagPhrases$Wordless", "BagPhrases$Banned"), ("BagPhrases$Wordless", "BagPhrases$Unlet"), ("BagPhrases$Short", "BagPhrases$Banned"), ("BagPhrases$Short", "BagPhrases$Unlet"), ("BagPhrases$Short", "BagPhrases$Wordless"), ("BagPhrases$Over", "BagPhrases$Banned"), ("BagPhrases$Over", "BagPhrases$Unlet"), ("BagPhrases$Over", "BagPhrases$Wordless"), ("BagPhrases$Unended", "BagPhrases$Banned"), ("BagPhrases$Unended", "BagPhrases$Unlet"), ("BagPhrases$Unended", "BagPhrases$Wordless")]
def caL : List (String × String) := [("BagPhrases$Amiss", "BagPhrases$Amiss"), ("BagPhrases$Banned", "BagPhrases$Banned"), ("BagPhrases$Unlet", "BagPhrases$Unlet"), ("BagPhrases$Wordless", "BagPhrases$Wordless"), ("BagPhrases$Banned", "BagPhrases$Misfit"), ("BagPhrases$Unlet", "BagPhrases$Misfit"), ("BagPhrases$Short", "BagPhrases$Misfit"), ("BagPhrases$Wordless", "BagPhrases$Misfit"), ("BagPhrases$Over", "BagPhrases$Misfit"), ("BagPhrases$Unended", "BagPhrases$Misfit")]
/-- what is known of the tables, and of the statics of Throwable, all through -/
def KK (B : Bs) (U : State) : Prop := va_K B.2.1 clL (tysL B) U ∧ (∀ q ∈ nstF, va_Nw (.fieldLinkNest q.1 q.2.1 q.2.2.1 q.2.2.2.1 q.2.2.2.2.1 q.2.2.2.2.2) U) ∧ (∀ q ∈ nstM, va_Nw (.methodLinkNest q.1 q.2.1 q.2.2.1 q.2.2.2) U) ∧ va_AO RX2 U ∧ va_AO RX1 U ∧
  vx_Zq Bundle.tN "UNASSIGNED_STACK" Bundle.steD (fun q => B.1 ≤ q) U U.heap ∧ vx_Zq Bundle.tN "SUPPRESSED_SENTINEL" Bundle.listD (fun q => B.1 ≤ q) U U.heap ∧ (∀ q ∈ ncL, va_Nc q.1 q.2 U) ∧ (∀ q ∈ caL, va_Nw (.castable q.1 q.2) U) ∧ va_Nw (.declares ⟨"BagPhrases$Misfit", "reason", "()I"⟩) U
theorem KK.warm {B : Bs} {s U : State} {H : Heap} {locs : List Loc} (h : KK B s) (hW : s.WarmedH U.vm) (hU : U.heap = H) (hS : va_S (fun q => B.1 ≤ q) s.heap H locs) : KK B U := by
  obtain ⟨h1, h2, h3, h4, h5, h6, h7, h8, h9, h10⟩ := h
  refine ⟨h1.moved hW.alike, fun q hq => va_Nw.warmF hW (h2 q hq), fun q hq => va_Nw.warmM hW (h3 q hq), h4.moved hW.alike, h5.moved hW.alike, ?_, ?_, fun q hq => (h8 q hq).moved hW.alike, fun q hq => va_Nw.warmC hW (h9 q hq), va_Nw.warmD hW h10⟩
  · rw [hU]; exact (h6.moved hW.alike).kept hS.2.1
  · rw [hU]; exact (h7.moved hW.alike).kept hS.2.1
theorem KK.calling {B : Bs} {U : State} (g : JFrame) (mk : MethodId) (a : Array Value) (h : KK B U) : KK B (U.calling g mk a) := by
  obtain ⟨h1, h2, h3, h4, h5, h6, h7, h8, h9, h10⟩ := h
  exact ⟨h1.moved (U := U.calling g mk a) (Vm.Alike.refl U.vm), fun q hq => va_Nw.same (U := U.calling g mk a) rfl rfl (h2 q hq), fun q hq => va_Nw.same (U := U.calling g mk a) rfl rfl (h3 q hq), h4.moved (U := U.calling g mk a) (Vm.Alike.refl U.vm), h5.moved (U := U.calling g mk a) (Vm.Alike.refl U.vm), h6.moved (U := U.calling g mk a) (Vm.Alike.refl U.vm), h7.moved (U := U.calling g mk a) (Vm.Alike.refl U.vm), fun q hq => (h8 q hq).moved (U := U.calling g mk a) (Vm.Alike.refl U.vm), fun q hq => va_Nw.same (U := U.calling g mk a) rfl rfl (h9 q hq), va_Nw.same (U := U.calling g mk a) rfl rfl h10⟩
/-- a place in a method: memory, cells and slots made so far, pc, locals, stack -/
def YY (g : Cx) (L : Nat) (σ : Mem) (cu su pc : Nat) (lv : List (Nat × Value)) (st : List Value) : Prop := match g with
  | (p, l, e, R, s, m, args, below, meth, c, Q, B) => ∀ (H : Heap) (locs : List Loc) (ls : Array Slot), Rep B σ H → va_S (fun q => B.1 ≤ q) s.heap H locs → lv_has ls L lv → W p l e R s m args below meth c H locs cu su Q (F0 m pc ls st)
/-- what holds all through a method of class own, code cc, L locals, depth d, room for mc cells and ms slots -/
def Gd (g : Cx) (l0 : Launch) (B0 : Bs) (own : String) (cc : ByteArray) (L d mc ms : Nat) : Prop := match g with
  | (p, l, _, R, s, m, args, _, meth, c, _, B) => l = l0 ∧ B = B0 ∧ p.tables.exec = Jvm.exec ∧ c.code = cc ∧ c.maxLocals = L ∧ s.vm.findClass own = some m.cls ∧ (∀ w ∈ lw_all, w.before args s = true) ∧ KK B s ∧ d ≤ R.frames ∧ 64 * d ≤ R.locals ∧ mc ≤ R.cells ∧ ms ≤ R.slots ∧ meth.locks = false ∧ B.1 ≤ s.heap.size
def RM (d mc ms : Nat) : Room := { frames := d, cells := mc, slots := ms, locals := 64 * d }
def PCx (B : Bs) (av : List Value) (σ : Mem) : Array Value → State → Prop := va_Pc av (fun U => Rep B σ U.heap ∧ KK B U)
def QCx (B : Bs) (post : Option Value → Mem → Prop) : Array Value → State → Outcome → State → Prop := fun _ st o t => (∃ (v : Option Value) (σ' : Mem), o = .returned v ∧ post v σ' ∧ Rep B σ' t.heap) ∧ va_F (fun q => B.1 ≤ q) st t
/-- how a method ends -/
def Gr (g : Cx) (nm : String) (ret : Option FieldType) (mc ms : Nat) (post : Option Value → Mem → Prop) : Prop := match g with
  | (_, _, _, _, s, _, args, below, meth, _, Q, B) => meth.name = nm ∧ meth.sig.returnType = ret ∧ Q = MQ below (QCx B post) args s mc ms (fun q => B.1 ≤ q)
/-- a contract -/
def MT (l : Launch) (B : Bs) (d mc ms : Nat) (y : MethodName) (code : ByteArray) (L : Nat) (ret : Option FieldType) (av : List Value) (σ : Mem) (post : Option Value → Mem → Prop) : Prop :=
  Met l y (ws_ y code L ret) (RM d mc ms) (PCx B av σ) (QCx B post) mc ms (fun q => B.1 ≤ q)
theorem PCx.blind {B : Bs} {av : List Value} {σ : Mem} : FrameBlind (PCx B av σ) := fun a _ g mk h => ⟨h.1, h.2.1, h.2.2.calling g mk a⟩
theorem Rep.base {B : Bs} {σ : Mem} {H : Heap} (h : Rep B σ H) : B.1 ≤ H.size := by rw [h.1]; omega
/-- the start of a contract -/
theorem MT.of {l : Launch} {B : Bs} {d mc ms : Nat} {y : MethodName} {code : ByteArray} {L : Nat} {ret : Option FieldType} {av : List Value} {σ : Mem} {post : Option Value → Mem → Prop} (hy : plainName y.cls = true) (hL : (lg_sl av).length ≤ L)
    (body : ∀ g : Cx, Gd g l B y.cls code L d mc ms → Gr g y.name ret mc ms post → YY g L σ 0 0 0 (lv_args 0 av) []) : MT l B d mc ms y code L ret av σ post := by
  refine Met.ofW (cc := code) (maxL := L) (ret := ret) hy rfl ?_
  intro p e s m args below meth c s₁ Bd hml hv
  obtain ⟨rfl, hR, hK⟩ := hv
  have hts := atoms_spec (ws := ws_ y code L ret) Bd.pre
  have hts : ∀ w ∈ lw_all, w.before _ s = true := fun w h => hts w (List.mem_cons_of_mem _ h)
  have hown : s.vm.findClass y.cls = some m.cls := findClass_of_methodNamed Bd.named
  have hnm : meth.name = y.name := (name_of_methodNamed Bd.named Bd.method).1
  have hl := lv_entry av (n := L) hL
  rw [lg_entry_eq]
  exact body (p, l, e, RM d mc ms, s, m, av.toArray, below, meth, c, MQ below (QCx B post) av.toArray s mc ms (fun q => B.1 ≤ q), B)
    ⟨rfl, rfl, Bd.exec, Bd.bytes, hml, hown, hts, hK, Nat.le_refl _, Nat.le_refl _, Nat.le_refl _, Nat.le_refl _, Bd.notSynchronized, hR.base⟩ ⟨hnm, Bd.returns, rfl⟩ s.heap [] _ hR va_S.rf hl
/-- what is called ends in fewer cells than it may -/
theorem MT.imp {l : Launch} {B : Bs} {d mc ms : Nat} {y : MethodName} {code : ByteArray} {L : Nat} {ret : Option FieldType} {av : List Value} {σ : Mem} {post post' : Option Value → Mem → Prop} (h : MT l B d mc ms y code L ret av σ post) (hp : ∀ v σ', post v σ' → post' v σ') : MT l B d mc ms y code L ret av σ post' := by
  intro p e ha hc hk s m args below hf hf2 hP hK
  obtain ⟨k, o, h1, h2, h3, ⟨⟨v, σ', e1, e2, e3⟩, e4⟩, h5⟩ := h p e ha hc hk s m args below hf hf2 hP hK
  exact ⟨k, o, h1, h2, h3, ⟨⟨v, σ', e1, hp v σ' e2, e3⟩, e4⟩, h5⟩
