/-! ===== folds and loops ===== -/
/-- up: f 0, f 1, .. -/
def fo {α : Type} (f : Nat → α → α) (a : α) : Nat → α
  | 0 => a
  | n + 1 => f n (fo f a n)
/-- down: f (n-1), .., f 0 -/
def fd {α : Type} (f : Nat → α → α) : Nat → α → α
  | 0, a => a
  | n + 1, a => fd f n (f n a)
theorem fo_congr {α : Type} {f g : Nat → α → α} {a : α} : ∀ (n : Nat), (∀ i x, i < n → f i x = g i x) → fo f a n = fo g a n
  | 0, _ => rfl
  | n + 1, h => by
    show f n (fo f a n) = g n (fo g a n)
    rw [fo_congr n (fun i x hi => h i x (Nat.lt_succ_of_lt hi)), h n _ (Nat.lt_succ_self n)]
theorem fd_congr {α : Type} {f g : Nat → α → α} : ∀ (n : Nat) (a : α), (∀ i x, i < n → f i x = g i x) → fd f n a = fd g n a
  | 0, _, _ => rfl
  | n + 1, a, h => by
    show fd f n (f n a) = fd g n (g n a)
    rw [h n _ (Nat.lt_succ_self n), fd_congr n _ (fun i x hi => h i x (Nat.lt_succ_of_lt hi))]
/-- an invariant of a fold -/
theorem fo_inv {α : Type} {f : Nat → α → α} {a : α} {I : Nat → α → Prop} (n : Nat) (h0 : I 0 a) (hs : ∀ i x, i < n → I i x → I (i + 1) (f i x)) : I n (fo f a n) := by
  induction n with
  | zero => exact h0
  | succ n ih => exact hs n _ (Nat.lt_succ_self n) (ih (fun i x hi => hs i x (Nat.lt_succ_of_lt hi)))
theorem loop_up {G : Nat → Prop} (n : Nat) (hs : ∀ i, i < n → G (i + 1) → G i) (hx : G n) : ∀ i, i ≤ n → G i := by
  intro i hi
  obtain ⟨m, hm⟩ : ∃ m, i + m = n := ⟨n - i, by omega⟩
  induction m generalizing i with
  | zero => have : i = n := by omega
            subst this; exact hx
  | succ m ih => exact hs i (by omega) (ih (i + 1) (by omega) (by omega))
theorem loop_st {S : Type} {G : Nat → S → Prop} {I : Nat → S → Prop} (n : Nat) (hs : ∀ i s, i < n → I i s → (∀ s', I (i + 1) s' → G (i + 1) s') → G i s) (hx : ∀ s, I n s → G n s) : ∀ i s, i ≤ n → I i s → G i s := by
  intro i s hi
  obtain ⟨m, hm⟩ : ∃ m, i + m = n := ⟨n - i, by omega⟩
  induction m generalizing i s with
  | zero => have : i = n := by omega
            subst this; exact hx s
  | succ m ih => exact fun h => hs i s (by omega) h (fun s' h' => ih (i + 1) s' (by omega) (by omega) h')
theorem loop_dn {G : Nat → Prop} (hs : ∀ i, G i → G (i + 1)) (hx : G 0) : ∀ i, G i := by
  intro i
  induction i with
  | zero => exact hx
  | succ i ih => exact hs i ih
theorem loop_dst {S : Type} {G : Nat → S → Prop} {I : Nat → S → Prop} (hs : ∀ i s, I (i + 1) s → (∀ s', I i s' → G i s') → G (i + 1) s) (hx : ∀ s, I 0 s → G 0 s) : ∀ i s, I i s → G i s := by
  intro i
  induction i with
  | zero => exact hx
  | succ i ih => exact fun s h => hs i s h (fun s' h' => ih s' h')
/-- comparisons of a counter with a bound -/
theorem ge_c {i n : Nat} (h : i < n) (hn : n < 2147483648) : ¬ nI n ≤ nI i := nI_ge h hn
theorem le_c {i n : Nat} (h : n ≤ i) (hn : i < 2147483648) : nI n ≤ nI i := nI_le h hn
theorem nI_b {i n : Nat} (hi : i < 2147483648) (hn : n < 2147483648) : (nI n ≤ nI i) = (n ≤ i) := propext (nI_leI hn hi)
theorem nI0 : (0 : Int32) = nI 0 := rfl
theorem nI_inj {a b : Nat} (ha : a < 2147483648) (hb : b < 2147483648) (h : nI a = nI b) : a = b := (nI_eq ha hb).mp h
/-- the start of a contract of a method of the JDK's own -/
theorem MT.ofF {l : Launch} {B : Bs} {d mc ms : Nat} {y : MethodName} {code : ByteArray} {L : Nat} {ret : Option FieldType} {av : List Value} {σ : Mem} {post : Option Value → Mem → Prop} (hy : plainFor y = true) (hL : (lg_sl av).length ≤ L)
    (body : ∀ g : Cx, Gd g l B y.cls code L d mc ms → Gr g y.name ret mc ms post → YY g L σ 0 0 0 (lv_args 0 av) []) : MT l B d mc ms y code L ret av σ post := by
  unfold MT Met
  refine MetFree.of_bodySF (code := code) (maxLocals := L) (ret := ret) hy ?_ ?_
  · intro args s m h hn
    obtain ⟨meth, c, h1, h2, h3, h4, h5, h6, -, -⟩ := Cond.code_spec hn (atoms_spec (ws := ws_ y code L ret) h _ List.mem_cons_self)
    exact ⟨meth, c, h1, h2, h3, h4, h5, h6⟩
  · intro p e s m args below meth c s₁ Bd hml hv _
    obtain ⟨rfl, hR, hK⟩ := hv
    have hts := atoms_spec (ws := ws_ y code L ret) Bd.pre
    have hts : ∀ w ∈ lw_all, w.before _ s = true := fun w h => hts w (List.mem_cons_of_mem _ h)
    have hown : s.vm.findClass y.cls = some m.cls := findClass_of_methodNamed Bd.named
    have hnm : meth.name = y.name := (name_of_methodNamed Bd.named Bd.method).1
    have hl := lv_entry av (n := L) hL
    have hh0 : s₁.heap = s.heap := by rw [Bd.state]; rfl
    have K := body (p, l, e, RM d mc ms, s, m, av.toArray, below, meth, c, MQ below (QCx B post) av.toArray s mc ms (fun q => B.1 ≤ q), B)
      ⟨rfl, rfl, Bd.exec, Bd.bytes, hml, hown, hts, hK, Nat.le_refl _, Nat.le_refl _, Nat.le_refl _, Nat.le_refl _, Bd.notSynchronized, hR.base⟩ ⟨hnm, Bd.returns, rfl⟩ s.heap [] _ hR va_S.rf hl
    rw [← lg_entry_eq] at K
    obtain ⟨t, a1, o, b1, b2, b3⟩ := K s₁ hh0 (Stand.of_body Bd)
    exact ⟨t, o, a1, b1, b2, ⟨b3.1, b3.2⟩⟩
theorem gI_s {σ : Mem} {k j : Nat} {v : Int32} : (setI σ k j v).2.2.1 k j = v := up2_s
theorem gI_n {σ : Mem} {k j a b : Nat} {v : Int32} (h : ¬ (a = k ∧ b = j)) : (setI σ k j v).2.2.1 a b = σ.2.2.1 a b := up2_n h
theorem gL_s {σ : Mem} {k j : Nat} {v : Int64} : (setL σ k j v).2.2.2.1 k j = v := up2_s
theorem gL_n {σ : Mem} {k j a b : Nat} {v : Int64} (h : ¬ (a = k ∧ b = j)) : (setL σ k j v).2.2.2.1 a b = σ.2.2.2.1 a b := up2_n h
theorem gIL {σ : Mem} {k j : Nat} {v : Int32} {a b : Nat} : (setI σ k j v).2.2.2.1 a b = σ.2.2.2.1 a b := rfl
theorem gLI {σ : Mem} {k j : Nat} {v : Int64} {a b : Nat} : (setL σ k j v).2.2.1 a b = σ.2.2.1 a b := rfl
theorem gRI {σ : Mem} {k j : Nat} {v : Option Nat} {a b : Nat} : (setR σ k j v).2.2.1 a b = σ.2.2.1 a b := rfl
/-- the frame of what moves no reference -/
def FrR (P : Nat → Nat → Prop) (σ σ' : Mem) : Prop := Fr P σ σ' ∧ σ'.2.2.2.2 = σ.2.2.2.2
theorem FrR.rf {P : Nat → Nat → Prop} {σ : Mem} : FrR P σ σ := ⟨Fr.rf, rfl⟩
theorem FrR.tr {P : Nat → Nat → Prop} {σ σ' σ'' : Mem} (h : FrR P σ σ') (h2 : FrR P σ' σ'') : FrR P σ σ'' := ⟨h.1.tr h2.1, h2.2.trans h.2⟩
theorem FrR.mono {P P' : Nat → Nat → Prop} {σ σ' : Mem} (h : FrR P σ σ') (hp : ∀ k j, P k j → P' k j) : FrR P' σ σ' := ⟨h.1.mono hp, h.2⟩
theorem FrR.stI {P : Nat → Nat → Prop} {σ σ' : Mem} {k j : Nat} {v : Int32} (h : FrR P σ σ') (hp : P k j) : FrR P σ (setI σ' k j v) := ⟨h.1.stI hp, h.2⟩
theorem FrR.stL {P : Nat → Nat → Prop} {σ σ' : Mem} {k j : Nat} {v : Int64} (h : FrR P σ σ') (hp : P k j) : FrR P σ (setL σ' k j v) := ⟨h.1.stL hp, h.2⟩
theorem FrR.stRow {P : Nat → Nat → Prop} {σ σ' : Mem} {k : Nat} {f : Nat → Int32} (h : FrR P σ σ') (hp : ∀ j, ¬ P k j → f j = σ'.2.2.1 k j) : FrR P σ (rowI σ' k f) := ⟨h.1.stRow hp, h.2⟩
theorem FrR.i {P : Nat → Nat → Prop} {σ σ' : Mem} (h : FrR P σ σ') {k j : Nat} (hk : k < σ.2.1) (hn : ¬ P k j) : σ'.2.2.1 k j = σ.2.2.1 k j := h.1.i hk hn
theorem FrR.l {P : Nat → Nat → Prop} {σ σ' : Mem} (h : FrR P σ σ') {k j : Nat} (hk : k < σ.2.1) (hn : ¬ P k j) : σ'.2.2.2.1 k j = σ.2.2.2.1 k j := h.1.l hk hn
