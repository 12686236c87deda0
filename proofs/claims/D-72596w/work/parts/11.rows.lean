/-! ===== rows ===== -/
def lgt : List (Nat × Value) → Nat → Option Value
  | [], _ => none
  | q :: r, i => bif Nat.beq q.1 i then some q.2 else lgt r i
theorem lgt_mem : ∀ (l : List (Nat × Value)) (i : Nat) (v : Value), lgt l i = some v → (i, v) ∈ l
  | [], _, _, h => by simp [lgt] at h
  | q :: r, i, v, h => by
    unfold lgt at h
    cases hb : Nat.beq q.1 i with
    | true =>
      rw [hb] at h
      have e := Nat.eq_of_beq_eq_true hb
      have h2 : q.2 = v := Option.some.inj h
      rw [← e, ← h2]
      exact List.mem_cons_self
    | false =>
      rw [hb] at h
      exact List.mem_cons_of_mem _ (lgt_mem r i v h)
theorem lgt_at {ls : Array Slot} {nL : Nat} {l : List (Nat × Value)} (h : lv_has ls nL l) {i : Nat} {v : Value} (hk : lgt l i = some v) : ls[i]? = some (.val v) := h.2.2 (i, v) (lgt_mem l i v hk)
def lins (i : Nat) (v : Value) : List (Nat × Value) → List (Nat × Value)
  | [] => [(i, v)]
  | q :: r => bif Nat.blt q.1 i then q :: lins i v r else (i, v) :: q :: r
theorem lins_mem (i : Nat) (v : Value) : ∀ (l : List (Nat × Value)) (q : Nat × Value), q ∈ lins i v l → q ∈ (i, v) :: l
  | [], q, h => h
  | p :: r, q, h => by
    unfold lins at h
    cases hb : Nat.blt p.1 i with
    | true =>
      rw [hb] at h
      rcases List.mem_cons.mp h with e | e
      · rw [e]; exact List.mem_cons_of_mem _ List.mem_cons_self
      · rcases List.mem_cons.mp (lins_mem i v r q e) with e2 | e2
        · rw [e2]; exact List.mem_cons_self
        · exact List.mem_cons_of_mem _ (List.mem_cons_of_mem _ e2)
    | false => rw [hb] at h; exact h
def lcl (i : Nat) : List (Nat × Value) → List (Nat × Value)
  | [] => []
  | q :: r => bif (Nat.beq q.1 i || (Nat.beq (q.1 + 1) i && Nat.beq q.2.category 2)) then lcl i r else q :: lcl i r
theorem lcl_mem (i : Nat) : ∀ (l : List (Nat × Value)) (q : Nat × Value), q ∈ lcl i l → q ∈ l.filter (fun q => !(q.1 == i) && !(q.1 + 1 == i && q.2.category == 2))
  | [], q, h => by simp [lcl] at h
  | p :: r, q, h => by
    unfold lcl at h
    cases hb : (Nat.beq p.1 i || (Nat.beq (p.1 + 1) i && Nat.beq p.2.category 2)) with
    | true =>
      rw [hb] at h
      exact List.mem_filter.mpr ⟨List.mem_cons_of_mem _ (List.mem_filter.mp (lcl_mem i r q h)).1, (List.mem_filter.mp (lcl_mem i r q h)).2⟩
    | false =>
      rw [hb] at h
      rcases List.mem_cons.mp h with e | e
      · rw [e]
        refine List.mem_filter.mpr ⟨List.mem_cons_self, ?_⟩
        have h1 : ∀ a b : Nat, (a == b) = Nat.beq a b := fun a b => by rw [Bool.eq_iff_iff, beq_iff_eq, Nat.beq_eq]
        rw [h1, h1, h1]
        cases h2 : Nat.beq p.1 i <;> cases h3 : Nat.beq (p.1 + 1) i <;> cases h4 : Nat.beq p.2.category 2 <;> simp_all
      · exact List.mem_filter.mpr ⟨List.mem_cons_of_mem _ (List.mem_filter.mp (lcl_mem i r q e)).1, (List.mem_filter.mp (lcl_mem i r q e)).2⟩
def lst (l : List (Nat × Value)) (i : Nat) (v : Value) : List (Nat × Value) := lins i v (lcl i l)
def lcl2 (i : Nat) : List (Nat × Value) → List (Nat × Value)
  | [] => []
  | q :: r => bif (Nat.beq q.1 i || (Nat.beq q.1 (i + 1) || (Nat.beq (q.1 + 1) i && Nat.beq q.2.category 2))) then lcl2 i r else q :: lcl2 i r
theorem lcl2_mem (i : Nat) : ∀ (l : List (Nat × Value)) (q : Nat × Value), q ∈ lcl2 i l → q ∈ l.filter (fun q => !(q.1 == i) && (!(q.1 == i + 1) && !(q.1 + 1 == i && q.2.category == 2)))
  | [], q, h => by simp [lcl2] at h
  | p :: r, q, h => by
    unfold lcl2 at h
    cases hb : (Nat.beq p.1 i || (Nat.beq p.1 (i + 1) || (Nat.beq (p.1 + 1) i && Nat.beq p.2.category 2))) with
    | true =>
      rw [hb] at h
      exact List.mem_filter.mpr ⟨List.mem_cons_of_mem _ (List.mem_filter.mp (lcl2_mem i r q h)).1, (List.mem_filter.mp (lcl2_mem i r q h)).2⟩
    | false =>
      rw [hb] at h
      rcases List.mem_cons.mp h with e | e
      · rw [e]
        refine List.mem_filter.mpr ⟨List.mem_cons_self, ?_⟩
        have h1 : ∀ a b : Nat, (a == b) = Nat.beq a b := fun a b => by rw [Bool.eq_iff_iff, beq_iff_eq, Nat.beq_eq]
        rw [h1, h1, h1, h1]
        cases h2 : Nat.beq p.1 i <;> cases h5 : Nat.beq p.1 (i + 1) <;> cases h3 : Nat.beq (p.1 + 1) i <;> cases h4 : Nat.beq p.2.category 2 <;> simp_all
      · exact List.mem_filter.mpr ⟨List.mem_cons_of_mem _ (List.mem_filter.mp (lcl2_mem i r q e)).1, (List.mem_filter.mp (lcl2_mem i r q e)).2⟩
def lst2 (l : List (Nat × Value)) (i : Nat) (v : Value) : List (Nat × Value) := lins i v (lcl2 i l)
theorem lst_has {ls : Array Slot} {nL i : Nat} {l : List (Nat × Value)} {v : Value} (h : lv_has ls nL ((i, v) :: l.filter (fun q => !(q.1 == i) && !(q.1 + 1 == i && q.2.category == 2)))) : lv_has ls nL (lst l i v) :=
  ⟨h.1, h.2.1, fun q hq => h.2.2 q (by
    rcases List.mem_cons.mp (lins_mem i v _ q hq) with e | e
    · rw [e]; exact List.mem_cons_self
    · exact List.mem_cons_of_mem _ (lcl_mem i l q e))⟩
theorem lst2_has {ls : Array Slot} {nL i : Nat} {l : List (Nat × Value)} {v : Value} (h : lv_has ls nL ((i, v) :: l.filter (fun q => !(q.1 == i) && (!(q.1 == i + 1) && !(q.1 + 1 == i && q.2.category == 2))))) : lv_has ls nL (lst2 l i v) :=
  ⟨h.1, h.2.1, fun q hq => h.2.2 q (by
    rcases List.mem_cons.mp (lins_mem i v _ q hq) with e | e
    · rw [e]; exact List.mem_cons_self
    · exact List.mem_cons_of_mem _ (lcl2_mem i l q e))⟩
section Rows
variable {g : Cx} {l0 : Launch} {B : Bs} {own : String} {cc : ByteArray} {L d mc ms cu su pc : Nat} {σ : Mem} {lv : List (Nat × Value)} {st : List Value}
/-- fewer locals -/
theorem y_sub (ks : List Nat) {lv' : List (Nat × Value)} (hl : lv_pick lv ks = lv') (k : YY g L σ cu su pc lv' st) : YY g L σ cu su pc lv st := by
  obtain ⟨p, l, e, R, s, m, args, below, meth, c, Q, B'⟩ := g
  intro H locs ls hR hS hv
  exact k H locs ls hR hS (lv_sub hv ks hl)
theorem y_eq {σ' : Mem} {lv' : List (Nat × Value)} {st' : List Value} (h1 : σ = σ') (h2 : lv = lv') (h3 : st = st') (k : YY g L σ' cu su pc lv' st') : YY g L σ cu su pc lv st := by
  subst h1; subst h2; subst h3; exact k
theorem y_wid {cu' su' : Nat} (h1 : cu ≤ cu') (h2 : su ≤ su') (k : YY g L σ cu' su' pc lv st) : YY g L σ cu su pc lv st := by
  obtain ⟨p, l, e, R, s, m, args, below, meth, c, Q, B'⟩ := g
  intro H locs ls hR hS hv
  exact W.widen h1 h2 (k H locs ls hR hS hv)

theorem y_iconst (hg : Gd g l0 B own cc L d mc ms) {n : Int} {v : Int32} (hd : decode cc pc = .ok (.iconst n, 1)) (hv0 : Int32.ofInt n = v) (k : YY g L σ cu su (pc + 1) lv (.int v :: st)) : YY g L σ cu su pc lv st := by
  obtain ⟨p, l, e, R, s, m, args, below, meth, c, Q, B'⟩ := g
  obtain ⟨rfl, rfl, hx, hb, hml, hown, hts, hK, hfr, hlo, hce, hsl, hlk, hba⟩ := hg
  intro H locs ls hR hS hv
  exact lv_iconst hx hb hd hv0 (k H locs ls hR hS hv)
theorem y_bipush (hg : Gd g l0 B own cc L d mc ms) {n : Int} {v : Int32} (hd : decode cc pc = .ok (.bipush n, 2)) (hv0 : (Int8.ofInt n).toInt32 = v) (k : YY g L σ cu su (pc + 2) lv (.int v :: st)) : YY g L σ cu su pc lv st := by
  obtain ⟨p, l, e, R, s, m, args, below, meth, c, Q, B'⟩ := g
  obtain ⟨rfl, rfl, hx, hb, hml, hown, hts, hK, hfr, hlo, hce, hsl, hlk, hba⟩ := hg
  intro H locs ls hR hS hv
  exact lv_bipush hx hb hd hv0 (k H locs ls hR hS hv)
theorem y_sipush (hg : Gd g l0 B own cc L d mc ms) {n : Int} {v : Int32} (hd : decode cc pc = .ok (.sipush n, 3)) (hv0 : (Int16.ofInt n).toInt32 = v) (k : YY g L σ cu su (pc + 3) lv (.int v :: st)) : YY g L σ cu su pc lv st := by
  obtain ⟨p, l, e, R, s, m, args, below, meth, c, Q, B'⟩ := g
  obtain ⟨rfl, rfl, hx, hb, hml, hown, hts, hK, hfr, hlo, hce, hsl, hlk, hba⟩ := hg
  intro H locs ls hR hS hv
  exact lv_sipush hx hb hd hv0 (k H locs ls hR hS hv)
theorem y_lconst (hg : Gd g l0 B own cc L d mc ms) {n : Fin 2} {v : Int64} (hd : decode cc pc = .ok (.lconst n, 1)) (hv0 : Int64.ofNat (n : Nat) = v) (k : YY g L σ cu su (pc + 1) lv (.long v :: st)) : YY g L σ cu su pc lv st := by
  obtain ⟨p, l, e, R, s, m, args, below, meth, c, Q, B'⟩ := g
  obtain ⟨rfl, rfl, hx, hb, hml, hown, hts, hK, hfr, hlo, hce, hsl, hlk, hba⟩ := hg
  intro H locs ls hR hS hv
  exact lv_lconst hx hb hd hv0 (k H locs ls hR hS hv)
theorem y_null (hg : Gd g l0 B own cc L d mc ms)  (hd : decode cc pc = .ok (.aconst_null, 1)) (k : YY g L σ cu su (pc + 1) lv (.null :: st)) : YY g L σ cu su pc lv st := by
  obtain ⟨p, l, e, R, s, m, args, below, meth, c, Q, B'⟩ := g
  obtain ⟨rfl, rfl, hx, hb, hml, hown, hts, hK, hfr, hlo, hce, hsl, hlk, hba⟩ := hg
  intro H locs ls hR hS hv
  exact lv_null hx hb hd (k H locs ls hR hS hv)
theorem y_iload_n (hg : Gd g l0 B own cc L d mc ms) {q : Fin 4} {x : Int32} (hd : decode cc pc = .ok (.iload_n q, 1)) (hl : lgt lv (q : Nat) = some (.int x)) (k : YY g L σ cu su (pc + 1) lv (.int x :: st)) : YY g L σ cu su pc lv st := by
  obtain ⟨p, l, e, R, s, m, args, below, meth, c, Q, B'⟩ := g
  obtain ⟨rfl, rfl, hx, hb, hml, hown, hts, hK, hfr, hlo, hce, hsl, hlk, hba⟩ := hg
  intro H locs ls hR hS hv
  exact lv_iload_n hx hb hd rfl (lgt_at hv hl) (k H locs ls hR hS hv)
theorem y_iload (hg : Gd g l0 B own cc L d mc ms) {i : Nat} {x : Int32} (hd : decode cc pc = .ok (.iload i, 2)) (hl : lgt lv i = some (.int x)) (k : YY g L σ cu su (pc + 2) lv (.int x :: st)) : YY g L σ cu su pc lv st := by
  obtain ⟨p, l, e, R, s, m, args, below, meth, c, Q, B'⟩ := g
  obtain ⟨rfl, rfl, hx, hb, hml, hown, hts, hK, hfr, hlo, hce, hsl, hlk, hba⟩ := hg
  intro H locs ls hR hS hv
  exact lv_iload hx hb hd (lgt_at hv hl) (k H locs ls hR hS hv)
theorem y_lload_n (hg : Gd g l0 B own cc L d mc ms) {q : Fin 4} {x : Int64} (hd : decode cc pc = .ok (.lload_n q, 1)) (hl : lgt lv (q : Nat) = some (.long x)) (k : YY g L σ cu su (pc + 1) lv (.long x :: st)) : YY g L σ cu su pc lv st := by
  obtain ⟨p, l, e, R, s, m, args, below, meth, c, Q, B'⟩ := g
  obtain ⟨rfl, rfl, hx, hb, hml, hown, hts, hK, hfr, hlo, hce, hsl, hlk, hba⟩ := hg
  intro H locs ls hR hS hv
  exact lv_lload_n hx hb hd rfl (lgt_at hv hl) (k H locs ls hR hS hv)
theorem y_lload (hg : Gd g l0 B own cc L d mc ms) {i : Nat} {x : Int64} (hd : decode cc pc = .ok (.lload i, 2)) (hl : lgt lv i = some (.long x)) (k : YY g L σ cu su (pc + 2) lv (.long x :: st)) : YY g L σ cu su pc lv st := by
  obtain ⟨p, l, e, R, s, m, args, below, meth, c, Q, B'⟩ := g
  obtain ⟨rfl, rfl, hx, hb, hml, hown, hts, hK, hfr, hlo, hce, hsl, hlk, hba⟩ := hg
  intro H locs ls hR hS hv
  exact lv_lload hx hb hd (lgt_at hv hl) (k H locs ls hR hS hv)
theorem y_aload_n (hg : Gd g l0 B own cc L d mc ms) {q : Fin 4} {x : Nat} (hd : decode cc pc = .ok (.aload_n q, 1)) (hl : lgt lv (q : Nat) = some (.ref x)) (k : YY g L σ cu su (pc + 1) lv (.ref x :: st)) : YY g L σ cu su pc lv st := by
  obtain ⟨p, l, e, R, s, m, args, below, meth, c, Q, B'⟩ := g
  obtain ⟨rfl, rfl, hx, hb, hml, hown, hts, hK, hfr, hlo, hce, hsl, hlk, hba⟩ := hg
  intro H locs ls hR hS hv
  exact lv_aload_n hx hb hd rfl (lgt_at hv hl) (k H locs ls hR hS hv)
theorem y_aload (hg : Gd g l0 B own cc L d mc ms) {i : Nat} {x : Nat} (hd : decode cc pc = .ok (.aload i, 2)) (hl : lgt lv i = some (.ref x)) (k : YY g L σ cu su (pc + 2) lv (.ref x :: st)) : YY g L σ cu su pc lv st := by
  obtain ⟨p, l, e, R, s, m, args, below, meth, c, Q, B'⟩ := g
  obtain ⟨rfl, rfl, hx, hb, hml, hown, hts, hK, hfr, hlo, hce, hsl, hlk, hba⟩ := hg
  intro H locs ls hR hS hv
  exact lv_aload hx hb hd (lgt_at hv hl) (k H locs ls hR hS hv)
theorem y_istore_n (hg : Gd g l0 B own cc L d mc ms) {q : Fin 4} {x : Int32} {lv1 : List (Nat × Value)} (hd : decode cc pc = .ok (.istore_n q, 1)) (hn : (q : Nat) < L) (hl : lst lv (q : Nat) (Value.int x) = lv1) (k : YY g L σ cu su (pc + 1) lv1 st) : YY g L σ cu su pc lv ((Value.int x) :: st) := by
  obtain ⟨p, l, e, R, s, m, args, below, meth, c, Q, B'⟩ := g
  obtain ⟨rfl, rfl, hx, hb, hml, hown, hts, hK, hfr, hlo, hce, hsl, hlk, hba⟩ := hg
  intro H locs ls hR hS hv
  subst hl
  exact lv_istore_n hx hb hd rfl hv hn rfl (fun ls1 hv1 => k H locs ls1 hR hS (lst_has hv1))
theorem y_istore (hg : Gd g l0 B own cc L d mc ms) {i : Nat} {x : Int32} {lv1 : List (Nat × Value)} (hd : decode cc pc = .ok (.istore i, 2)) (hn : i < L) (hl : lst lv i (Value.int x) = lv1) (k : YY g L σ cu su (pc + 2) lv1 st) : YY g L σ cu su pc lv ((Value.int x) :: st) := by
  obtain ⟨p, l, e, R, s, m, args, below, meth, c, Q, B'⟩ := g
  obtain ⟨rfl, rfl, hx, hb, hml, hown, hts, hK, hfr, hlo, hce, hsl, hlk, hba⟩ := hg
  intro H locs ls hR hS hv
  subst hl
  exact lv_istore hx hb hd hv hn rfl (fun ls1 hv1 => k H locs ls1 hR hS (lst_has hv1))
theorem y_astore_n (hg : Gd g l0 B own cc L d mc ms) {q : Fin 4} {x : Nat} {lv1 : List (Nat × Value)} (hd : decode cc pc = .ok (.astore_n q, 1)) (hn : (q : Nat) < L) (hl : lst lv (q : Nat) (Value.ref x) = lv1) (k : YY g L σ cu su (pc + 1) lv1 st) : YY g L σ cu su pc lv ((Value.ref x) :: st) := by
  obtain ⟨p, l, e, R, s, m, args, below, meth, c, Q, B'⟩ := g
  obtain ⟨rfl, rfl, hx, hb, hml, hown, hts, hK, hfr, hlo, hce, hsl, hlk, hba⟩ := hg
  intro H locs ls hR hS hv
  subst hl
  exact lv_astore_n hx hb hd rfl hv hn rfl (fun ls1 hv1 => k H locs ls1 hR hS (lst_has hv1))
theorem y_astore (hg : Gd g l0 B own cc L d mc ms) {i : Nat} {x : Nat} {lv1 : List (Nat × Value)} (hd : decode cc pc = .ok (.astore i, 2)) (hn : i < L) (hl : lst lv i (Value.ref x) = lv1) (k : YY g L σ cu su (pc + 2) lv1 st) : YY g L σ cu su pc lv ((Value.ref x) :: st) := by
  obtain ⟨p, l, e, R, s, m, args, below, meth, c, Q, B'⟩ := g
  obtain ⟨rfl, rfl, hx, hb, hml, hown, hts, hK, hfr, hlo, hce, hsl, hlk, hba⟩ := hg
  intro H locs ls hR hS hv
  subst hl
  exact lv_astore hx hb hd hv hn rfl (fun ls1 hv1 => k H locs ls1 hR hS (lst_has hv1))
theorem y_lstore_n (hg : Gd g l0 B own cc L d mc ms) {q : Fin 4} {x : Int64} {lv1 : List (Nat × Value)} (hd : decode cc pc = .ok (.lstore_n q, 1)) (hn : (q : Nat) + 1 < L) (hl : lst2 lv (q : Nat) (Value.long x) = lv1) (k : YY g L σ cu su (pc + 1) lv1 st) : YY g L σ cu su pc lv ((Value.long x) :: st) := by
  obtain ⟨p, l, e, R, s, m, args, below, meth, c, Q, B'⟩ := g
  obtain ⟨rfl, rfl, hx, hb, hml, hown, hts, hK, hfr, hlo, hce, hsl, hlk, hba⟩ := hg
  intro H locs ls hR hS hv
  subst hl
  exact lv_lstore_n hx hb hd rfl hv hn rfl (fun ls1 hv1 => k H locs ls1 hR hS (lst2_has hv1))
theorem y_lstore (hg : Gd g l0 B own cc L d mc ms) {i : Nat} {x : Int64} {lv1 : List (Nat × Value)} (hd : decode cc pc = .ok (.lstore i, 2)) (hn : i + 1 < L) (hl : lst2 lv i (Value.long x) = lv1) (k : YY g L σ cu su (pc + 2) lv1 st) : YY g L σ cu su pc lv ((Value.long x) :: st) := by
  obtain ⟨p, l, e, R, s, m, args, below, meth, c, Q, B'⟩ := g
  obtain ⟨rfl, rfl, hx, hb, hml, hown, hts, hK, hfr, hlo, hce, hsl, hlk, hba⟩ := hg
  intro H locs ls hR hS hv
  subst hl
  exact lv_lstore hx hb hd hv hn rfl (fun ls1 hv1 => k H locs ls1 hR hS (lst2_has hv1))
theorem y_iinc (hg : Gd g l0 B own cc L d mc ms) {i : Nat} {n : Int} {x v : Int32} {lv1 : List (Nat × Value)} (hd : decode cc pc = .ok (.iinc i n, 3)) (hx0 : lgt lv i = some (.int x)) (hv0 : x + Int32.ofInt n = v) (hn : i < L) (hl : lst lv i (.int v) = lv1) (k : YY g L σ cu su (pc + 3) lv1 st) : YY g L σ cu su pc lv st := by
  obtain ⟨p, l, e, R, s, m, args, below, meth, c, Q, B'⟩ := g
  obtain ⟨rfl, rfl, hx, hb, hml, hown, hts, hK, hfr, hlo, hce, hsl, hlk, hba⟩ := hg
  intro H locs ls hR hS hv
  subst hl
  obtain ⟨q, hq⟩ := List.getElem?_of_mem (lgt_mem lv i _ hx0)
  exact lv_iinc hx hb hd hv hq hv0 hn rfl (fun ls1 hv1 => k H locs ls1 hR hS (lst_has hv1))
theorem y_iadd (hg : Gd g l0 B own cc L d mc ms) {x y : Int32} (hd : decode cc pc = .ok (.iadd, 1)) (k : YY g L σ cu su (pc + 1) lv (.int (x + y) :: st)) : YY g L σ cu su pc lv (.int y :: .int x :: st) := by
  obtain ⟨p, l, e, R, s, m, args, below, meth, c, Q, B'⟩ := g
  obtain ⟨rfl, rfl, hx, hb, hml, hown, hts, hK, hfr, hlo, hce, hsl, hlk, hba⟩ := hg
  intro H locs ls hR hS hv
  exact lv_iadd hx hb hd (k H locs ls hR hS hv)
theorem y_isub (hg : Gd g l0 B own cc L d mc ms) {x y : Int32} (hd : decode cc pc = .ok (.isub, 1)) (k : YY g L σ cu su (pc + 1) lv (.int (x - y) :: st)) : YY g L σ cu su pc lv (.int y :: .int x :: st) := by
  obtain ⟨p, l, e, R, s, m, args, below, meth, c, Q, B'⟩ := g
  obtain ⟨rfl, rfl, hx, hb, hml, hown, hts, hK, hfr, hlo, hce, hsl, hlk, hba⟩ := hg
  intro H locs ls hR hS hv
  exact lv_isub hx hb hd (k H locs ls hR hS hv)
theorem y_imul (hg : Gd g l0 B own cc L d mc ms) {x y : Int32} (hd : decode cc pc = .ok (.imul, 1)) (k : YY g L σ cu su (pc + 1) lv (.int (x * y) :: st)) : YY g L σ cu su pc lv (.int y :: .int x :: st) := by
  obtain ⟨p, l, e, R, s, m, args, below, meth, c, Q, B'⟩ := g
  obtain ⟨rfl, rfl, hx, hb, hml, hown, hts, hK, hfr, hlo, hce, hsl, hlk, hba⟩ := hg
  intro H locs ls hR hS hv
  exact lv_imul hx hb hd (k H locs ls hR hS hv)
theorem y_iand (hg : Gd g l0 B own cc L d mc ms) {x y : Int32} (hd : decode cc pc = .ok (.iand, 1)) (k : YY g L σ cu su (pc + 1) lv (.int (x &&& y) :: st)) : YY g L σ cu su pc lv (.int y :: .int x :: st) := by
  obtain ⟨p, l, e, R, s, m, args, below, meth, c, Q, B'⟩ := g
  obtain ⟨rfl, rfl, hx, hb, hml, hown, hts, hK, hfr, hlo, hce, hsl, hlk, hba⟩ := hg
  intro H locs ls hR hS hv
  exact lv_iand hx hb hd (k H locs ls hR hS hv)
theorem y_ior (hg : Gd g l0 B own cc L d mc ms) {x y : Int32} (hd : decode cc pc = .ok (.ior, 1)) (k : YY g L σ cu su (pc + 1) lv (.int (x ||| y) :: st)) : YY g L σ cu su pc lv (.int y :: .int x :: st) := by
  obtain ⟨p, l, e, R, s, m, args, below, meth, c, Q, B'⟩ := g
  obtain ⟨rfl, rfl, hx, hb, hml, hown, hts, hK, hfr, hlo, hce, hsl, hlk, hba⟩ := hg
  intro H locs ls hR hS hv
  exact lv_ior hx hb hd (k H locs ls hR hS hv)
theorem y_ixor (hg : Gd g l0 B own cc L d mc ms) {x y : Int32} (hd : decode cc pc = .ok (.ixor, 1)) (k : YY g L σ cu su (pc + 1) lv (.int (x ^^^ y) :: st)) : YY g L σ cu su pc lv (.int y :: .int x :: st) := by
  obtain ⟨p, l, e, R, s, m, args, below, meth, c, Q, B'⟩ := g
  obtain ⟨rfl, rfl, hx, hb, hml, hown, hts, hK, hfr, hlo, hce, hsl, hlk, hba⟩ := hg
  intro H locs ls hR hS hv
  exact lv_ixor hx hb hd (k H locs ls hR hS hv)
theorem y_ishl (hg : Gd g l0 B own cc L d mc ms) {x y : Int32} (hd : decode cc pc = .ok (.ishl, 1)) (k : YY g L σ cu su (pc + 1) lv (.int (x <<< (y &&& 31)) :: st)) : YY g L σ cu su pc lv (.int y :: .int x :: st) := by
  obtain ⟨p, l, e, R, s, m, args, below, meth, c, Q, B'⟩ := g
  obtain ⟨rfl, rfl, hx, hb, hml, hown, hts, hK, hfr, hlo, hce, hsl, hlk, hba⟩ := hg
  intro H locs ls hR hS hv
  exact lv_ishl hx hb hd (k H locs ls hR hS hv)
theorem y_ishr (hg : Gd g l0 B own cc L d mc ms) {x y : Int32} (hd : decode cc pc = .ok (.ishr, 1)) (k : YY g L σ cu su (pc + 1) lv (.int (x >>> (y &&& 31)) :: st)) : YY g L σ cu su pc lv (.int y :: .int x :: st) := by
  obtain ⟨p, l, e, R, s, m, args, below, meth, c, Q, B'⟩ := g
  obtain ⟨rfl, rfl, hx, hb, hml, hown, hts, hK, hfr, hlo, hce, hsl, hlk, hba⟩ := hg
  intro H locs ls hR hS hv
  exact lv_ishr hx hb hd (k H locs ls hR hS hv)
theorem y_iushr (hg : Gd g l0 B own cc L d mc ms) {x y : Int32} (hd : decode cc pc = .ok (.iushr, 1)) (k : YY g L σ cu su (pc + 1) lv (.int ((x.toUInt32 >>> (y.toUInt32 &&& Int32.toUInt32 31)).toInt32) :: st)) : YY g L σ cu su pc lv (.int y :: .int x :: st) := by
  obtain ⟨p, l, e, R, s, m, args, below, meth, c, Q, B'⟩ := g
  obtain ⟨rfl, rfl, hx, hb, hml, hown, hts, hK, hfr, hlo, hce, hsl, hlk, hba⟩ := hg
  intro H locs ls hR hS hv
  exact lv_iushr hx hb hd rfl (k H locs ls hR hS hv)
theorem y_idiv (hg : Gd g l0 B own cc L d mc ms) {x y : Int32} (hd : decode cc pc = .ok (.idiv, 1)) (hne : ¬ y = 0) (k : YY g L σ cu su (pc + 1) lv (.int (x / y) :: st)) : YY g L σ cu su pc lv (.int y :: .int x :: st) := by
  obtain ⟨p, l, e, R, s, m, args, below, meth, c, Q, B'⟩ := g
  obtain ⟨rfl, rfl, hx, hb, hml, hown, hts, hK, hfr, hlo, hce, hsl, hlk, hba⟩ := hg
  intro H locs ls hR hS hv
  exact lv_idiv hx hb hd hne (k H locs ls hR hS hv)
theorem y_irem (hg : Gd g l0 B own cc L d mc ms) {x y : Int32} (hd : decode cc pc = .ok (.irem, 1)) (hne : ¬ y = 0) (k : YY g L σ cu su (pc + 1) lv (.int (x - x / y * y) :: st)) : YY g L σ cu su pc lv (.int y :: .int x :: st) := by
  obtain ⟨p, l, e, R, s, m, args, below, meth, c, Q, B'⟩ := g
  obtain ⟨rfl, rfl, hx, hb, hml, hown, hts, hK, hfr, hlo, hce, hsl, hlk, hba⟩ := hg
  intro H locs ls hR hS hv
  exact lv_irem hx hb hd hne (k H locs ls hR hS hv)
theorem y_ladd (hg : Gd g l0 B own cc L d mc ms) {x y : Int64} (hd : decode cc pc = .ok (.ladd, 1)) (k : YY g L σ cu su (pc + 1) lv (.long (x + y) :: st)) : YY g L σ cu su pc lv (.long y :: .long x :: st) := by
  obtain ⟨p, l, e, R, s, m, args, below, meth, c, Q, B'⟩ := g
  obtain ⟨rfl, rfl, hx, hb, hml, hown, hts, hK, hfr, hlo, hce, hsl, hlk, hba⟩ := hg
  intro H locs ls hR hS hv
  exact lv_ladd hx hb hd (k H locs ls hR hS hv)
theorem y_lsub (hg : Gd g l0 B own cc L d mc ms) {x y : Int64} (hd : decode cc pc = .ok (.lsub, 1)) (k : YY g L σ cu su (pc + 1) lv (.long (x - y) :: st)) : YY g L σ cu su pc lv (.long y :: .long x :: st) := by
  obtain ⟨p, l, e, R, s, m, args, below, meth, c, Q, B'⟩ := g
  obtain ⟨rfl, rfl, hx, hb, hml, hown, hts, hK, hfr, hlo, hce, hsl, hlk, hba⟩ := hg
  intro H locs ls hR hS hv
  exact lv_lsub hx hb hd (k H locs ls hR hS hv)
theorem y_lmul (hg : Gd g l0 B own cc L d mc ms) {x y : Int64} (hd : decode cc pc = .ok (.lmul, 1)) (k : YY g L σ cu su (pc + 1) lv (.long (x * y) :: st)) : YY g L σ cu su pc lv (.long y :: .long x :: st) := by
  obtain ⟨p, l, e, R, s, m, args, below, meth, c, Q, B'⟩ := g
  obtain ⟨rfl, rfl, hx, hb, hml, hown, hts, hK, hfr, hlo, hce, hsl, hlk, hba⟩ := hg
  intro H locs ls hR hS hv
  exact lv_lmul hx hb hd (k H locs ls hR hS hv)
theorem y_land (hg : Gd g l0 B own cc L d mc ms) {x y : Int64} (hd : decode cc pc = .ok (.land, 1)) (k : YY g L σ cu su (pc + 1) lv (.long (x &&& y) :: st)) : YY g L σ cu su pc lv (.long y :: .long x :: st) := by
  obtain ⟨p, l, e, R, s, m, args, below, meth, c, Q, B'⟩ := g
  obtain ⟨rfl, rfl, hx, hb, hml, hown, hts, hK, hfr, hlo, hce, hsl, hlk, hba⟩ := hg
  intro H locs ls hR hS hv
  exact lv_land hx hb hd (k H locs ls hR hS hv)
theorem y_lor (hg : Gd g l0 B own cc L d mc ms) {x y : Int64} (hd : decode cc pc = .ok (.lor, 1)) (k : YY g L σ cu su (pc + 1) lv (.long (x ||| y) :: st)) : YY g L σ cu su pc lv (.long y :: .long x :: st) := by
  obtain ⟨p, l, e, R, s, m, args, below, meth, c, Q, B'⟩ := g
  obtain ⟨rfl, rfl, hx, hb, hml, hown, hts, hK, hfr, hlo, hce, hsl, hlk, hba⟩ := hg
  intro H locs ls hR hS hv
  exact lv_lor hx hb hd (k H locs ls hR hS hv)
theorem y_ldiv (hg : Gd g l0 B own cc L d mc ms) {x y : Int64} (hd : decode cc pc = .ok (.ldiv, 1)) (hne : ¬ y = 0) (k : YY g L σ cu su (pc + 1) lv (.long (x / y) :: st)) : YY g L σ cu su pc lv (.long y :: .long x :: st) := by
  obtain ⟨p, l, e, R, s, m, args, below, meth, c, Q, B'⟩ := g
  obtain ⟨rfl, rfl, hx, hb, hml, hown, hts, hK, hfr, hlo, hce, hsl, hlk, hba⟩ := hg
  intro H locs ls hR hS hv
  exact lv_ldiv hx hb hd hne (k H locs ls hR hS hv)
theorem y_lrem (hg : Gd g l0 B own cc L d mc ms) {x y : Int64} (hd : decode cc pc = .ok (.lrem, 1)) (hne : ¬ y = 0) (k : YY g L σ cu su (pc + 1) lv (.long (x - x / y * y) :: st)) : YY g L σ cu su pc lv (.long y :: .long x :: st) := by
  obtain ⟨p, l, e, R, s, m, args, below, meth, c, Q, B'⟩ := g
  obtain ⟨rfl, rfl, hx, hb, hml, hown, hts, hK, hfr, hlo, hce, hsl, hlk, hba⟩ := hg
  intro H locs ls hR hS hv
  exact lv_lrem hx hb hd hne (k H locs ls hR hS hv)
theorem y_lneg (hg : Gd g l0 B own cc L d mc ms) {x : Int64} (hd : decode cc pc = .ok (.lneg, 1)) (k : YY g L σ cu su (pc + 1) lv (.long (-x) :: st)) : YY g L σ cu su pc lv (.long x :: st) := by
  obtain ⟨p, l, e, R, s, m, args, below, meth, c, Q, B'⟩ := g
  obtain ⟨rfl, rfl, hx, hb, hml, hown, hts, hK, hfr, hlo, hce, hsl, hlk, hba⟩ := hg
  intro H locs ls hR hS hv
  exact lv_lneg hx hb hd (k H locs ls hR hS hv)
theorem y_i2l (hg : Gd g l0 B own cc L d mc ms) {x : Int32} (hd : decode cc pc = .ok (.i2l, 1)) (k : YY g L σ cu su (pc + 1) lv (.long x.toInt64 :: st)) : YY g L σ cu su pc lv (.int x :: st) := by
  obtain ⟨p, l, e, R, s, m, args, below, meth, c, Q, B'⟩ := g
  obtain ⟨rfl, rfl, hx, hb, hml, hown, hts, hK, hfr, hlo, hce, hsl, hlk, hba⟩ := hg
  intro H locs ls hR hS hv
  exact lv_i2l hx hb hd rfl (k H locs ls hR hS hv)
theorem y_l2i (hg : Gd g l0 B own cc L d mc ms) {x : Int64} (hd : decode cc pc = .ok (.l2i, 1)) (k : YY g L σ cu su (pc + 1) lv (.int x.toInt32 :: st)) : YY g L σ cu su pc lv (.long x :: st) := by
  obtain ⟨p, l, e, R, s, m, args, below, meth, c, Q, B'⟩ := g
  obtain ⟨rfl, rfl, hx, hb, hml, hown, hts, hK, hfr, hlo, hce, hsl, hlk, hba⟩ := hg
  intro H locs ls hR hS hv
  exact lv_l2i hx hb hd rfl (k H locs ls hR hS hv)
theorem y_lushr (hg : Gd g l0 B own cc L d mc ms) {x : Int64} {y : Int32} (hd : decode cc pc = .ok (.lushr, 1)) (k : YY g L σ cu su (pc + 1) lv (.long ((x.toUInt64 >>> (y.toInt64.toUInt64 &&& Int64.toUInt64 63)).toInt64) :: st)) : YY g L σ cu su pc lv (.int y :: .long x :: st) := by
  obtain ⟨p, l, e, R, s, m, args, below, meth, c, Q, B'⟩ := g
  obtain ⟨rfl, rfl, hx, hb, hml, hown, hts, hK, hfr, hlo, hce, hsl, hlk, hba⟩ := hg
  intro H locs ls hR hS hv
  exact lv_lushr hx hb hd rfl (k H locs ls hR hS hv)
theorem y_lshl (hg : Gd g l0 B own cc L d mc ms) {x : Int64} {y : Int32} (hd : decode cc pc = .ok (.lshl, 1)) (k : YY g L σ cu su (pc + 1) lv (.long (x <<< (y.toInt64 &&& 63)) :: st)) : YY g L σ cu su pc lv (.int y :: .long x :: st) := by
  obtain ⟨p, l, e, R, s, m, args, below, meth, c, Q, B'⟩ := g
  obtain ⟨rfl, rfl, hx, hb, hml, hown, hts, hK, hfr, hlo, hce, hsl, hlk, hba⟩ := hg
  intro H locs ls hR hS hv
  exact lv_lshl hx hb hd rfl (k H locs ls hR hS hv)
theorem y_dup (hg : Gd g l0 B own cc L d mc ms) {va : Value} (hd : decode cc pc = .ok (.dup, 1)) (h1 : va.category = 1) (k : YY g L σ cu su (pc + 1) lv (va :: va :: st)) : YY g L σ cu su pc lv (va :: st) := by
  obtain ⟨p, l, e, R, s, m, args, below, meth, c, Q, B'⟩ := g
  obtain ⟨rfl, rfl, hx, hb, hml, hown, hts, hK, hfr, hlo, hce, hsl, hlk, hba⟩ := hg
  intro H locs ls hR hS hv
  exact lv_dup hx hb hd h1 (k H locs ls hR hS hv)
theorem y_pop (hg : Gd g l0 B own cc L d mc ms) {va : Value} (hd : decode cc pc = .ok (.pop, 1)) (h1 : va.category = 1) (k : YY g L σ cu su (pc + 1) lv st) : YY g L σ cu su pc lv (va :: st) := by
  obtain ⟨p, l, e, R, s, m, args, below, meth, c, Q, B'⟩ := g
  obtain ⟨rfl, rfl, hx, hb, hml, hown, hts, hK, hfr, hlo, hce, hsl, hlk, hba⟩ := hg
  intro H locs ls hR hS hv
  exact lv_pop hx hb hd h1 (k H locs ls hR hS hv)
theorem y_pop2 (hg : Gd g l0 B own cc L d mc ms) {va : Value} (hd : decode cc pc = .ok (.pop2, 1)) (h1 : va.category = 2) (k : YY g L σ cu su (pc + 1) lv st) : YY g L σ cu su pc lv (va :: st) := by
  obtain ⟨p, l, e, R, s, m, args, below, meth, c, Q, B'⟩ := g
  obtain ⟨rfl, rfl, hx, hb, hml, hown, hts, hK, hfr, hlo, hce, hsl, hlk, hba⟩ := hg
  intro H locs ls hR hS hv
  exact lv_pop2_2 hx hb hd h1 (k H locs ls hR hS hv)
theorem y_dup2 (hg : Gd g l0 B own cc L d mc ms) {va vb : Value} (hd : decode cc pc = .ok (.dup2, 1)) (h1 : va.category = 1) (h2 : vb.category = 1) (k : YY g L σ cu su (pc + 1) lv (va :: vb :: va :: vb :: st)) : YY g L σ cu su pc lv (va :: vb :: st) := by
  obtain ⟨p, l, e, R, s, m, args, below, meth, c, Q, B'⟩ := g
  obtain ⟨rfl, rfl, hx, hb, hml, hown, hts, hK, hfr, hlo, hce, hsl, hlk, hba⟩ := hg
  intro H locs ls hR hS hv
  exact lv_dup2_11 hx hb hd h1 h2 (k H locs ls hR hS hv)
theorem y_dup_x1 (hg : Gd g l0 B own cc L d mc ms) {va vb : Value} (hd : decode cc pc = .ok (.dup_x1, 1)) (h1 : va.category = 1) (h2 : vb.category = 1) (k : YY g L σ cu su (pc + 1) lv (va :: vb :: va :: st)) : YY g L σ cu su pc lv (va :: vb :: st) := by
  obtain ⟨p, l, e, R, s, m, args, below, meth, c, Q, B'⟩ := g
  obtain ⟨rfl, rfl, hx, hb, hml, hown, hts, hK, hfr, hlo, hce, hsl, hlk, hba⟩ := hg
  intro H locs ls hR hS hv
  exact lv_dup_x1 hx hb hd h1 h2 (k H locs ls hR hS hv)
theorem y_ldc2 (hg : Gd g l0 B own cc L d mc ms) {i : Nat} {v : Int64} (hd : decode cc pc = .ok (.ldc2_w i, 3)) (hq : Cond.constantLong own i v ∈ lw_all) (k : YY g L σ cu su (pc + 3) lv (.long v :: st)) : YY g L σ cu su pc lv st := by
  obtain ⟨p, l, e, R, s, m, args, below, meth, c, Q, B'⟩ := g
  obtain ⟨rfl, rfl, hx, hb, hml, hown, hts, hK, hfr, hlo, hce, hsl, hlk, hba⟩ := hg
  intro H locs ls hR hS hv
  exact lv_ldc2 hx hb hown (hts _ hq) hd (k H locs ls hR hS hv)
theorem y_ldcw (hg : Gd g l0 B own cc L d mc ms) {i : Nat} {v : Int32} (hd : decode cc pc = .ok (.ldc_w i, 3)) (hq : Cond.constant own i v ∈ lw_all) (k : YY g L σ cu su (pc + 3) lv (.int v :: st)) : YY g L σ cu su pc lv st := by
  obtain ⟨p, l, e, R, s, m, args, below, meth, c, Q, B'⟩ := g
  obtain ⟨rfl, rfl, hx, hb, hml, hown, hts, hK, hfr, hlo, hce, hsl, hlk, hba⟩ := hg
  intro H locs ls hR hS hv
  exact lv_ldcw hx hb hown (hts _ hq) hd (k H locs ls hR hS hv)
theorem y_goto (hg : Gd g l0 B own cc L d mc ms) {off : Int} (tgt : Nat) (hd : decode cc pc = .ok (.goto off, 3)) (ht : (pc : Int) + off = (tgt : Int)) (k : YY g L σ cu su tgt lv st) : YY g L σ cu su pc lv st := by
  obtain ⟨p, l, e, R, s, m, args, below, meth, c, Q, B'⟩ := g
  obtain ⟨rfl, rfl, hx, hb, hml, hown, hts, hK, hfr, hlo, hce, hsl, hlk, hba⟩ := hg
  intro H locs ls hR hS hv
  exact lv_goto hx hb hd ht (k H locs ls hR hS hv)
theorem y_if_eq (hg : Gd g l0 B own cc L d mc ms) {x : Int32} {off : Int} (tgt : Nat) (hd : decode cc pc = .ok (.ifCond .eq off, 3)) (ht : (pc : Int) + off = (tgt : Int)) (kt : x = 0 → YY g L σ cu su tgt lv st) (kf : ¬ (x = 0) → YY g L σ cu su (pc + 3) lv st) : YY g L σ cu su pc lv (.int x :: st) := by
  obtain ⟨p, l, e, R, s, m, args, below, meth, c, Q, B'⟩ := g
  obtain ⟨rfl, rfl, hx, hb, hml, hown, hts, hK, hfr, hlo, hce, hsl, hlk, hba⟩ := hg
  intro H locs ls hR hS hv
  exact lv_if_eq hx hb hd ht (fun h => kt h H locs ls hR hS hv) (fun h => kf h H locs ls hR hS hv)
theorem y_icmp_eq (hg : Gd g l0 B own cc L d mc ms) {x y : Int32} {off : Int} (tgt : Nat) (hd : decode cc pc = .ok (.if_icmp .eq off, 3)) (ht : (pc : Int) + off = (tgt : Int)) (kt : x = y → YY g L σ cu su tgt lv st) (kf : ¬ (x = y) → YY g L σ cu su (pc + 3) lv st) : YY g L σ cu su pc lv (.int y :: .int x :: st) := by
  obtain ⟨p, l, e, R, s, m, args, below, meth, c, Q, B'⟩ := g
  obtain ⟨rfl, rfl, hx, hb, hml, hown, hts, hK, hfr, hlo, hce, hsl, hlk, hba⟩ := hg
  intro H locs ls hR hS hv
  exact lv_icmp_eq hx hb hd ht (fun h => kt h H locs ls hR hS hv) (fun h => kf h H locs ls hR hS hv)
theorem y_if_ne (hg : Gd g l0 B own cc L d mc ms) {x : Int32} {off : Int} (tgt : Nat) (hd : decode cc pc = .ok (.ifCond .ne off, 3)) (ht : (pc : Int) + off = (tgt : Int)) (kt : ¬ x = 0 → YY g L σ cu su tgt lv st) (kf : x = 0 → YY g L σ cu su (pc + 3) lv st) : YY g L σ cu su pc lv (.int x :: st) := by
  obtain ⟨p, l, e, R, s, m, args, below, meth, c, Q, B'⟩ := g
  obtain ⟨rfl, rfl, hx, hb, hml, hown, hts, hK, hfr, hlo, hce, hsl, hlk, hba⟩ := hg
  intro H locs ls hR hS hv
  exact lv_if_ne hx hb hd ht (fun h => kt h H locs ls hR hS hv) (fun h => kf h H locs ls hR hS hv)
theorem y_icmp_ne (hg : Gd g l0 B own cc L d mc ms) {x y : Int32} {off : Int} (tgt : Nat) (hd : decode cc pc = .ok (.if_icmp .ne off, 3)) (ht : (pc : Int) + off = (tgt : Int)) (kt : ¬ x = y → YY g L σ cu su tgt lv st) (kf : x = y → YY g L σ cu su (pc + 3) lv st) : YY g L σ cu su pc lv (.int y :: .int x :: st) := by
  obtain ⟨p, l, e, R, s, m, args, below, meth, c, Q, B'⟩ := g
  obtain ⟨rfl, rfl, hx, hb, hml, hown, hts, hK, hfr, hlo, hce, hsl, hlk, hba⟩ := hg
  intro H locs ls hR hS hv
  exact lv_icmp_ne hx hb hd ht (fun h => kt h H locs ls hR hS hv) (fun h => kf h H locs ls hR hS hv)
theorem y_if_lt (hg : Gd g l0 B own cc L d mc ms) {x : Int32} {off : Int} (tgt : Nat) (hd : decode cc pc = .ok (.ifCond .lt off, 3)) (ht : (pc : Int) + off = (tgt : Int)) (kt : x < 0 → YY g L σ cu su tgt lv st) (kf : ¬ (x < 0) → YY g L σ cu su (pc + 3) lv st) : YY g L σ cu su pc lv (.int x :: st) := by
  obtain ⟨p, l, e, R, s, m, args, below, meth, c, Q, B'⟩ := g
  obtain ⟨rfl, rfl, hx, hb, hml, hown, hts, hK, hfr, hlo, hce, hsl, hlk, hba⟩ := hg
  intro H locs ls hR hS hv
  exact lv_if_lt hx hb hd ht (fun h => kt h H locs ls hR hS hv) (fun h => kf h H locs ls hR hS hv)
theorem y_icmp_lt (hg : Gd g l0 B own cc L d mc ms) {x y : Int32} {off : Int} (tgt : Nat) (hd : decode cc pc = .ok (.if_icmp .lt off, 3)) (ht : (pc : Int) + off = (tgt : Int)) (kt : x < y → YY g L σ cu su tgt lv st) (kf : ¬ (x < y) → YY g L σ cu su (pc + 3) lv st) : YY g L σ cu su pc lv (.int y :: .int x :: st) := by
  obtain ⟨p, l, e, R, s, m, args, below, meth, c, Q, B'⟩ := g
  obtain ⟨rfl, rfl, hx, hb, hml, hown, hts, hK, hfr, hlo, hce, hsl, hlk, hba⟩ := hg
  intro H locs ls hR hS hv
  exact lv_icmp_lt hx hb hd ht (fun h => kt h H locs ls hR hS hv) (fun h => kf h H locs ls hR hS hv)
theorem y_if_ge (hg : Gd g l0 B own cc L d mc ms) {x : Int32} {off : Int} (tgt : Nat) (hd : decode cc pc = .ok (.ifCond .ge off, 3)) (ht : (pc : Int) + off = (tgt : Int)) (kt : 0 ≤ x → YY g L σ cu su tgt lv st) (kf : ¬ (0 ≤ x) → YY g L σ cu su (pc + 3) lv st) : YY g L σ cu su pc lv (.int x :: st) := by
  obtain ⟨p, l, e, R, s, m, args, below, meth, c, Q, B'⟩ := g
  obtain ⟨rfl, rfl, hx, hb, hml, hown, hts, hK, hfr, hlo, hce, hsl, hlk, hba⟩ := hg
  intro H locs ls hR hS hv
  exact lv_if_ge hx hb hd ht (fun h => kt h H locs ls hR hS hv) (fun h => kf h H locs ls hR hS hv)
theorem y_icmp_ge (hg : Gd g l0 B own cc L d mc ms) {x y : Int32} {off : Int} (tgt : Nat) (hd : decode cc pc = .ok (.if_icmp .ge off, 3)) (ht : (pc : Int) + off = (tgt : Int)) (kt : y ≤ x → YY g L σ cu su tgt lv st) (kf : ¬ (y ≤ x) → YY g L σ cu su (pc + 3) lv st) : YY g L σ cu su pc lv (.int y :: .int x :: st) := by
  obtain ⟨p, l, e, R, s, m, args, below, meth, c, Q, B'⟩ := g
  obtain ⟨rfl, rfl, hx, hb, hml, hown, hts, hK, hfr, hlo, hce, hsl, hlk, hba⟩ := hg
  intro H locs ls hR hS hv
  exact lv_icmp_ge hx hb hd ht (fun h => kt h H locs ls hR hS hv) (fun h => kf h H locs ls hR hS hv)
theorem y_if_gt (hg : Gd g l0 B own cc L d mc ms) {x : Int32} {off : Int} (tgt : Nat) (hd : decode cc pc = .ok (.ifCond .gt off, 3)) (ht : (pc : Int) + off = (tgt : Int)) (kt : 0 < x → YY g L σ cu su tgt lv st) (kf : ¬ (0 < x) → YY g L σ cu su (pc + 3) lv st) : YY g L σ cu su pc lv (.int x :: st) := by
  obtain ⟨p, l, e, R, s, m, args, below, meth, c, Q, B'⟩ := g
  obtain ⟨rfl, rfl, hx, hb, hml, hown, hts, hK, hfr, hlo, hce, hsl, hlk, hba⟩ := hg
  intro H locs ls hR hS hv
  exact lv_if_gt hx hb hd ht (fun h => kt h H locs ls hR hS hv) (fun h => kf h H locs ls hR hS hv)
theorem y_icmp_gt (hg : Gd g l0 B own cc L d mc ms) {x y : Int32} {off : Int} (tgt : Nat) (hd : decode cc pc = .ok (.if_icmp .gt off, 3)) (ht : (pc : Int) + off = (tgt : Int)) (kt : y < x → YY g L σ cu su tgt lv st) (kf : ¬ (y < x) → YY g L σ cu su (pc + 3) lv st) : YY g L σ cu su pc lv (.int y :: .int x :: st) := by
  obtain ⟨p, l, e, R, s, m, args, below, meth, c, Q, B'⟩ := g
  obtain ⟨rfl, rfl, hx, hb, hml, hown, hts, hK, hfr, hlo, hce, hsl, hlk, hba⟩ := hg
  intro H locs ls hR hS hv
  exact lv_icmp_gt hx hb hd ht (fun h => kt h H locs ls hR hS hv) (fun h => kf h H locs ls hR hS hv)
theorem y_if_le (hg : Gd g l0 B own cc L d mc ms) {x : Int32} {off : Int} (tgt : Nat) (hd : decode cc pc = .ok (.ifCond .le off, 3)) (ht : (pc : Int) + off = (tgt : Int)) (kt : x ≤ 0 → YY g L σ cu su tgt lv st) (kf : ¬ (x ≤ 0) → YY g L σ cu su (pc + 3) lv st) : YY g L σ cu su pc lv (.int x :: st) := by
  obtain ⟨p, l, e, R, s, m, args, below, meth, c, Q, B'⟩ := g
  obtain ⟨rfl, rfl, hx, hb, hml, hown, hts, hK, hfr, hlo, hce, hsl, hlk, hba⟩ := hg
  intro H locs ls hR hS hv
  exact lv_if_le hx hb hd ht (fun h => kt h H locs ls hR hS hv) (fun h => kf h H locs ls hR hS hv)
theorem y_icmp_le (hg : Gd g l0 B own cc L d mc ms) {x y : Int32} {off : Int} (tgt : Nat) (hd : decode cc pc = .ok (.if_icmp .le off, 3)) (ht : (pc : Int) + off = (tgt : Int)) (kt : x ≤ y → YY g L σ cu su tgt lv st) (kf : ¬ (x ≤ y) → YY g L σ cu su (pc + 3) lv st) : YY g L σ cu su pc lv (.int y :: .int x :: st) := by
  obtain ⟨p, l, e, R, s, m, args, below, meth, c, Q, B'⟩ := g
  obtain ⟨rfl, rfl, hx, hb, hml, hown, hts, hK, hfr, hlo, hce, hsl, hlk, hba⟩ := hg
  intro H locs ls hR hS hv
  exact lv_icmp_le hx hb hd ht (fun h => kt h H locs ls hR hS hv) (fun h => kf h H locs ls hR hS hv)
theorem lgc_lt (x y : Int64) : lg_cmp x y < 0 ↔ x < y := by
  unfold lg_cmp
  by_cases h1 : x > y
  · rw [if_pos h1]
    have : ¬ x < y := Int64.not_lt.mpr (Int64.le_of_lt h1)
    exact ⟨fun h => absurd h (by decide), fun h => absurd h this⟩
  · rw [if_neg h1]
    by_cases h2 : x = y
    · rw [if_pos h2]
      exact ⟨fun h => absurd h (by decide), fun h => absurd h (by rw [h2]; exact Int64.lt_irrefl)⟩
    · rw [if_neg h2]
      have h3 : x ≤ y := Int64.not_lt.mp h1
      exact ⟨fun _ => Int64.lt_of_le_of_ne h3 h2, fun _ => by decide⟩
theorem lgc_gt (x y : Int64) : 0 < lg_cmp x y ↔ y < x := by
  unfold lg_cmp
  by_cases h1 : x > y
  · rw [if_pos h1]
    exact ⟨fun _ => h1, fun _ => by decide⟩
  · rw [if_neg h1]
    by_cases h2 : x = y
    · rw [if_pos h2]
      exact ⟨fun h => absurd h (by decide), fun h => absurd h h1⟩
    · rw [if_neg h2]
      exact ⟨fun h => absurd h (by decide), fun h => absurd h h1⟩
theorem lgc_eq (x y : Int64) : lg_cmp x y = 0 ↔ x = y := by
  unfold lg_cmp
  by_cases h1 : x > y
  · rw [if_pos h1]
    exact ⟨fun h => absurd h (by decide), fun h => absurd h1 (by rw [h]; exact Int64.lt_irrefl)⟩
  · rw [if_neg h1]
    by_cases h2 : x = y
    · rw [if_pos h2]
      exact ⟨fun _ => h2, fun _ => rfl⟩
    · rw [if_neg h2]
      exact ⟨fun h => absurd h (by decide), fun h => absurd h h2⟩
theorem lgc_ge (x y : Int64) : 0 ≤ lg_cmp x y ↔ y ≤ x := by
  rw [← Int32.not_lt, lgc_lt, Int64.not_lt]
theorem lgc_le (x y : Int64) : lg_cmp x y ≤ 0 ↔ x ≤ y := by
  rw [← Int32.not_lt, lgc_gt, Int64.not_lt]
theorem lgc_ne (x y : Int64) : ¬ lg_cmp x y = 0 ↔ ¬ x = y := by rw [lgc_eq]
theorem y_lc_eq (hg : Gd g l0 B own cc L d mc ms) {x y : Int64} {off : Int} (tgt : Nat) (hd0 : decode cc pc = .ok (.lcmp, 1)) (hd : decode cc (pc + 1) = .ok (.ifCond .eq off, 3)) (ht : ((pc + 1 : Nat) : Int) + off = (tgt : Int)) (kt : (x = y) → YY g L σ cu su tgt lv st) (kf : ¬ (x = y) → YY g L σ cu su (pc + 4) lv st) : YY g L σ cu su pc lv (.long y :: .long x :: st) := by
  obtain ⟨p, l, e, R, s, m, args, below, meth, c, Q, B'⟩ := g
  obtain ⟨rfl, rfl, hx, hb, hml, hown, hts, hK, hfr, hlo, hce, hsl, hlk, hba⟩ := hg
  intro H locs ls hR hS hv
  refine W.lcmp hx hb hd0 ?_
  exact lv_if_eq hx hb hd ht (fun h => kt ((lgc_eq x y).mp h) H locs ls hR hS hv) (fun h => kf (fun q => h ((lgc_eq x y).mpr q)) H locs ls hR hS hv)
theorem y_lc_ne (hg : Gd g l0 B own cc L d mc ms) {x y : Int64} {off : Int} (tgt : Nat) (hd0 : decode cc pc = .ok (.lcmp, 1)) (hd : decode cc (pc + 1) = .ok (.ifCond .ne off, 3)) (ht : ((pc + 1 : Nat) : Int) + off = (tgt : Int)) (kt : (¬ x = y) → YY g L σ cu su tgt lv st) (kf : x = y → YY g L σ cu su (pc + 4) lv st) : YY g L σ cu su pc lv (.long y :: .long x :: st) := by
  obtain ⟨p, l, e, R, s, m, args, below, meth, c, Q, B'⟩ := g
  obtain ⟨rfl, rfl, hx, hb, hml, hown, hts, hK, hfr, hlo, hce, hsl, hlk, hba⟩ := hg
  intro H locs ls hR hS hv
  refine W.lcmp hx hb hd0 ?_
  exact lv_if_ne hx hb hd ht (fun h => kt ((lgc_ne x y).mp h) H locs ls hR hS hv) (fun h => kf ((lgc_eq x y).mp h) H locs ls hR hS hv)
theorem y_lc_lt (hg : Gd g l0 B own cc L d mc ms) {x y : Int64} {off : Int} (tgt : Nat) (hd0 : decode cc pc = .ok (.lcmp, 1)) (hd : decode cc (pc + 1) = .ok (.ifCond .lt off, 3)) (ht : ((pc + 1 : Nat) : Int) + off = (tgt : Int)) (kt : (x < y) → YY g L σ cu su tgt lv st) (kf : ¬ (x < y) → YY g L σ cu su (pc + 4) lv st) : YY g L σ cu su pc lv (.long y :: .long x :: st) := by
  obtain ⟨p, l, e, R, s, m, args, below, meth, c, Q, B'⟩ := g
  obtain ⟨rfl, rfl, hx, hb, hml, hown, hts, hK, hfr, hlo, hce, hsl, hlk, hba⟩ := hg
  intro H locs ls hR hS hv
  refine W.lcmp hx hb hd0 ?_
  exact lv_if_lt hx hb hd ht (fun h => kt ((lgc_lt x y).mp h) H locs ls hR hS hv) (fun h => kf (fun q => h ((lgc_lt x y).mpr q)) H locs ls hR hS hv)
theorem y_lc_ge (hg : Gd g l0 B own cc L d mc ms) {x y : Int64} {off : Int} (tgt : Nat) (hd0 : decode cc pc = .ok (.lcmp, 1)) (hd : decode cc (pc + 1) = .ok (.ifCond .ge off, 3)) (ht : ((pc + 1 : Nat) : Int) + off = (tgt : Int)) (kt : (y ≤ x) → YY g L σ cu su tgt lv st) (kf : ¬ (y ≤ x) → YY g L σ cu su (pc + 4) lv st) : YY g L σ cu su pc lv (.long y :: .long x :: st) := by
  obtain ⟨p, l, e, R, s, m, args, below, meth, c, Q, B'⟩ := g
  obtain ⟨rfl, rfl, hx, hb, hml, hown, hts, hK, hfr, hlo, hce, hsl, hlk, hba⟩ := hg
  intro H locs ls hR hS hv
  refine W.lcmp hx hb hd0 ?_
  exact lv_if_ge hx hb hd ht (fun h => kt ((lgc_ge x y).mp h) H locs ls hR hS hv) (fun h => kf (fun q => h ((lgc_ge x y).mpr q)) H locs ls hR hS hv)
theorem y_lc_gt (hg : Gd g l0 B own cc L d mc ms) {x y : Int64} {off : Int} (tgt : Nat) (hd0 : decode cc pc = .ok (.lcmp, 1)) (hd : decode cc (pc + 1) = .ok (.ifCond .gt off, 3)) (ht : ((pc + 1 : Nat) : Int) + off = (tgt : Int)) (kt : (y < x) → YY g L σ cu su tgt lv st) (kf : ¬ (y < x) → YY g L σ cu su (pc + 4) lv st) : YY g L σ cu su pc lv (.long y :: .long x :: st) := by
  obtain ⟨p, l, e, R, s, m, args, below, meth, c, Q, B'⟩ := g
  obtain ⟨rfl, rfl, hx, hb, hml, hown, hts, hK, hfr, hlo, hce, hsl, hlk, hba⟩ := hg
  intro H locs ls hR hS hv
  refine W.lcmp hx hb hd0 ?_
  exact lv_if_gt hx hb hd ht (fun h => kt ((lgc_gt x y).mp h) H locs ls hR hS hv) (fun h => kf (fun q => h ((lgc_gt x y).mpr q)) H locs ls hR hS hv)
theorem y_lc_le (hg : Gd g l0 B own cc L d mc ms) {x y : Int64} {off : Int} (tgt : Nat) (hd0 : decode cc pc = .ok (.lcmp, 1)) (hd : decode cc (pc + 1) = .ok (.ifCond .le off, 3)) (ht : ((pc + 1 : Nat) : Int) + off = (tgt : Int)) (kt : (x ≤ y) → YY g L σ cu su tgt lv st) (kf : ¬ (x ≤ y) → YY g L σ cu su (pc + 4) lv st) : YY g L σ cu su pc lv (.long y :: .long x :: st) := by
  obtain ⟨p, l, e, R, s, m, args, below, meth, c, Q, B'⟩ := g
  obtain ⟨rfl, rfl, hx, hb, hml, hown, hts, hK, hfr, hlo, hce, hsl, hlk, hba⟩ := hg
  intro H locs ls hR hS hv
  refine W.lcmp hx hb hd0 ?_
  exact lv_if_le hx hb hd ht (fun h => kt ((lgc_le x y).mp h) H locs ls hR hS hv) (fun h => kf (fun q => h ((lgc_le x y).mpr q)) H locs ls hR hS hv)
theorem y_lcmp (hg : Gd g l0 B own cc L d mc ms) {x y : Int64} (hd : decode cc pc = .ok (.lcmp, 1)) (k : YY g L σ cu su (pc + 1) lv (.int (lg_cmp x y) :: st)) : YY g L σ cu su pc lv (.long y :: .long x :: st) := by
  obtain ⟨p, l, e, R, s, m, args, below, meth, c, Q, B'⟩ := g
  obtain ⟨rfl, rfl, hx, hb, hml, hown, hts, hK, hfr, hlo, hce, hsl, hlk, hba⟩ := hg
  intro H locs ls hR hS hv
  exact W.lcmp hx hb hd (k H locs ls hR hS hv)
theorem y_tsOut (hg : Gd g l0 B own cc L d mc ms) {x : Int32} {dflt lo hi : Int} {offs : Array Int} {len : Nat} (tgt : Nat) (hd : decode cc pc = .ok (.tableswitch dflt lo hi offs, len)) (h : x.toInt < lo ∨ hi < x.toInt) (ht : (pc : Int) + dflt = (tgt : Int)) (k : YY g L σ cu su tgt lv st) : YY g L σ cu su pc lv (.int x :: st) := by
  obtain ⟨p, l, e, R, s, m, args, below, meth, c, Q, B'⟩ := g
  obtain ⟨rfl, rfl, hx, hb, hml, hown, hts, hK, hfr, hlo, hce, hsl, hlk, hba⟩ := hg
  intro H locs ls hR hS hv
  exact lv_tableOut hx hb hd h ht (k H locs ls hR hS hv)
theorem y_tsIn (hg : Gd g l0 B own cc L d mc ms) {x : Int32} {dflt lo hi : Int} {offs : Array Int} {len : Nat} {off : Int} (tgt : Nat) (hd : decode cc pc = .ok (.tableswitch dflt lo hi offs, len)) (h1 : ¬ x.toInt < lo) (h2 : ¬ hi < x.toInt) (ho : offs[(x.toInt - lo).toNat]? = some off) (ht : (pc : Int) + off = (tgt : Int)) (k : YY g L σ cu su tgt lv st) : YY g L σ cu su pc lv (.int x :: st) := by
  obtain ⟨p, l, e, R, s, m, args, below, meth, c, Q, B'⟩ := g
  obtain ⟨rfl, rfl, hx, hb, hml, hown, hts, hK, hfr, hlo, hce, hsl, hlk, hba⟩ := hg
  intro H locs ls hR hS hv
  exact lv_tableIn hx hb hd h1 h2 ho ht (k H locs ls hR hS hv)
theorem y_lkup (hg : Gd g l0 B own cc L d mc ms) {x : Int32} {dflt : Int} {ps : Array (Int × Int)} {len : Nat} {off : Int} (tgt : Nat) (hd : decode cc pc = .ok (.lookupswitch dflt ps, len)) (hp : (ps.toList.zip (ps.toList.drop 1)).all (fun (a, next) => a.1 < next.1) = true) (ho : Op.lookupswitch.offset ps.toList dflt x.toInt = off) (ht : (pc : Int) + off = (tgt : Int)) (k : YY g L σ cu su tgt lv st) : YY g L σ cu su pc lv (.int x :: st) := by
  obtain ⟨p, l, e, R, s, m, args, below, meth, c, Q, B'⟩ := g
  obtain ⟨rfl, rfl, hx, hb, hml, hown, hts, hK, hfr, hlo, hce, hsl, hlk, hba⟩ := hg
  intro H locs ls hR hS hv
  exact lv_lookup hx hb hd hp ho ht (k H locs ls hR hS hv)
/-- a top that is known by another name -/
theorem y_ti {x x' : Int32} (h : x = x') (k : YY g L σ cu su pc lv (.int x' :: st)) : YY g L σ cu su pc lv (.int x :: st) := by rw [h]; exact k
theorem y_tl {x x' : Int64} (h : x = x') (k : YY g L σ cu su pc lv (.long x' :: st)) : YY g L σ cu su pc lv (.long x :: st) := by rw [h]; exact k
theorem y_ti2 {x x' : Int32} {v : Value} (h : x = x') (k : YY g L σ cu su pc lv (v :: .int x' :: st)) : YY g L σ cu su pc lv (v :: .int x :: st) := by rw [h]; exact k
end Rows
