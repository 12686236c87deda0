/-! ===== what a misfit tells ===== -/
section TellRows
variable {g : Cx} {l0 : Launch} {B : Bs} {own : String} {cc : ByteArray} {L d mc ms cu su pc : Nat} {σ : Mem} {lv : List (Nat × Value)} {st : List Value}
/-- a call by a name that a class above has -/
theorem y_callU (hg : Gd g l0 B own cc L d mc ms) {x y : MethodName} {owner : String} {code : ByteArray} {Lc n idx d2 mc2 ms2 : Nat} {ret : Option FieldType} {As rest : List Value} {post : Option Value → Mem → Prop} {k c N : Nat} {C : String} {T : u_T} (hM : MT l0 B d2 mc2 ms2 y code Lc ret (.ref (B.1 + k) :: As) σ post)
    (hcode : Cond.code y code Lc ret ∈ lw_all) (hini : Cond.initialized y.cls ∈ lw_all) (hnm : owner ≠ "java/lang/invoke/MethodHandle" ∧ owner ≠ "java/lang/invoke/VarHandle" ∧ (parseMethodDescriptor x.desc).map (fun d => d.parameters.length) = some n) (hl : Cond.methodLink own idx x ∈ lw_all) (hsame : Cond.sameMethod x.cls owner x.name x.desc ∈ lw_all)
    (hdecl : ∀ (s : State) (args : Array Value), (∀ w ∈ lw_all, w.before args s = true) → KK B s → va_Decl s ⟨owner, x.name, x.desc⟩) (hsel : Cond.selects C x y ∈ lw_all) (hin : Cond.instanceMethod y ∈ lw_all) (hL : Lc ≤ 45) (hk : KO σ k c) (hc : CF c C T N) (hn : As.length = n) (hs : st = As.reverse ++ .ref (B.1 + k) :: rest) (hw : (rest.map fun v => v.category).sum ≤ 8) (h1 : cu + mc2 ≤ mc) (h2 : su + ms2 ≤ ms) (hdd : d2 + 1 ≤ d) (hd : decode cc pc = .ok (.invokevirtual idx, 3))
    (kk : ∀ v σ1, post v σ1 → YY g L σ1 (cu + mc2) (su + ms2) (pc + 3) lv (v.toList ++ rest)) : YY g L σ cu su pc lv st := by
  obtain ⟨p, l, e, R, s, m, args, below, meth, cD, Q, B'⟩ := g
  obtain ⟨rfl, rfl, hx, hb, hml, hown, hts, hK, hfr, hlo, hce, hsl, hlk, hba⟩ := hg
  intro H locs ls hR hS hv
  refine y_after (va_runU (As := As) (rest := rest) (owner := owner) (x := x) ⟨hx, hb, hml, hown, hts⟩ hM ⟨⟨rfl, rfl, by show d2 + 1 ≤ _; omega, by show 8 + (Lc + 11) + 64 * d2 ≤ _; omega, pay_in hts (lw_meth hcode), List.mem_cons_self⟩, hts _ hcode, hts _ hini, ⟨hnm.1, hnm.2.1⟩, fun sig h => ?_, hts _ hl, hts _ hsame, hdecl s _ hts hK, hts _ hsel, hts _ hin⟩ ⟨PCx.blind, ?_, fun U hU hW => ⟨rfl, by rw [hU]; exact hR, hK.warm hW hU hS⟩⟩ rfl hn hv.1 hs (lv_room hw) hd ⟨by omega, by omega⟩) hS (fun v σ1 H1 locs1 h1 h2 h3 => kk v σ1 h1 H1 locs1 ls h2 h3 hv)
  · have h9 := hnm.2.2
    rw [h] at h9
    exact (Option.some.inj h9).symm
  · obtain ⟨cell, q1, q2, q3, q4⟩ := hR.obj hk hc
    exact ⟨cell, q1, by rw [q3]; rfl, by rw [q2]; exact (hK.1.1 c _ hc.1).2.1⟩
theorem dcl_reason (s : State) (args : Array Value) (_ : ∀ w ∈ lw_all, w.before args s = true) (hK : KK B s) : va_Decl s ⟨"BagPhrases$Misfit", "reason", "()I"⟩ := Cond.declares_spec hK.2.2.2.2.2.2.2.2.2
theorem dcl_place (s : State) (args : Array Value) (hts : ∀ w ∈ lw_all, w.before args s = true) (_ : KK B s) : va_Decl s ⟨"BagPhrases$Misfit", "place", "()I"⟩ := va_Decl.of (hts _ q781) (hts _ q789)
end TellRows
section Tell
variable {l : Launch} {B : Bs} {σ : Mem} {k : Nat}
def tlV (n pl lt mn : Int32) (v : Nat) : Int32 := if v = 0 then n else if v = 1 then pl else if v = 2 then lt else mn
def Cau (B : Bs) (σ : Mem) (q : Nat) (lt mn : Int32) : Prop := (σ.2.2.2.2 q 1 = none ∧ lt = -9 ∧ mn = 0) ∨ ∃ a, σ.2.2.2.2 q 1 = some (B.1 + a) ∧ a ≠ q ∧ KO σ a 6 ∧ σ.2.2.1 a 6 = lt ∧ σ.2.2.1 a 7 = mn
theorem cReason_4 : MT l B 0 0 0 yX5_reason cX5_reason 1 (some .int) [.ref (B.1 + k)] σ (pI fun r σ' => r = nI 1 ∧ σ' = σ) := by
  refine MT.of (by decide) (Nat.le_of_ble_eq_true rfl) (fun g hg hr => ?_)
  refine y_iconst (v := nI 1) hg dX5_reason_0 rfl ?_
  exact y_iret hg hr ⟨_, rfl, rfl, rfl⟩ dX5_reason_1 (Nat.le_refl _) (Nat.le_refl _)
theorem cPlace_4 (hk : KO σ k 4) : MT l B 0 0 0 yX4_place cX4_place 1 (some .int) [.ref (B.1 + k)] σ (pI fun r σ' => r = σ.2.2.1 k 0 ∧ σ' = σ) := by
  refine MT.of (by decide) (Nat.le_of_ble_eq_true rfl) (fun g hg hr => ?_)
  refine y_aload_n hg dX4_place_0 rfl ?_
  refine y_geti (j := 0) hg cf4 hk (by decide) rfl q629 dX4_place_1 ?_
  exact y_iret hg hr ⟨_, rfl, rfl, rfl⟩ dX4_place_4 (Nat.le_refl _) (Nat.le_refl _)
theorem cTell_4 (hk : KO σ k 4) {pl lt mn : Int32} (hpl : σ.2.2.1 k 0 = pl) (hco : Cau B σ k lt mn) {v : Nat} (hv : v ≤ 3) : MT l B 8 0 0 yX0_tellMisfit cX0_tellMisfit 4 (some .int) [.ref (B.1 + k), .int (nI v)] σ (pI fun r σ' => r = tlV (nI 1) pl lt mn v ∧ σ' = σ) := by
  refine MT.of (by decide) (Nat.le_of_ble_eq_true rfl) (fun g hg hr => ?_)
  refine y_iload_n hg dX0_tellMisfit_0 rfl ?_
  have h4 : v = 0 ∨ v = 1 ∨ v = 2 ∨ v = 3 := by omega
  rcases h4 with rfl | rfl | rfl | rfl
  · refine y_tsIn hg 28 dX0_tellMisfit_1 (by decide) (by decide) rfl (by decide) ?_
    refine y_aload_n hg dX0_tellMisfit_28 rfl ?_
    refine y_callU (x := ⟨"BagPhrases$Misfit", "reason", "()I"⟩) (owner := "BagPhrases$Misfit") (As := []) (rest := []) hg cReason_4 q764 q94 ⟨by decide, by decide, by decide +kernel⟩ q759 q761 dcl_reason q762 q763 (by decide) hk cf4 rfl rfl (by decide) (Nat.le_refl _) (Nat.le_refl _) (by decide) dX0_tellMisfit_29 (fun v σ1 h => ?_)
    obtain ⟨r, rfl, rfl, rfl⟩ := h
    exact y_iret hg hr ⟨_, rfl, rfl, rfl⟩ dX0_tellMisfit_32 (Nat.le_refl _) (Nat.le_refl _)
  · refine y_tsIn hg 33 dX0_tellMisfit_1 (by decide) (by decide) rfl (by decide) ?_
    refine y_aload_n hg dX0_tellMisfit_33 rfl ?_
    refine y_callU (x := ⟨"BagPhrases$Misfit", "place", "()I"⟩) (owner := "BagPhrases$Misfit") (As := []) (rest := []) hg (cPlace_4 hk) q789 q93 ⟨by decide, by decide, by decide +kernel⟩ q780 q782 dcl_place q783 q781 (by decide) hk cf4 rfl rfl (by decide) (Nat.le_refl _) (Nat.le_refl _) (by decide) dX0_tellMisfit_34 (fun v σ1 h => ?_)
    obtain ⟨r, rfl, rfl, rfl⟩ := h
    exact y_iret hg hr ⟨_, rfl, hpl, rfl⟩ dX0_tellMisfit_37 (Nat.le_refl _) (Nat.le_refl _)
  · refine y_tsIn hg 38 dX0_tellMisfit_1 (by decide) (by decide) rfl (by decide) ?_
    refine y_aload_n hg dX0_tellMisfit_38 rfl ?_
    rcases hco with ⟨z1, z2, z3⟩ | ⟨a, y1, y2, y3, y4, y5⟩
    · refine y_gc (jC := 1) (co := none) hg cf4 hk (by decide) rfl rfl z1 (fun h => by cases h) q790 q793 dX0_tellMisfit_39 (by decide) (by decide) ?_
      refine y_astoreN hg dX0_tellMisfit_42 (by decide) (lv1 := [(0, _), (1, _), (3, _)]) rfl ?_
      refine y_aloadN hg dX0_tellMisfit_43 rfl ?_
      refine y_instN hg dX0_tellMisfit_44 ?_
      refine y_if_eq hg 62 dX0_tellMisfit_47 (by decide) (fun _ => ?_) (fun hF => absurd rfl hF)
      refine y_bipush (v := -9) hg dX0_tellMisfit_62 rfl ?_
      exact y_iret hg hr ⟨_, rfl, z2.symm, rfl⟩ dX0_tellMisfit_64 (Nat.le_refl _) (Nat.le_refl _)
    · refine y_gc (jC := 1) (co := some (B.1 + a)) hg cf4 hk (by decide) rfl rfl y1 (fun h => y2 (by injection h; omega)) q790 q793 dX0_tellMisfit_39 (by decide) (by decide) ?_
      refine y_astore_n hg dX0_tellMisfit_42 (by decide) (lv1 := [(0, _), (1, _), (3, _)]) rfl ?_
      refine y_aload_n hg dX0_tellMisfit_43 rfl ?_
      refine y_instY hg cf6 y3 q569 (List.mem_of_getElem? (i := 0) rfl) dX0_tellMisfit_44 ?_
      refine y_if_eq hg 62 dX0_tellMisfit_47 (by decide) (fun hT => absurd hT (by decide)) (fun _ => ?_)
      refine y_aload_n hg dX0_tellMisfit_50 rfl ?_
      refine y_castY hg cf6 y3 q569 (List.mem_of_getElem? (i := 0) rfl) dX0_tellMisfit_51 ?_
      refine y_astore_n hg dX0_tellMisfit_54 (by decide) (lv1 := [(0, _), (1, _), (2, _), (3, _)]) rfl ?_
      refine y_aload_n hg dX0_tellMisfit_55 rfl ?_
      refine y_getiN (j := 6) hg cf6 y3 (by decide) rfl nf10 dX0_tellMisfit_56 ?_
      refine y_goto hg 64 dX0_tellMisfit_59 (by decide) ?_
      exact y_iret hg hr ⟨_, rfl, y4, rfl⟩ dX0_tellMisfit_64 (Nat.le_refl _) (Nat.le_refl _)
  · refine y_tsOut hg 65 dX0_tellMisfit_1 (Or.inr (by decide)) (by decide) ?_
    refine y_aload_n hg dX0_tellMisfit_65 rfl ?_
    rcases hco with ⟨z1, z2, z3⟩ | ⟨a, y1, y2, y3, y4, y5⟩
    · refine y_gc (jC := 1) (co := none) hg cf4 hk (by decide) rfl rfl z1 (fun h => by cases h) q790 q793 dX0_tellMisfit_66 (by decide) (by decide) ?_
      refine y_astoreN hg dX0_tellMisfit_69 (by decide) (lv1 := [(0, _), (1, _), (3, _)]) rfl ?_
      refine y_aloadN hg dX0_tellMisfit_70 rfl ?_
      refine y_instN hg dX0_tellMisfit_71 ?_
      refine y_if_eq hg 89 dX0_tellMisfit_74 (by decide) (fun _ => ?_) (fun hF => absurd rfl hF)
      refine y_iconst (v := 0) hg dX0_tellMisfit_89 rfl ?_
      exact y_iret hg hr ⟨_, rfl, z3.symm, rfl⟩ dX0_tellMisfit_90 (Nat.le_refl _) (Nat.le_refl _)
    · refine y_gc (jC := 1) (co := some (B.1 + a)) hg cf4 hk (by decide) rfl rfl y1 (fun h => y2 (by injection h; omega)) q790 q793 dX0_tellMisfit_66 (by decide) (by decide) ?_
      refine y_astore_n hg dX0_tellMisfit_69 (by decide) (lv1 := [(0, _), (1, _), (3, _)]) rfl ?_
      refine y_aload_n hg dX0_tellMisfit_70 rfl ?_
      refine y_instY hg cf6 y3 q569 (List.mem_of_getElem? (i := 0) rfl) dX0_tellMisfit_71 ?_
      refine y_if_eq hg 89 dX0_tellMisfit_74 (by decide) (fun hT => absurd hT (by decide)) (fun _ => ?_)
      refine y_aload_n hg dX0_tellMisfit_77 rfl ?_
      refine y_castY hg cf6 y3 q569 (List.mem_of_getElem? (i := 0) rfl) dX0_tellMisfit_78 ?_
      refine y_astore_n hg dX0_tellMisfit_81 (by decide) (lv1 := [(0, _), (1, _), (2, _), (3, _)]) rfl ?_
      refine y_aload_n hg dX0_tellMisfit_82 rfl ?_
      refine y_getiN (j := 7) hg cf6 y3 (by decide) rfl nf11 dX0_tellMisfit_83 ?_
      refine y_goto hg 90 dX0_tellMisfit_86 (by decide) ?_
      exact y_iret hg hr ⟨_, rfl, y5, rfl⟩ dX0_tellMisfit_90 (Nat.le_refl _) (Nat.le_refl _)
theorem cReason_5 : MT l B 0 0 0 yX6_reason cX6_reason 1 (some .int) [.ref (B.1 + k)] σ (pI fun r σ' => r = nI 2 ∧ σ' = σ) := by
  refine MT.of (by decide) (Nat.le_of_ble_eq_true rfl) (fun g hg hr => ?_)
  refine y_iconst (v := nI 2) hg dX6_reason_0 rfl ?_
  exact y_iret hg hr ⟨_, rfl, rfl, rfl⟩ dX6_reason_1 (Nat.le_refl _) (Nat.le_refl _)
theorem cPlace_5 (hk : KO σ k 5) : MT l B 0 0 0 yX4_place cX4_place 1 (some .int) [.ref (B.1 + k)] σ (pI fun r σ' => r = σ.2.2.1 k 0 ∧ σ' = σ) := by
  refine MT.of (by decide) (Nat.le_of_ble_eq_true rfl) (fun g hg hr => ?_)
  refine y_aload_n hg dX4_place_0 rfl ?_
  refine y_geti (j := 0) hg cf5 hk (by decide) rfl q629 dX4_place_1 ?_
  exact y_iret hg hr ⟨_, rfl, rfl, rfl⟩ dX4_place_4 (Nat.le_refl _) (Nat.le_refl _)
theorem cTell_5 (hk : KO σ k 5) {pl lt mn : Int32} (hpl : σ.2.2.1 k 0 = pl) (hco : Cau B σ k lt mn) {v : Nat} (hv : v ≤ 3) : MT l B 8 0 0 yX0_tellMisfit cX0_tellMisfit 4 (some .int) [.ref (B.1 + k), .int (nI v)] σ (pI fun r σ' => r = tlV (nI 2) pl lt mn v ∧ σ' = σ) := by
  refine MT.of (by decide) (Nat.le_of_ble_eq_true rfl) (fun g hg hr => ?_)
  refine y_iload_n hg dX0_tellMisfit_0 rfl ?_
  have h4 : v = 0 ∨ v = 1 ∨ v = 2 ∨ v = 3 := by omega
  rcases h4 with rfl | rfl | rfl | rfl
  · refine y_tsIn hg 28 dX0_tellMisfit_1 (by decide) (by decide) rfl (by decide) ?_
    refine y_aload_n hg dX0_tellMisfit_28 rfl ?_
    refine y_callU (x := ⟨"BagPhrases$Misfit", "reason", "()I"⟩) (owner := "BagPhrases$Misfit") (As := []) (rest := []) hg cReason_5 q776 q95 ⟨by decide, by decide, by decide +kernel⟩ q759 q761 dcl_reason q774 q775 (by decide) hk cf5 rfl rfl (by decide) (Nat.le_refl _) (Nat.le_refl _) (by decide) dX0_tellMisfit_29 (fun v σ1 h => ?_)
    obtain ⟨r, rfl, rfl, rfl⟩ := h
    exact y_iret hg hr ⟨_, rfl, rfl, rfl⟩ dX0_tellMisfit_32 (Nat.le_refl _) (Nat.le_refl _)
  · refine y_tsIn hg 33 dX0_tellMisfit_1 (by decide) (by decide) rfl (by decide) ?_
    refine y_aload_n hg dX0_tellMisfit_33 rfl ?_
    refine y_callU (x := ⟨"BagPhrases$Misfit", "place", "()I"⟩) (owner := "BagPhrases$Misfit") (As := []) (rest := []) hg (cPlace_5 hk) q789 q93 ⟨by decide, by decide, by decide +kernel⟩ q780 q782 dcl_place q787 q781 (by decide) hk cf5 rfl rfl (by decide) (Nat.le_refl _) (Nat.le_refl _) (by decide) dX0_tellMisfit_34 (fun v σ1 h => ?_)
    obtain ⟨r, rfl, rfl, rfl⟩ := h
    exact y_iret hg hr ⟨_, rfl, hpl, rfl⟩ dX0_tellMisfit_37 (Nat.le_refl _) (Nat.le_refl _)
  · refine y_tsIn hg 38 dX0_tellMisfit_1 (by decide) (by decide) rfl (by decide) ?_
    refine y_aload_n hg dX0_tellMisfit_38 rfl ?_
    rcases hco with ⟨z1, z2, z3⟩ | ⟨a, y1, y2, y3, y4, y5⟩
    · refine y_gc (jC := 1) (co := none) hg cf5 hk (by decide) rfl rfl z1 (fun h => by cases h) q790 q797 dX0_tellMisfit_39 (by decide) (by decide) ?_
      refine y_astoreN hg dX0_tellMisfit_42 (by decide) (lv1 := [(0, _), (1, _), (3, _)]) rfl ?_
      refine y_aloadN hg dX0_tellMisfit_43 rfl ?_
      refine y_instN hg dX0_tellMisfit_44 ?_
      refine y_if_eq hg 62 dX0_tellMisfit_47 (by decide) (fun _ => ?_) (fun hF => absurd rfl hF)
      refine y_bipush (v := -9) hg dX0_tellMisfit_62 rfl ?_
      exact y_iret hg hr ⟨_, rfl, z2.symm, rfl⟩ dX0_tellMisfit_64 (Nat.le_refl _) (Nat.le_refl _)
    · refine y_gc (jC := 1) (co := some (B.1 + a)) hg cf5 hk (by decide) rfl rfl y1 (fun h => y2 (by injection h; omega)) q790 q797 dX0_tellMisfit_39 (by decide) (by decide) ?_
      refine y_astore_n hg dX0_tellMisfit_42 (by decide) (lv1 := [(0, _), (1, _), (3, _)]) rfl ?_
      refine y_aload_n hg dX0_tellMisfit_43 rfl ?_
      refine y_instY hg cf6 y3 q569 (List.mem_of_getElem? (i := 0) rfl) dX0_tellMisfit_44 ?_
      refine y_if_eq hg 62 dX0_tellMisfit_47 (by decide) (fun hT => absurd hT (by decide)) (fun _ => ?_)
      refine y_aload_n hg dX0_tellMisfit_50 rfl ?_
      refine y_castY hg cf6 y3 q569 (List.mem_of_getElem? (i := 0) rfl) dX0_tellMisfit_51 ?_
      refine y_astore_n hg dX0_tellMisfit_54 (by decide) (lv1 := [(0, _), (1, _), (2, _), (3, _)]) rfl ?_
      refine y_aload_n hg dX0_tellMisfit_55 rfl ?_
      refine y_getiN (j := 6) hg cf6 y3 (by decide) rfl nf10 dX0_tellMisfit_56 ?_
      refine y_goto hg 64 dX0_tellMisfit_59 (by decide) ?_
      exact y_iret hg hr ⟨_, rfl, y4, rfl⟩ dX0_tellMisfit_64 (Nat.le_refl _) (Nat.le_refl _)
  · refine y_tsOut hg 65 dX0_tellMisfit_1 (Or.inr (by decide)) (by decide) ?_
    refine y_aload_n hg dX0_tellMisfit_65 rfl ?_
    rcases hco with ⟨z1, z2, z3⟩ | ⟨a, y1, y2, y3, y4, y5⟩
    · refine y_gc (jC := 1) (co := none) hg cf5 hk (by decide) rfl rfl z1 (fun h => by cases h) q790 q797 dX0_tellMisfit_66 (by decide) (by decide) ?_
      refine y_astoreN hg dX0_tellMisfit_69 (by decide) (lv1 := [(0, _), (1, _), (3, _)]) rfl ?_
      refine y_aloadN hg dX0_tellMisfit_70 rfl ?_
      refine y_instN hg dX0_tellMisfit_71 ?_
      refine y_if_eq hg 89 dX0_tellMisfit_74 (by decide) (fun _ => ?_) (fun hF => absurd rfl hF)
      refine y_iconst (v := 0) hg dX0_tellMisfit_89 rfl ?_
      exact y_iret hg hr ⟨_, rfl, z3.symm, rfl⟩ dX0_tellMisfit_90 (Nat.le_refl _) (Nat.le_refl _)
    · refine y_gc (jC := 1) (co := some (B.1 + a)) hg cf5 hk (by decide) rfl rfl y1 (fun h => y2 (by injection h; omega)) q790 q797 dX0_tellMisfit_66 (by decide) (by decide) ?_
      refine y_astore_n hg dX0_tellMisfit_69 (by decide) (lv1 := [(0, _), (1, _), (3, _)]) rfl ?_
      refine y_aload_n hg dX0_tellMisfit_70 rfl ?_
      refine y_instY hg cf6 y3 q569 (List.mem_of_getElem? (i := 0) rfl) dX0_tellMisfit_71 ?_
      refine y_if_eq hg 89 dX0_tellMisfit_74 (by decide) (fun hT => absurd hT (by decide)) (fun _ => ?_)
      refine y_aload_n hg dX0_tellMisfit_77 rfl ?_
      refine y_castY hg cf6 y3 q569 (List.mem_of_getElem? (i := 0) rfl) dX0_tellMisfit_78 ?_
      refine y_astore_n hg dX0_tellMisfit_81 (by decide) (lv1 := [(0, _), (1, _), (2, _), (3, _)]) rfl ?_
      refine y_aload_n hg dX0_tellMisfit_82 rfl ?_
      refine y_getiN (j := 7) hg cf6 y3 (by decide) rfl nf11 dX0_tellMisfit_83 ?_
      refine y_goto hg 90 dX0_tellMisfit_86 (by decide) ?_
      exact y_iret hg hr ⟨_, rfl, y5, rfl⟩ dX0_tellMisfit_90 (Nat.le_refl _) (Nat.le_refl _)
theorem cReason_7 : MT l B 0 0 0 yX8_reason cX8_reason 1 (some .int) [.ref (B.1 + k)] σ (pI fun r σ' => r = nI 3 ∧ σ' = σ) := by
  refine MT.of (by decide) (Nat.le_of_ble_eq_true rfl) (fun g hg hr => ?_)
  refine y_iconst (v := nI 3) hg dX8_reason_0 rfl ?_
  exact y_iret hg hr ⟨_, rfl, rfl, rfl⟩ dX8_reason_1 (Nat.le_refl _) (Nat.le_refl _)
theorem cPlace_7 (hk : KO σ k 7) : MT l B 0 0 0 yX4_place cX4_place 1 (some .int) [.ref (B.1 + k)] σ (pI fun r σ' => r = σ.2.2.1 k 0 ∧ σ' = σ) := by
  refine MT.of (by decide) (Nat.le_of_ble_eq_true rfl) (fun g hg hr => ?_)
  refine y_aload_n hg dX4_place_0 rfl ?_
  refine y_geti (j := 0) hg cf7 hk (by decide) rfl q629 dX4_place_1 ?_
  exact y_iret hg hr ⟨_, rfl, rfl, rfl⟩ dX4_place_4 (Nat.le_refl _) (Nat.le_refl _)
theorem cTell_7 (hk : KO σ k 7) {pl lt mn : Int32} (hpl : σ.2.2.1 k 0 = pl) (hco : Cau B σ k lt mn) {v : Nat} (hv : v ≤ 3) : MT l B 8 0 0 yX0_tellMisfit cX0_tellMisfit 4 (some .int) [.ref (B.1 + k), .int (nI v)] σ (pI fun r σ' => r = tlV (nI 3) pl lt mn v ∧ σ' = σ) := by
  refine MT.of (by decide) (Nat.le_of_ble_eq_true rfl) (fun g hg hr => ?_)
  refine y_iload_n hg dX0_tellMisfit_0 rfl ?_
  have h4 : v = 0 ∨ v = 1 ∨ v = 2 ∨ v = 3 := by omega
  rcases h4 with rfl | rfl | rfl | rfl
  · refine y_tsIn hg 28 dX0_tellMisfit_1 (by decide) (by decide) rfl (by decide) ?_
    refine y_aload_n hg dX0_tellMisfit_28 rfl ?_
    refine y_callU (x := ⟨"BagPhrases$Misfit", "reason", "()I"⟩) (owner := "BagPhrases$Misfit") (As := []) (rest := []) hg cReason_7 q770 q97 ⟨by decide, by decide, by decide +kernel⟩ q759 q761 dcl_reason q768 q769 (by decide) hk cf7 rfl rfl (by decide) (Nat.le_refl _) (Nat.le_refl _) (by decide) dX0_tellMisfit_29 (fun v σ1 h => ?_)
    obtain ⟨r, rfl, rfl, rfl⟩ := h
    exact y_iret hg hr ⟨_, rfl, rfl, rfl⟩ dX0_tellMisfit_32 (Nat.le_refl _) (Nat.le_refl _)
  · refine y_tsIn hg 33 dX0_tellMisfit_1 (by decide) (by decide) rfl (by decide) ?_
    refine y_aload_n hg dX0_tellMisfit_33 rfl ?_
    refine y_callU (x := ⟨"BagPhrases$Misfit", "place", "()I"⟩) (owner := "BagPhrases$Misfit") (As := []) (rest := []) hg (cPlace_7 hk) q789 q93 ⟨by decide, by decide, by decide +kernel⟩ q780 q782 dcl_place q785 q781 (by decide) hk cf7 rfl rfl (by decide) (Nat.le_refl _) (Nat.le_refl _) (by decide) dX0_tellMisfit_34 (fun v σ1 h => ?_)
    obtain ⟨r, rfl, rfl, rfl⟩ := h
    exact y_iret hg hr ⟨_, rfl, hpl, rfl⟩ dX0_tellMisfit_37 (Nat.le_refl _) (Nat.le_refl _)
  · refine y_tsIn hg 38 dX0_tellMisfit_1 (by decide) (by decide) rfl (by decide) ?_
    refine y_aload_n hg dX0_tellMisfit_38 rfl ?_
    rcases hco with ⟨z1, z2, z3⟩ | ⟨a, y1, y2, y3, y4, y5⟩
    · refine y_gc (jC := 1) (co := none) hg cf7 hk (by decide) rfl rfl z1 (fun h => by cases h) q790 q795 dX0_tellMisfit_39 (by decide) (by decide) ?_
      refine y_astoreN hg dX0_tellMisfit_42 (by decide) (lv1 := [(0, _), (1, _), (3, _)]) rfl ?_
      refine y_aloadN hg dX0_tellMisfit_43 rfl ?_
      refine y_instN hg dX0_tellMisfit_44 ?_
      refine y_if_eq hg 62 dX0_tellMisfit_47 (by decide) (fun _ => ?_) (fun hF => absurd rfl hF)
      refine y_bipush (v := -9) hg dX0_tellMisfit_62 rfl ?_
      exact y_iret hg hr ⟨_, rfl, z2.symm, rfl⟩ dX0_tellMisfit_64 (Nat.le_refl _) (Nat.le_refl _)
    · refine y_gc (jC := 1) (co := some (B.1 + a)) hg cf7 hk (by decide) rfl rfl y1 (fun h => y2 (by injection h; omega)) q790 q795 dX0_tellMisfit_39 (by decide) (by decide) ?_
      refine y_astore_n hg dX0_tellMisfit_42 (by decide) (lv1 := [(0, _), (1, _), (3, _)]) rfl ?_
      refine y_aload_n hg dX0_tellMisfit_43 rfl ?_
      refine y_instY hg cf6 y3 q569 (List.mem_of_getElem? (i := 0) rfl) dX0_tellMisfit_44 ?_
      refine y_if_eq hg 62 dX0_tellMisfit_47 (by decide) (fun hT => absurd hT (by decide)) (fun _ => ?_)
      refine y_aload_n hg dX0_tellMisfit_50 rfl ?_
      refine y_castY hg cf6 y3 q569 (List.mem_of_getElem? (i := 0) rfl) dX0_tellMisfit_51 ?_
      refine y_astore_n hg dX0_tellMisfit_54 (by decide) (lv1 := [(0, _), (1, _), (2, _), (3, _)]) rfl ?_
      refine y_aload_n hg dX0_tellMisfit_55 rfl ?_
      refine y_getiN (j := 6) hg cf6 y3 (by decide) rfl nf10 dX0_tellMisfit_56 ?_
      refine y_goto hg 64 dX0_tellMisfit_59 (by decide) ?_
      exact y_iret hg hr ⟨_, rfl, y4, rfl⟩ dX0_tellMisfit_64 (Nat.le_refl _) (Nat.le_refl _)
  · refine y_tsOut hg 65 dX0_tellMisfit_1 (Or.inr (by decide)) (by decide) ?_
    refine y_aload_n hg dX0_tellMisfit_65 rfl ?_
    rcases hco with ⟨z1, z2, z3⟩ | ⟨a, y1, y2, y3, y4, y5⟩
    · refine y_gc (jC := 1) (co := none) hg cf7 hk (by decide) rfl rfl z1 (fun h => by cases h) q790 q795 dX0_tellMisfit_66 (by decide) (by decide) ?_
      refine y_astoreN hg dX0_tellMisfit_69 (by decide) (lv1 := [(0, _), (1, _), (3, _)]) rfl ?_
      refine y_aloadN hg dX0_tellMisfit_70 rfl ?_
      refine y_instN hg dX0_tellMisfit_71 ?_
      refine y_if_eq hg 89 dX0_tellMisfit_74 (by decide) (fun _ => ?_) (fun hF => absurd rfl hF)
      refine y_iconst (v := 0) hg dX0_tellMisfit_89 rfl ?_
      exact y_iret hg hr ⟨_, rfl, z3.symm, rfl⟩ dX0_tellMisfit_90 (Nat.le_refl _) (Nat.le_refl _)
    · refine y_gc (jC := 1) (co := some (B.1 + a)) hg cf7 hk (by decide) rfl rfl y1 (fun h => y2 (by injection h; omega)) q790 q795 dX0_tellMisfit_66 (by decide) (by decide) ?_
      refine y_astore_n hg dX0_tellMisfit_69 (by decide) (lv1 := [(0, _), (1, _), (3, _)]) rfl ?_
      refine y_aload_n hg dX0_tellMisfit_70 rfl ?_
      refine y_instY hg cf6 y3 q569 (List.mem_of_getElem? (i := 0) rfl) dX0_tellMisfit_71 ?_
      refine y_if_eq hg 89 dX0_tellMisfit_74 (by decide) (fun hT => absurd hT (by decide)) (fun _ => ?_)
      refine y_aload_n hg dX0_tellMisfit_77 rfl ?_
      refine y_castY hg cf6 y3 q569 (List.mem_of_getElem? (i := 0) rfl) dX0_tellMisfit_78 ?_
      refine y_astore_n hg dX0_tellMisfit_81 (by decide) (lv1 := [(0, _), (1, _), (2, _), (3, _)]) rfl ?_
      refine y_aload_n hg dX0_tellMisfit_82 rfl ?_
      refine y_getiN (j := 7) hg cf6 y3 (by decide) rfl nf11 dX0_tellMisfit_83 ?_
      refine y_goto hg 90 dX0_tellMisfit_86 (by decide) ?_
      exact y_iret hg hr ⟨_, rfl, y5, rfl⟩ dX0_tellMisfit_90 (Nat.le_refl _) (Nat.le_refl _)
theorem cReason_8 : MT l B 0 0 0 yX9_reason cX9_reason 1 (some .int) [.ref (B.1 + k)] σ (pI fun r σ' => r = nI 6 ∧ σ' = σ) := by
  refine MT.of (by decide) (Nat.le_of_ble_eq_true rfl) (fun g hg hr => ?_)
  refine y_bipush (v := nI 6) hg dX9_reason_0 rfl ?_
  exact y_iret hg hr ⟨_, rfl, rfl, rfl⟩ dX9_reason_2 (Nat.le_refl _) (Nat.le_refl _)
theorem cPlace_8 (hk : KO σ k 8) : MT l B 0 0 0 yX4_place cX4_place 1 (some .int) [.ref (B.1 + k)] σ (pI fun r σ' => r = σ.2.2.1 k 0 ∧ σ' = σ) := by
  refine MT.of (by decide) (Nat.le_of_ble_eq_true rfl) (fun g hg hr => ?_)
  refine y_aload_n hg dX4_place_0 rfl ?_
  refine y_geti (j := 0) hg cf8 hk (by decide) rfl q629 dX4_place_1 ?_
  exact y_iret hg hr ⟨_, rfl, rfl, rfl⟩ dX4_place_4 (Nat.le_refl _) (Nat.le_refl _)
theorem cTell_8 (hk : KO σ k 8) {pl lt mn : Int32} (hpl : σ.2.2.1 k 0 = pl) (hco : Cau B σ k lt mn) {v : Nat} (hv : v ≤ 3) : MT l B 8 0 0 yX0_tellMisfit cX0_tellMisfit 4 (some .int) [.ref (B.1 + k), .int (nI v)] σ (pI fun r σ' => r = tlV (nI 6) pl lt mn v ∧ σ' = σ) := by
  refine MT.of (by decide) (Nat.le_of_ble_eq_true rfl) (fun g hg hr => ?_)
  refine y_iload_n hg dX0_tellMisfit_0 rfl ?_
  have h4 : v = 0 ∨ v = 1 ∨ v = 2 ∨ v = 3 := by omega
  rcases h4 with rfl | rfl | rfl | rfl
  · refine y_tsIn hg 28 dX0_tellMisfit_1 (by decide) (by decide) rfl (by decide) ?_
    refine y_aload_n hg dX0_tellMisfit_28 rfl ?_
    refine y_callU (x := ⟨"BagPhrases$Misfit", "reason", "()I"⟩) (owner := "BagPhrases$Misfit") (As := []) (rest := []) hg cReason_8 q779 q98 ⟨by decide, by decide, by decide +kernel⟩ q759 q761 dcl_reason q777 q778 (by decide) hk cf8 rfl rfl (by decide) (Nat.le_refl _) (Nat.le_refl _) (by decide) dX0_tellMisfit_29 (fun v σ1 h => ?_)
    obtain ⟨r, rfl, rfl, rfl⟩ := h
    exact y_iret hg hr ⟨_, rfl, rfl, rfl⟩ dX0_tellMisfit_32 (Nat.le_refl _) (Nat.le_refl _)
  · refine y_tsIn hg 33 dX0_tellMisfit_1 (by decide) (by decide) rfl (by decide) ?_
    refine y_aload_n hg dX0_tellMisfit_33 rfl ?_
    refine y_callU (x := ⟨"BagPhrases$Misfit", "place", "()I"⟩) (owner := "BagPhrases$Misfit") (As := []) (rest := []) hg (cPlace_8 hk) q789 q93 ⟨by decide, by decide, by decide +kernel⟩ q780 q782 dcl_place q788 q781 (by decide) hk cf8 rfl rfl (by decide) (Nat.le_refl _) (Nat.le_refl _) (by decide) dX0_tellMisfit_34 (fun v σ1 h => ?_)
    obtain ⟨r, rfl, rfl, rfl⟩ := h
    exact y_iret hg hr ⟨_, rfl, hpl, rfl⟩ dX0_tellMisfit_37 (Nat.le_refl _) (Nat.le_refl _)
  · refine y_tsIn hg 38 dX0_tellMisfit_1 (by decide) (by decide) rfl (by decide) ?_
    refine y_aload_n hg dX0_tellMisfit_38 rfl ?_
    rcases hco with ⟨z1, z2, z3⟩ | ⟨a, y1, y2, y3, y4, y5⟩
    · refine y_gc (jC := 1) (co := none) hg cf8 hk (by decide) rfl rfl z1 (fun h => by cases h) q790 q798 dX0_tellMisfit_39 (by decide) (by decide) ?_
      refine y_astoreN hg dX0_tellMisfit_42 (by decide) (lv1 := [(0, _), (1, _), (3, _)]) rfl ?_
      refine y_aloadN hg dX0_tellMisfit_43 rfl ?_
      refine y_instN hg dX0_tellMisfit_44 ?_
      refine y_if_eq hg 62 dX0_tellMisfit_47 (by decide) (fun _ => ?_) (fun hF => absurd rfl hF)
      refine y_bipush (v := -9) hg dX0_tellMisfit_62 rfl ?_
      exact y_iret hg hr ⟨_, rfl, z2.symm, rfl⟩ dX0_tellMisfit_64 (Nat.le_refl _) (Nat.le_refl _)
    · refine y_gc (jC := 1) (co := some (B.1 + a)) hg cf8 hk (by decide) rfl rfl y1 (fun h => y2 (by injection h; omega)) q790 q798 dX0_tellMisfit_39 (by decide) (by decide) ?_
      refine y_astore_n hg dX0_tellMisfit_42 (by decide) (lv1 := [(0, _), (1, _), (3, _)]) rfl ?_
      refine y_aload_n hg dX0_tellMisfit_43 rfl ?_
      refine y_instY hg cf6 y3 q569 (List.mem_of_getElem? (i := 0) rfl) dX0_tellMisfit_44 ?_
      refine y_if_eq hg 62 dX0_tellMisfit_47 (by decide) (fun hT => absurd hT (by decide)) (fun _ => ?_)
      refine y_aload_n hg dX0_tellMisfit_50 rfl ?_
      refine y_castY hg cf6 y3 q569 (List.mem_of_getElem? (i := 0) rfl) dX0_tellMisfit_51 ?_
      refine y_astore_n hg dX0_tellMisfit_54 (by decide) (lv1 := [(0, _), (1, _), (2, _), (3, _)]) rfl ?_
      refine y_aload_n hg dX0_tellMisfit_55 rfl ?_
      refine y_getiN (j := 6) hg cf6 y3 (by decide) rfl nf10 dX0_tellMisfit_56 ?_
      refine y_goto hg 64 dX0_tellMisfit_59 (by decide) ?_
      exact y_iret hg hr ⟨_, rfl, y4, rfl⟩ dX0_tellMisfit_64 (Nat.le_refl _) (Nat.le_refl _)
  · refine y_tsOut hg 65 dX0_tellMisfit_1 (Or.inr (by decide)) (by decide) ?_
    refine y_aload_n hg dX0_tellMisfit_65 rfl ?_
    rcases hco with ⟨z1, z2, z3⟩ | ⟨a, y1, y2, y3, y4, y5⟩
    · refine y_gc (jC := 1) (co := none) hg cf8 hk (by decide) rfl rfl z1 (fun h => by cases h) q790 q798 dX0_tellMisfit_66 (by decide) (by decide) ?_
      refine y_astoreN hg dX0_tellMisfit_69 (by decide) (lv1 := [(0, _), (1, _), (3, _)]) rfl ?_
      refine y_aloadN hg dX0_tellMisfit_70 rfl ?_
      refine y_instN hg dX0_tellMisfit_71 ?_
      refine y_if_eq hg 89 dX0_tellMisfit_74 (by decide) (fun _ => ?_) (fun hF => absurd rfl hF)
      refine y_iconst (v := 0) hg dX0_tellMisfit_89 rfl ?_
      exact y_iret hg hr ⟨_, rfl, z3.symm, rfl⟩ dX0_tellMisfit_90 (Nat.le_refl _) (Nat.le_refl _)
    · refine y_gc (jC := 1) (co := some (B.1 + a)) hg cf8 hk (by decide) rfl rfl y1 (fun h => y2 (by injection h; omega)) q790 q798 dX0_tellMisfit_66 (by decide) (by decide) ?_
      refine y_astore_n hg dX0_tellMisfit_69 (by decide) (lv1 := [(0, _), (1, _), (3, _)]) rfl ?_
      refine y_aload_n hg dX0_tellMisfit_70 rfl ?_
      refine y_instY hg cf6 y3 q569 (List.mem_of_getElem? (i := 0) rfl) dX0_tellMisfit_71 ?_
      refine y_if_eq hg 89 dX0_tellMisfit_74 (by decide) (fun hT => absurd hT (by decide)) (fun _ => ?_)
      refine y_aload_n hg dX0_tellMisfit_77 rfl ?_
      refine y_castY hg cf6 y3 q569 (List.mem_of_getElem? (i := 0) rfl) dX0_tellMisfit_78 ?_
      refine y_astore_n hg dX0_tellMisfit_81 (by decide) (lv1 := [(0, _), (1, _), (2, _), (3, _)]) rfl ?_
      refine y_aload_n hg dX0_tellMisfit_82 rfl ?_
      refine y_getiN (j := 7) hg cf6 y3 (by decide) rfl nf11 dX0_tellMisfit_83 ?_
      refine y_goto hg 90 dX0_tellMisfit_86 (by decide) ?_
      exact y_iret hg hr ⟨_, rfl, y5, rfl⟩ dX0_tellMisfit_90 (Nat.le_refl _) (Nat.le_refl _)
theorem cReason_9 : MT l B 0 0 0 yX10_reason cX10_reason 1 (some .int) [.ref (B.1 + k)] σ (pI fun r σ' => r = nI 4 ∧ σ' = σ) := by
  refine MT.of (by decide) (Nat.le_of_ble_eq_true rfl) (fun g hg hr => ?_)
  refine y_iconst (v := nI 4) hg dX10_reason_0 rfl ?_
  exact y_iret hg hr ⟨_, rfl, rfl, rfl⟩ dX10_reason_1 (Nat.le_refl _) (Nat.le_refl _)
theorem cPlace_9 (hk : KO σ k 9) : MT l B 0 0 0 yX4_place cX4_place 1 (some .int) [.ref (B.1 + k)] σ (pI fun r σ' => r = σ.2.2.1 k 0 ∧ σ' = σ) := by
  refine MT.of (by decide) (Nat.le_of_ble_eq_true rfl) (fun g hg hr => ?_)
  refine y_aload_n hg dX4_place_0 rfl ?_
  refine y_geti (j := 0) hg cf9 hk (by decide) rfl q629 dX4_place_1 ?_
  exact y_iret hg hr ⟨_, rfl, rfl, rfl⟩ dX4_place_4 (Nat.le_refl _) (Nat.le_refl _)
theorem cTell_9 (hk : KO σ k 9) {pl lt mn : Int32} (hpl : σ.2.2.1 k 0 = pl) (hco : Cau B σ k lt mn) {v : Nat} (hv : v ≤ 3) : MT l B 8 0 0 yX0_tellMisfit cX0_tellMisfit 4 (some .int) [.ref (B.1 + k), .int (nI v)] σ (pI fun r σ' => r = tlV (nI 4) pl lt mn v ∧ σ' = σ) := by
  refine MT.of (by decide) (Nat.le_of_ble_eq_true rfl) (fun g hg hr => ?_)
  refine y_iload_n hg dX0_tellMisfit_0 rfl ?_
  have h4 : v = 0 ∨ v = 1 ∨ v = 2 ∨ v = 3 := by omega
  rcases h4 with rfl | rfl | rfl | rfl
  · refine y_tsIn hg 28 dX0_tellMisfit_1 (by decide) (by decide) rfl (by decide) ?_
    refine y_aload_n hg dX0_tellMisfit_28 rfl ?_
    refine y_callU (x := ⟨"BagPhrases$Misfit", "reason", "()I"⟩) (owner := "BagPhrases$Misfit") (As := []) (rest := []) hg cReason_9 q767 q99 ⟨by decide, by decide, by decide +kernel⟩ q759 q761 dcl_reason q765 q766 (by decide) hk cf9 rfl rfl (by decide) (Nat.le_refl _) (Nat.le_refl _) (by decide) dX0_tellMisfit_29 (fun v σ1 h => ?_)
    obtain ⟨r, rfl, rfl, rfl⟩ := h
    exact y_iret hg hr ⟨_, rfl, rfl, rfl⟩ dX0_tellMisfit_32 (Nat.le_refl _) (Nat.le_refl _)
  · refine y_tsIn hg 33 dX0_tellMisfit_1 (by decide) (by decide) rfl (by decide) ?_
    refine y_aload_n hg dX0_tellMisfit_33 rfl ?_
    refine y_callU (x := ⟨"BagPhrases$Misfit", "place", "()I"⟩) (owner := "BagPhrases$Misfit") (As := []) (rest := []) hg (cPlace_9 hk) q789 q93 ⟨by decide, by decide, by decide +kernel⟩ q780 q782 dcl_place q784 q781 (by decide) hk cf9 rfl rfl (by decide) (Nat.le_refl _) (Nat.le_refl _) (by decide) dX0_tellMisfit_34 (fun v σ1 h => ?_)
    obtain ⟨r, rfl, rfl, rfl⟩ := h
    exact y_iret hg hr ⟨_, rfl, hpl, rfl⟩ dX0_tellMisfit_37 (Nat.le_refl _) (Nat.le_refl _)
  · refine y_tsIn hg 38 dX0_tellMisfit_1 (by decide) (by decide) rfl (by decide) ?_
    refine y_aload_n hg dX0_tellMisfit_38 rfl ?_
    rcases hco with ⟨z1, z2, z3⟩ | ⟨a, y1, y2, y3, y4, y5⟩
    · refine y_gc (jC := 1) (co := none) hg cf9 hk (by decide) rfl rfl z1 (fun h => by cases h) q790 q794 dX0_tellMisfit_39 (by decide) (by decide) ?_
      refine y_astoreN hg dX0_tellMisfit_42 (by decide) (lv1 := [(0, _), (1, _), (3, _)]) rfl ?_
      refine y_aloadN hg dX0_tellMisfit_43 rfl ?_
      refine y_instN hg dX0_tellMisfit_44 ?_
      refine y_if_eq hg 62 dX0_tellMisfit_47 (by decide) (fun _ => ?_) (fun hF => absurd rfl hF)
      refine y_bipush (v := -9) hg dX0_tellMisfit_62 rfl ?_
      exact y_iret hg hr ⟨_, rfl, z2.symm, rfl⟩ dX0_tellMisfit_64 (Nat.le_refl _) (Nat.le_refl _)
    · refine y_gc (jC := 1) (co := some (B.1 + a)) hg cf9 hk (by decide) rfl rfl y1 (fun h => y2 (by injection h; omega)) q790 q794 dX0_tellMisfit_39 (by decide) (by decide) ?_
      refine y_astore_n hg dX0_tellMisfit_42 (by decide) (lv1 := [(0, _), (1, _), (3, _)]) rfl ?_
      refine y_aload_n hg dX0_tellMisfit_43 rfl ?_
      refine y_instY hg cf6 y3 q569 (List.mem_of_getElem? (i := 0) rfl) dX0_tellMisfit_44 ?_
      refine y_if_eq hg 62 dX0_tellMisfit_47 (by decide) (fun hT => absurd hT (by decide)) (fun _ => ?_)
      refine y_aload_n hg dX0_tellMisfit_50 rfl ?_
      refine y_castY hg cf6 y3 q569 (List.mem_of_getElem? (i := 0) rfl) dX0_tellMisfit_51 ?_
      refine y_astore_n hg dX0_tellMisfit_54 (by decide) (lv1 := [(0, _), (1, _), (2, _), (3, _)]) rfl ?_
      refine y_aload_n hg dX0_tellMisfit_55 rfl ?_
      refine y_getiN (j := 6) hg cf6 y3 (by decide) rfl nf10 dX0_tellMisfit_56 ?_
      refine y_goto hg 64 dX0_tellMisfit_59 (by decide) ?_
      exact y_iret hg hr ⟨_, rfl, y4, rfl⟩ dX0_tellMisfit_64 (Nat.le_refl _) (Nat.le_refl _)
  · refine y_tsOut hg 65 dX0_tellMisfit_1 (Or.inr (by decide)) (by decide) ?_
    refine y_aload_n hg dX0_tellMisfit_65 rfl ?_
    rcases hco with ⟨z1, z2, z3⟩ | ⟨a, y1, y2, y3, y4, y5⟩
    · refine y_gc (jC := 1) (co := none) hg cf9 hk (by decide) rfl rfl z1 (fun h => by cases h) q790 q794 dX0_tellMisfit_66 (by decide) (by decide) ?_
      refine y_astoreN hg dX0_tellMisfit_69 (by decide) (lv1 := [(0, _), (1, _), (3, _)]) rfl ?_
      refine y_aloadN hg dX0_tellMisfit_70 rfl ?_
      refine y_instN hg dX0_tellMisfit_71 ?_
      refine y_if_eq hg 89 dX0_tellMisfit_74 (by decide) (fun _ => ?_) (fun hF => absurd rfl hF)
      refine y_iconst (v := 0) hg dX0_tellMisfit_89 rfl ?_
      exact y_iret hg hr ⟨_, rfl, z3.symm, rfl⟩ dX0_tellMisfit_90 (Nat.le_refl _) (Nat.le_refl _)
    · refine y_gc (jC := 1) (co := some (B.1 + a)) hg cf9 hk (by decide) rfl rfl y1 (fun h => y2 (by injection h; omega)) q790 q794 dX0_tellMisfit_66 (by decide) (by decide) ?_
      refine y_astore_n hg dX0_tellMisfit_69 (by decide) (lv1 := [(0, _), (1, _), (3, _)]) rfl ?_
      refine y_aload_n hg dX0_tellMisfit_70 rfl ?_
      refine y_instY hg cf6 y3 q569 (List.mem_of_getElem? (i := 0) rfl) dX0_tellMisfit_71 ?_
      refine y_if_eq hg 89 dX0_tellMisfit_74 (by decide) (fun hT => absurd hT (by decide)) (fun _ => ?_)
      refine y_aload_n hg dX0_tellMisfit_77 rfl ?_
      refine y_castY hg cf6 y3 q569 (List.mem_of_getElem? (i := 0) rfl) dX0_tellMisfit_78 ?_
      refine y_astore_n hg dX0_tellMisfit_81 (by decide) (lv1 := [(0, _), (1, _), (2, _), (3, _)]) rfl ?_
      refine y_aload_n hg dX0_tellMisfit_82 rfl ?_
      refine y_getiN (j := 7) hg cf6 y3 (by decide) rfl nf11 dX0_tellMisfit_83 ?_
      refine y_goto hg 90 dX0_tellMisfit_86 (by decide) ?_
      exact y_iret hg hr ⟨_, rfl, y5, rfl⟩ dX0_tellMisfit_90 (Nat.le_refl _) (Nat.le_refl _)
theorem cReason_10 : MT l B 0 0 0 yX11_reason cX11_reason 1 (some .int) [.ref (B.1 + k)] σ (pI fun r σ' => r = nI 5 ∧ σ' = σ) := by
  refine MT.of (by decide) (Nat.le_of_ble_eq_true rfl) (fun g hg hr => ?_)
  refine y_iconst (v := nI 5) hg dX11_reason_0 rfl ?_
  exact y_iret hg hr ⟨_, rfl, rfl, rfl⟩ dX11_reason_1 (Nat.le_refl _) (Nat.le_refl _)
theorem cPlace_10 (hk : KO σ k 10) : MT l B 0 0 0 yX4_place cX4_place 1 (some .int) [.ref (B.1 + k)] σ (pI fun r σ' => r = σ.2.2.1 k 0 ∧ σ' = σ) := by
  refine MT.of (by decide) (Nat.le_of_ble_eq_true rfl) (fun g hg hr => ?_)
  refine y_aload_n hg dX4_place_0 rfl ?_
  refine y_geti (j := 0) hg cf10 hk (by decide) rfl q629 dX4_place_1 ?_
  exact y_iret hg hr ⟨_, rfl, rfl, rfl⟩ dX4_place_4 (Nat.le_refl _) (Nat.le_refl _)
theorem cTell_10 (hk : KO σ k 10) {pl lt mn : Int32} (hpl : σ.2.2.1 k 0 = pl) (hco : Cau B σ k lt mn) {v : Nat} (hv : v ≤ 3) : MT l B 8 0 0 yX0_tellMisfit cX0_tellMisfit 4 (some .int) [.ref (B.1 + k), .int (nI v)] σ (pI fun r σ' => r = tlV (nI 5) pl lt mn v ∧ σ' = σ) := by
  refine MT.of (by decide) (Nat.le_of_ble_eq_true rfl) (fun g hg hr => ?_)
  refine y_iload_n hg dX0_tellMisfit_0 rfl ?_
  have h4 : v = 0 ∨ v = 1 ∨ v = 2 ∨ v = 3 := by omega
  rcases h4 with rfl | rfl | rfl | rfl
  · refine y_tsIn hg 28 dX0_tellMisfit_1 (by decide) (by decide) rfl (by decide) ?_
    refine y_aload_n hg dX0_tellMisfit_28 rfl ?_
    refine y_callU (x := ⟨"BagPhrases$Misfit", "reason", "()I"⟩) (owner := "BagPhrases$Misfit") (As := []) (rest := []) hg cReason_10 q773 q100 ⟨by decide, by decide, by decide +kernel⟩ q759 q761 dcl_reason q771 q772 (by decide) hk cf10 rfl rfl (by decide) (Nat.le_refl _) (Nat.le_refl _) (by decide) dX0_tellMisfit_29 (fun v σ1 h => ?_)
    obtain ⟨r, rfl, rfl, rfl⟩ := h
    exact y_iret hg hr ⟨_, rfl, rfl, rfl⟩ dX0_tellMisfit_32 (Nat.le_refl _) (Nat.le_refl _)
  · refine y_tsIn hg 33 dX0_tellMisfit_1 (by decide) (by decide) rfl (by decide) ?_
    refine y_aload_n hg dX0_tellMisfit_33 rfl ?_
    refine y_callU (x := ⟨"BagPhrases$Misfit", "place", "()I"⟩) (owner := "BagPhrases$Misfit") (As := []) (rest := []) hg (cPlace_10 hk) q789 q93 ⟨by decide, by decide, by decide +kernel⟩ q780 q782 dcl_place q786 q781 (by decide) hk cf10 rfl rfl (by decide) (Nat.le_refl _) (Nat.le_refl _) (by decide) dX0_tellMisfit_34 (fun v σ1 h => ?_)
    obtain ⟨r, rfl, rfl, rfl⟩ := h
    exact y_iret hg hr ⟨_, rfl, hpl, rfl⟩ dX0_tellMisfit_37 (Nat.le_refl _) (Nat.le_refl _)
  · refine y_tsIn hg 38 dX0_tellMisfit_1 (by decide) (by decide) rfl (by decide) ?_
    refine y_aload_n hg dX0_tellMisfit_38 rfl ?_
    rcases hco with ⟨z1, z2, z3⟩ | ⟨a, y1, y2, y3, y4, y5⟩
    · refine y_gc (jC := 1) (co := none) hg cf10 hk (by decide) rfl rfl z1 (fun h => by cases h) q790 q796 dX0_tellMisfit_39 (by decide) (by decide) ?_
      refine y_astoreN hg dX0_tellMisfit_42 (by decide) (lv1 := [(0, _), (1, _), (3, _)]) rfl ?_
      refine y_aloadN hg dX0_tellMisfit_43 rfl ?_
      refine y_instN hg dX0_tellMisfit_44 ?_
      refine y_if_eq hg 62 dX0_tellMisfit_47 (by decide) (fun _ => ?_) (fun hF => absurd rfl hF)
      refine y_bipush (v := -9) hg dX0_tellMisfit_62 rfl ?_
      exact y_iret hg hr ⟨_, rfl, z2.symm, rfl⟩ dX0_tellMisfit_64 (Nat.le_refl _) (Nat.le_refl _)
    · refine y_gc (jC := 1) (co := some (B.1 + a)) hg cf10 hk (by decide) rfl rfl y1 (fun h => y2 (by injection h; omega)) q790 q796 dX0_tellMisfit_39 (by decide) (by decide) ?_
      refine y_astore_n hg dX0_tellMisfit_42 (by decide) (lv1 := [(0, _), (1, _), (3, _)]) rfl ?_
      refine y_aload_n hg dX0_tellMisfit_43 rfl ?_
      refine y_instY hg cf6 y3 q569 (List.mem_of_getElem? (i := 0) rfl) dX0_tellMisfit_44 ?_
      refine y_if_eq hg 62 dX0_tellMisfit_47 (by decide) (fun hT => absurd hT (by decide)) (fun _ => ?_)
      refine y_aload_n hg dX0_tellMisfit_50 rfl ?_
      refine y_castY hg cf6 y3 q569 (List.mem_of_getElem? (i := 0) rfl) dX0_tellMisfit_51 ?_
      refine y_astore_n hg dX0_tellMisfit_54 (by decide) (lv1 := [(0, _), (1, _), (2, _), (3, _)]) rfl ?_
      refine y_aload_n hg dX0_tellMisfit_55 rfl ?_
      refine y_getiN (j := 6) hg cf6 y3 (by decide) rfl nf10 dX0_tellMisfit_56 ?_
      refine y_goto hg 64 dX0_tellMisfit_59 (by decide) ?_
      exact y_iret hg hr ⟨_, rfl, y4, rfl⟩ dX0_tellMisfit_64 (Nat.le_refl _) (Nat.le_refl _)
  · refine y_tsOut hg 65 dX0_tellMisfit_1 (Or.inr (by decide)) (by decide) ?_
    refine y_aload_n hg dX0_tellMisfit_65 rfl ?_
    rcases hco with ⟨z1, z2, z3⟩ | ⟨a, y1, y2, y3, y4, y5⟩
    · refine y_gc (jC := 1) (co := none) hg cf10 hk (by decide) rfl rfl z1 (fun h => by cases h) q790 q796 dX0_tellMisfit_66 (by decide) (by decide) ?_
      refine y_astoreN hg dX0_tellMisfit_69 (by decide) (lv1 := [(0, _), (1, _), (3, _)]) rfl ?_
      refine y_aloadN hg dX0_tellMisfit_70 rfl ?_
      refine y_instN hg dX0_tellMisfit_71 ?_
      refine y_if_eq hg 89 dX0_tellMisfit_74 (by decide) (fun _ => ?_) (fun hF => absurd rfl hF)
      refine y_iconst (v := 0) hg dX0_tellMisfit_89 rfl ?_
      exact y_iret hg hr ⟨_, rfl, z3.symm, rfl⟩ dX0_tellMisfit_90 (Nat.le_refl _) (Nat.le_refl _)
    · refine y_gc (jC := 1) (co := some (B.1 + a)) hg cf10 hk (by decide) rfl rfl y1 (fun h => y2 (by injection h; omega)) q790 q796 dX0_tellMisfit_66 (by decide) (by decide) ?_
      refine y_astore_n hg dX0_tellMisfit_69 (by decide) (lv1 := [(0, _), (1, _), (3, _)]) rfl ?_
      refine y_aload_n hg dX0_tellMisfit_70 rfl ?_
      refine y_instY hg cf6 y3 q569 (List.mem_of_getElem? (i := 0) rfl) dX0_tellMisfit_71 ?_
      refine y_if_eq hg 89 dX0_tellMisfit_74 (by decide) (fun hT => absurd hT (by decide)) (fun _ => ?_)
      refine y_aload_n hg dX0_tellMisfit_77 rfl ?_
      refine y_castY hg cf6 y3 q569 (List.mem_of_getElem? (i := 0) rfl) dX0_tellMisfit_78 ?_
      refine y_astore_n hg dX0_tellMisfit_81 (by decide) (lv1 := [(0, _), (1, _), (2, _), (3, _)]) rfl ?_
      refine y_aload_n hg dX0_tellMisfit_82 rfl ?_
      refine y_getiN (j := 7) hg cf6 y3 (by decide) rfl nf11 dX0_tellMisfit_83 ?_
      refine y_goto hg 90 dX0_tellMisfit_86 (by decide) ?_
      exact y_iret hg hr ⟨_, rfl, y5, rfl⟩ dX0_tellMisfit_90 (Nat.le_refl _) (Nat.le_refl _)
end Tell
theorem iX0_takeWord : MIw yX0_takeWord cX0_takeWord 4 none [(92, 102, 105, 343)] 1 := ⟨⟨by decide +kernel, by decide +kernel, by decide +kernel⟩, q573, qs35, q85, q574, by decide⟩
theorem iX0_check : MIw yX0_check cX0_check 2 none [(54, 58, 61, 343)] 0 := ⟨⟨by decide +kernel, by decide +kernel, by decide +kernel⟩, q567, qs34, q85, q568, by decide⟩
theorem iX0_why : MIw yX0_why cX0_why 3 (some .int) [(15, 19, 22, 348), (15, 19, 22, 352), (15, 19, 22, 372), (15, 19, 29, 385)] 1 := ⟨⟨by decide +kernel, by decide +kernel, by decide +kernel⟩, q558, q559, q85, q560, by decide⟩
theorem iX0_isPhrase : MIw yX0_isPhrase cX0_isPhrase 2 (some .boolean) [(0, 5, 6, 385)] 0 := ⟨⟨by decide +kernel, by decide +kernel, by decide +kernel⟩, q807, qs39, q85, q808, by decide⟩
