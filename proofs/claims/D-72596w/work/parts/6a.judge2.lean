section Judge2
variable {ll : Launch} {B : Bs} {σ : Mem} {A : Ab} {sd : Int64}
/-- the trial row of X -/
def TX (B : Bs) (A : Ab) (sd : Int64) (σ0 σ : Mem) (f : Nat → Int32) : Prop := WX B A sd σ0 σ ∧ ∀ j, j < 25 → rowOf σ 6 j = f j
theorem TX.stB {σ0 : Mem} {f : Nat → Int32} (hW : WFA A) (h : TX B A sd σ0 σ f) {x : Nat} {v : Int32} (hx : x < 8) : TX B A sd σ0 (setI σ (6 + 1) x v) (upf f x v) := by
  refine ⟨h.1.goR hW (Q := XE) ((FrR.rf).stI (by unfold XE; omega)) (fun a j z => z), fun i hi => ?_⟩
  rw [ro_setbag hx]
  by_cases e : i = x
  · subst e; rw [upf_s, upf_s]
  · rw [upf_n e, upf_n e]; exact h.2 i hi
theorem ro_set {k x : Nat} {v : Int32} (hx : x < 25) {j : Nat} (hj : j < 25) : rowOf (setI σ (rA k x) (rB x) v) k j = upf (rowOf σ k) x v j := by
  rw [ro_at]
  by_cases e : j = x
  · subst e; rw [upf_s, gI_s]
  · rw [upf_n e, gI_n (fun q => e (r_inj hj hx q.1 q.2)), ro_at]
theorem TX.stS {σ0 : Mem} {f : Nat → Int32} (hW : WFA A) (h : TX B A sd σ0 σ f) {v : Int32} : TX B A sd σ0 (setI σ 6 1 v) (upf f 8 v) := by
  refine ⟨h.1.goR hW (Q := XE) ((FrR.rf).stI (by unfold XE; omega)) (fun a j z => z), fun i hi => ?_⟩
  refine (ro_set (k := 6) (x := 8) (by omega) hi).trans ?_
  by_cases e : i = 8
  · subst e; rw [upf_s, upf_s]
  · rw [upf_n e, upf_n e]; exact h.2 i hi
theorem TX.stF {σ0 : Mem} {f : Nat → Int32} (hW : WFA A) (h : TX B A sd σ0 σ f) {k : Nat} {v : Int32} (hk : k < 4) : TX B A sd σ0 (setI σ (6 + 3) k v) (upf f (21 + k) v) := by
  refine ⟨h.1.goR hW (Q := XE) ((FrR.rf).stI (by unfold XE; omega)) (fun a j z => z), fun i hi => ?_⟩
  have q := ro_set (σ := σ) (k := 6) (x := 21 + k) (v := v) (by omega) hi
  rw [show rA 6 (21 + k) = 6 + 3 by unfold rA; rw [if_neg (by omega), if_neg (by omega), if_neg (by omega), if_neg (by omega), if_neg (by omega)], show rB (21 + k) = k by unfold rB; rw [if_neg (by omega), if_neg (by omega), if_neg (by omega), if_neg (by omega), if_neg (by omega)]; omega] at q
  refine q.trans ?_
  by_cases e : i = 21 + k
  · subst e; rw [upf_s, upf_s]
  · rw [upf_n e, upf_n e]; exact h.2 i hi
theorem TX.go {σ0 σ' : Mem} {f : Nat → Int32} {Q : Nat → Nat → Prop} (hW : WFA A) (h : TX B A sd σ0 σ f) (hf : Fr Q σ σ') (hq : ∀ a j, Q a j → XE a j ∧ ¬ (6 ≤ a ∧ a ≤ 9)) (h14 : σ'.2.2.2.2 0 14 = σ.2.2.2.2 0 14) (h15 : σ'.2.2.2.2 0 15 = σ.2.2.2.2 0 15) : TX B A sd σ0 σ' f :=
  ⟨h.1.go hW (hf.mono (fun a j z => (hq a j z).1)) h14 h15, fun j hj => (ro_fr hf h.1.1.1.s_trial (fun a j q1 q2 z => (hq a j z).2 ⟨q1, q2⟩) j).trans (h.2 j hj)⟩
theorem upf_id {f : Nat → Int32} {j : Nat} : upf f j (f j) = f := by
  funext i
  by_cases e : i = j
  · subst e; rw [upf_s]
  · rw [upf_n e]
theorem add_0 (x : Int32) : x + nI 0 = x := Int32.add_zero x
theorem sub_0 (x : Int32) : x - nI 0 = x := Int32.sub_zero x
section
variable {σ0 : Mem} {f : Nat → Int32}
theorem TX.bag (h : TX B A sd σ0 σ f) {x : Nat} (hx : x < 8) : σ.2.2.1 (6 + 1) x = f x := by rw [← h.2 x (by omega), ro_bag hx]
theorem TX.barred (h : TX B A sd σ0 σ f) : σ.2.2.1 6 1 = f 8 := by rw [← h.2 8 (by omega), ro_barred]
theorem TX.follows (h : TX B A sd σ0 σ f) {k : Nat} (hk : k < 4) : σ.2.2.1 (6 + 3) k = f (21 + k) := by rw [← h.2 (21 + k) (by omega), ro_follows]
theorem cX_tbag {l : Launch} (h : TX B A sd σ0 σ f) : MT l B 0 0 0 yX1_size cX1_size 3 (some .int) [.ref (B.1 + 6)] σ (pI fun r σ' => r = bagS f ∧ σ' = σ) := by
  have q := cX_size (l := l) h.1.1.1.s_trial
  rw [show fo (fun x n => n + σ.2.2.1 (6 + 1) x) 0 8 = bagS f from fo_congr 8 (fun x a hx => by rw [h.bag hx])] at q
  exact q
theorem cX_lookTrial (hW : WFA A) (h : TX B A sd σ0 σ f) (hf : WFr (nm A) f) : MT ll B 1 0 0 yX0_lookTrial cX0_lookTrial 1 none [.ref (B.1 + 0)] σ (pV fun σ' => PX B σ' (pb A f (uN f)) 6 ∧ MC σ' (pb A f (uN f)) ∧ MW0 σ' (pb A f (uN f)) ∧ TX B A sd σ0 σ' f) := by
  have hL := h.1.1.1
  have em := h.1.1.many.trans hW.1.1
  refine MT.of (by decide) (Nat.le_of_ble_eq_true rfl) (fun g hg hr => ?_)
  refine y_aload_n hg dX0_lookTrial_0 rfl ?_
  refine y_aload_n hg dX0_lookTrial_1 rfl ?_
  refine y_getr (j := 3) hg cf0 (hL.x) (by decide) rfl (hL.r_trial) q175 dX0_lookTrial_2 ?_
  refine y_aload_n hg dX0_lookTrial_5 rfl ?_
  refine y_cVi hg (cX_all hL) iX0_all q372 (hL.x) cf0 rfl rfl (by simp [Value.category]) (Nat.le_refl _) (Nat.le_refl _) (by decide) dX0_lookTrial_6 (fun r σ1 hp => ?_)
  obtain ⟨rfl, rfl⟩ := hp
  refine y_aload_n hg dX0_lookTrial_9 rfl ?_
  refine y_getr (j := 3) hg cf0 (hL.x) (by decide) rfl (hL.r_trial) q175 dX0_lookTrial_10 ?_
  refine y_getiN (j := 1) hg cf1 (hL.s_trial.o) (by decide) rfl nf1 dX0_lookTrial_13 ?_
  refine y_ti (h.barred) ?_
  refine y_iconst (v := -1) hg dX0_lookTrial_16 rfl ?_
  refine y_ixor hg dX0_lookTrial_17 ?_
  refine y_iand hg dX0_lookTrial_18 ?_
  refine y_cVv hg (cX_look (P := pb A f (uN f)) hL hL.s_trial (Or.inr rfl) (pb_wr hW hf) (h.1.1.wx hW) h.2 (fun w hw => by rw [em]; exact u_all hW.nmle hw)) iX0_look_2 q376 (hL.x) cf0 rfl rfl (by simp [Value.category]) (Nat.le_refl _) (Nat.le_refl _) (by decide) dX0_lookTrial_19 (fun σ2 hp => ?_)
  obtain ⟨q1, q2, q3, q4, q5, q6⟩ := hp
  refine y_vret hg hr ⟨rfl, ?_⟩ dX0_lookTrial_22 (Nat.le_refl _) (Nat.le_refl _)
  exact ⟨q1, q2, q3, h.go hW q4 (fun a j z => by unfold LkP at z; unfold XE; omega) q5 q6⟩
end
end Judge2

