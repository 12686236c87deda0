section LayW
variable {ll : Launch} {B : Bs} {σ : Mem} {A : Ab} {sd : Int64} {σ0 : Mem}
/-- how many phrases a set of words makes -/
def tp (A : Ab) (s : Nat) : Pb := pb A (A 11) (fun w => s.testBit w)
def tw (A : Ab) (s : Nat) : Nat := tot (tp A s)
theorem cX_layWorth (hW : WFA A) (hw0 : WX B A sd σ0 σ) {S : Nat} (hS : S < 2 ^ nm A) (hSb : ∀ k, k < nm A → S.testBit k = !bbA A k) : MT ll B 18 0 0 yX0_layWorth cX0_layWorth 3 none [.ref (B.1 + 0), .int (nI S)] σ (pV fun σ' => WX B A sd σ0 σ' ∧ ∀ s, s ≤ S → inS (bbA A) s (nm A) = true → σ'.2.2.2.1 86 s = lN (tw A s)) := by
  have hm := hW.nmle
  have h1024 := p1024 hm
  have hL := hw0.1.1
  have hP : ∀ s, WFP (tp A s) := fun s => pb_wr hW hW.now
  refine MT.of (by decide) (Nat.le_of_ble_eq_true rfl) (fun g hg hr => ?_)
  refine y_iconst (v := nI 0) hg dX0_layWorth_0 rfl ?_
  refine y_istore_n hg dX0_layWorth_1 (by decide) (lv1 := [(0, _), (1, _), (2, _)]) rfl ?_
  have LOOP := loop_st (S := Mem) (G := fun i s => YY g 3 s 0 0 2 [(0, .ref (B.1 + 0)), (1, .int (nI S)), (2, .int (nI i))] []) (I := fun i t => WX B A sd σ0 t ∧ ∀ s, s < i → inS (bbA A) s (nm A) = true → t.2.2.2.1 86 s = lN (tw A s)) (S + 1) ?_ ?_ 0 σ (Nat.zero_le _) ⟨hw0, fun s hs => by omega⟩
  · exact LOOP
  · intro i t hi hI ih
    obtain ⟨hwt, hv⟩ := hI
    have hL := hwt.1.1
    have hn := hL.n
    have hin := in_X (bb := bbA A) (s := i) hm (by omega) hSb
    refine y_iload_n hg dX0_layWorth_2 rfl ?_
    refine y_iload_n hg dX0_layWorth_3 rfl ?_
    refine y_icmp_gt hg 40 dX0_layWorth_4 (by decide) (fun hT => absurd hT (nI_nlt (by omega) (by omega))) (fun _ => ?_)
    refine y_iload_n hg dX0_layWorth_7 rfl ?_
    refine y_iload_n hg dX0_layWorth_8 rfl ?_
    refine y_iconst (v := -1) hg dX0_layWorth_9 rfl ?_
    refine y_ixor hg dX0_layWorth_10 ?_
    refine y_iand hg dX0_layWorth_11 ?_
    refine y_if_ne hg 34 dX0_layWorth_12 (by decide) (fun hc => ?_) (fun hc => ?_)
    · refine y_iinc hg dX0_layWorth_34 rfl (inc1 _) (by decide) (lv1 := [(0, _), (1, _), (2, _)]) rfl ?_
      refine y_goto hg 2 dX0_layWorth_37 (by decide) ?_
      refine ih _ ⟨hwt, fun s hs hss => ?_⟩
      by_cases e : s = i
      · subst e; exact absurd (hin.mpr hss) hc
      · exact hv s (by omega) hss
    · refine y_aload_n hg dX0_layWorth_15 rfl ?_
      refine y_aload_n hg dX0_layWorth_16 rfl ?_
      refine y_getr (j := 2) hg cf0 (hL.x) (by decide) rfl (hL.r_now) q174 dX0_layWorth_17 ?_
      refine y_iload_n hg dX0_layWorth_20 rfl ?_
      refine y_cVv hg (cX_look (P := tp A i) hL hL.s_now (Or.inl rfl) (hP i) (hwt.1.wx hW) (fun j hj => hwt.1.now hj) (fun w hw => hb_tb (Nat.lt_of_lt_of_le (Nat.lt_of_lt_of_le hw hm) (by decide)))) iX0_look_2 q376 (hL.x) cf0 rfl rfl (by simp [Value.category]) (Nat.le_refl _) (Nat.le_refl _) (by decide) dX0_layWorth_21 (fun σ2 hp => ?_)
      obtain ⟨q1, q2, q3, q4, q5, q6⟩ := hp
      have hw2 := hwt.go hW (q4.mono (fun a j q => by unfold LkP at q; unfold XE; omega)) q5 q6
      have hL := hw2.1.1
      refine y_aload_n hg dX0_layWorth_24 rfl ?_
      refine y_getr (j := 32) hg cf0 (hL.x) (by decide) rfl (hL.r_worth) q204 dX0_layWorth_25 ?_
      refine y_iload_n hg dX0_layWorth_28 rfl ?_
      refine y_aload_n hg dX0_layWorth_29 rfl ?_
      refine y_cVl hg (cX_countAll (hP i) q1 q2) iX0_countAll q404 (hL.x) cf0 rfl rfl (by simp [Value.category]) (Nat.le_refl _) (Nat.le_refl _) (by decide) dX0_layWorth_30 (fun r σ3 hp => ?_)
      obtain ⟨rfl, hf3, hC3⟩ := hp
      have hw3 := hw2.goR hW hf3 (fun a j q => by unfold XE; omega)
      have hL := hw3.1.1
      have hn2 := hw2.1.1.n
      refine y_last hg _ (hL.k_worth) rfl (by omega) dX0_layWorth_33 ?_
      refine y_iinc hg dX0_layWorth_34 rfl (inc1 _) (by decide) (lv1 := [(0, _), (1, _), (2, _)]) rfl ?_
      refine y_goto hg 2 dX0_layWorth_37 (by decide) ?_
      refine ih _ ⟨hw3.goR hW (Q := XE) ((FrR.rf).stL (by unfold XE; omega)) (fun a j z => z), fun s hs hss => ?_⟩
      by_cases e : s = i
      · subst e; exact gL_s
      · rw [gL_n (by omega), hf3.l (by omega) (by omega), q4.l (by omega) (by unfold LkP; omega)]
        exact hv s (by omega) hss
  · intro t hI
    obtain ⟨hwt, hv⟩ := hI
    refine y_iload_n hg dX0_layWorth_2 rfl ?_
    refine y_iload_n hg dX0_layWorth_3 rfl ?_
    refine y_icmp_gt hg 40 dX0_layWorth_4 (by decide) (fun _ => ?_) (fun hF => absurd (nI_lt (by omega) (by omega)) hF)
    refine y_vret hg hr ⟨rfl, ?_⟩ dX0_layWorth_40 (Nat.le_refl _) (Nat.le_refl _)
    exact ⟨hwt, fun s hs hss => hv s (by omega) hss⟩
end LayW

