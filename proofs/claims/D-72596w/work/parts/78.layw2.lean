section LayW2
variable {ll : Launch} {B : Bs} {σ : Mem} {A : Ab} {sd : Int64} {σ0 : Mem}
theorem cM_layWorth (hW : WFA A) (hR : RMm B A sd σ) (h8 : un (bbA A) (nm A) ≤ 8) : MT ll B 5 0 0 yX3_layWorth cX3_layWorth 2 none [.ref (B.1 + 157)] σ (pV fun σ' => WM B A sd σ σ' ∧ ∀ s, s < 2 ^ un (bbA A) (nm A) → σ'.2.2.2.1 186 s = lN (tw A (so (bbA A) s (nm A)))) := by
  have hm := hW.nmle
  have hM := hR.1
  have hU : 2 ^ un (bbA A) (nm A) ≤ 256 := Nat.pow_le_pow_right (n := 2) (by omega) h8
  have hP : ∀ s, WFP (tp A s) := fun s => pb_wr hW hW.now
  refine MT.of (by decide) (Nat.le_of_ble_eq_true rfl) (fun g hg hr => ?_)
  refine y_aload_n hg dX3_layWorth_0 rfl ?_
  refine y_aload_n hg dX3_layWorth_1 rfl ?_
  refine y_getr (j := 7) hg cf3 (hM.m) (by decide) rfl (hM.r_now) q918 dX3_layWorth_2 ?_
  refine y_cVv hg (cM_look (P := pn A) hM (Or.inl rfl) (pb_wr hW hW.now) (hR.wm hW) (fun j hj => hR.now hj) RMm.hu0) iX3_look q1118 (hM.m) cf3 rfl rfl (by simp [Value.category]) (Nat.le_refl _) (Nat.le_refl _) (by decide) dX3_layWorth_5 (fun σ2 hp => ?_)
  obtain ⟨hX, hf2⟩ := hp
  refine y_iconst (v := nI 0) hg dX3_layWorth_8 rfl ?_
  refine y_istore_n hg dX3_layWorth_9 (by decide) (lv1 := [(0, _), (1, _)]) rfl ?_
  have hw := (WM.rf hR).go hf2 (fun a j q => by unfold MkP at q; unfold ME; omega)
  have LOOP := loop_st (S := Mem) (G := fun i s => YY g 2 s 0 0 10 [(0, .ref (B.1 + 157)), (1, .int (nI i))] []) (I := fun i t => WM B A sd σ t ∧ (∃ u, PM B t (pb A (A 11) u)) ∧ ∀ s, s < i → t.2.2.2.1 186 s = lN (tw A (so (bbA A) s (nm A)))) (2 ^ un (bbA A) (nm A)) ?_ ?_ 0 σ2 (Nat.zero_le _) ⟨hw, ⟨_, hX⟩, fun s hs => by omega⟩
  · exact LOOP
  · intro i t hi hI ih
    obtain ⟨hwt, ⟨u, hXt⟩, hv⟩ := hI
    have hM := hwt.1.1
    have hn := hM.n
    have hso := so_lt (bbA A) i (nm A)
    have hX1 : PM B (setI t 157 32 (nI (so (bbA A) i (nm A)))) (tp A (so (bbA A) i (nm A))) := hXt.al (fun w hw => hb_tb (Nat.lt_of_lt_of_le (Nat.lt_of_lt_of_le hw hm) (by decide)))
    have hw1 : WM B A sd σ (setI t 157 32 (nI (so (bbA A) i (nm A)))) := hwt.go (Q := ME) ((FrR.rf).stI (by unfold ME; omega)) (fun a j z => z)
    refine y_iload_n hg dX3_layWorth_10 rfl ?_
    refine y_iconst (v := nI 1) hg dX3_layWorth_11 rfl ?_
    refine y_aload_n hg dX3_layWorth_12 rfl ?_
    refine y_cVi hg (cM_unbarred hW hwt.1) iX3_unbarred q1335 (hM.m) cf3 rfl rfl (by simp [Value.category]) (Nat.le_refl _) (Nat.le_refl _) (by decide) dX3_layWorth_13 (fun r σ3 hp => ?_)
    obtain ⟨rfl, rfl⟩ := hp
    refine y_ishl hg dX3_layWorth_16 ?_
    refine y_ti (sh_nI _ (by omega)) ?_
    refine y_icmp_ge hg 49 dX3_layWorth_17 (by decide) (fun hT => absurd hT (ge_c hi (by omega))) (fun _ => ?_)
    refine y_aload_n hg dX3_layWorth_20 rfl ?_
    refine y_aload_n hg dX3_layWorth_21 rfl ?_
    refine y_iload_n hg dX3_layWorth_22 rfl ?_
    refine y_cVi hg (cM_someOf hW hwt.1) iX3_someOf q1347 (hM.m) cf3 rfl rfl (by simp [Value.category]) (Nat.le_refl _) (Nat.le_refl _) (by decide) dX3_layWorth_23 (fun r σ4 hp => ?_)
    obtain ⟨rfl, rfl⟩ := hp
    refine y_puti (j := 32) hg cf3 (hM.m) (by decide) rfl rfl q943 dX3_layWorth_26 ?_
    have hM := hw1.1.1
    have e186 : ∀ s, (setI σ4 157 32 (nI (so (bbA A) i (nm A)))).2.2.2.1 186 s = σ4.2.2.2.1 186 s := fun s => gIL
    have hn1 : 186 < (setI σ4 157 32 (nI (so (bbA A) i (nm A)))).2.1 := hn
    generalize setI σ4 157 32 (nI (so (bbA A) i (nm A))) = t1 at *
    refine y_aload_n hg dX3_layWorth_29 rfl ?_
    refine y_cVv hg (cM_layWays (hP _) hX1) iX3_layWays q1146 (hM.m) cf3 rfl rfl (by simp [Value.category]) (Nat.le_refl _) (Nat.le_refl _) (by decide) dX3_layWorth_30 (fun σ5 hp => ?_)
    obtain ⟨hf5, hC5⟩ := hp
    have hX5 := hX1.fr hf5 (fun a j q => by unfold EM; omega)
    have hw5 := hw1.go hf5 (fun a j q => by unfold ME; omega)
    have hM := hw5.1.1
    refine y_aload_n hg dX3_layWorth_33 rfl ?_
    refine y_getr (j := 44) hg cf3 (hM.m) (by decide) rfl (hM.r_worth) q955 dX3_layWorth_34 ?_
    refine y_iload_n hg dX3_layWorth_37 rfl ?_
    refine y_aload_n hg dX3_layWorth_38 rfl ?_
    refine y_cVl hg (cM_all (hP _) hX5 hC5) iX3_all q1158 (hM.m) cf3 rfl rfl (by simp [Value.category]) (Nat.le_refl _) (Nat.le_refl _) (by decide) dX3_layWorth_39 (fun r σ6 hp => ?_)
    obtain ⟨rfl, rfl⟩ := hp
    refine y_last hg _ (hM.k_worth) rfl (by omega) dX3_layWorth_42 ?_
    refine y_iinc hg dX3_layWorth_43 rfl (inc1 _) (by decide) (lv1 := [(0, _), (1, _)]) rfl ?_
    refine y_goto hg 10 dX3_layWorth_46 (by decide) ?_
    refine ih _ ⟨hw5.go (Q := ME) ((FrR.rf).stL (by unfold ME; omega)) (fun a j z => z), ⟨_, hX5.setL⟩, fun s hs => ?_⟩
    by_cases e : s = i
    · subst e; exact gL_s
    · rw [gL_n (by omega), hf5.l (by omega) (by omega), e186]
      exact hv s (by omega)
  · intro t hI
    obtain ⟨hwt, ⟨u, hXt⟩, hv⟩ := hI
    have hM := hwt.1.1
    refine y_iload_n hg dX3_layWorth_10 rfl ?_
    refine y_iconst (v := nI 1) hg dX3_layWorth_11 rfl ?_
    refine y_aload_n hg dX3_layWorth_12 rfl ?_
    refine y_cVi hg (cM_unbarred hW hwt.1) iX3_unbarred q1335 (hM.m) cf3 rfl rfl (by simp [Value.category]) (Nat.le_refl _) (Nat.le_refl _) (by decide) dX3_layWorth_13 (fun r σ3 hp => ?_)
    obtain ⟨rfl, rfl⟩ := hp
    refine y_ishl hg dX3_layWorth_16 ?_
    refine y_ti (sh_nI _ (by omega)) ?_
    refine y_icmp_ge hg 49 dX3_layWorth_17 (by decide) (fun _ => ?_) (fun hF => absurd (le_c (Nat.le_refl _) (by omega)) hF)
    refine y_vret hg hr ⟨rfl, ?_⟩ dX3_layWorth_49 (Nat.le_refl _) (Nat.le_refl _)
    exact ⟨hwt, hv⟩
end LayW2

