section Bit
variable {ll : Launch} {B : Bs} {σ : Mem} {A : Ab} {sd : Int64}
theorem cM_bitOf (hR : RMm B A sd σ) {w : Nat} (hw : w < 10) : MT ll B 1 0 0 yX3_bitOf cX3_bitOf 4 (some .int) [.ref (B.1 + 157), .int (nI w)] σ (pI fun r σ' => r = nI (2 ^ un (bbA A) w) ∧ σ' = σ) := by
  have hM := hR.1
  have hun := un_le (bbA A) w
  refine MT.of (by decide) (Nat.le_of_ble_eq_true rfl) (fun g hg hr => ?_)
  refine y_iconst (v := nI 0) hg dX3_bitOf_0 rfl ?_
  refine y_istore_n hg dX3_bitOf_1 (by decide) (lv1 := [(0, _), (1, _), (2, _)]) rfl ?_
  refine y_iconst (v := nI 0) hg dX3_bitOf_2 rfl ?_
  refine y_istore_n hg dX3_bitOf_3 (by decide) (lv1 := [(0, _), (1, _), (2, _), (3, _)]) rfl ?_
  refine (loop_up (G := fun i => YY g 4 σ 0 0 4 [(0, .ref (B.1 + 157)), (1, .int (nI w)), (2, .int (nI (un (bbA A) i))), (3, .int (nI i))] []) w (fun i hi ih => ?_) ?_ 0 (Nat.zero_le _))
  · have eu : un (bbA A) (i + 1) = if bbA A i = true then un (bbA A) i else un (bbA A) i + 1 := rfl
    rw [eu] at ih
    have J : ∀ v : Nat, un (bbA A) i + v = (if bbA A i = true then un (bbA A) i else un (bbA A) i + 1) → YY g 4 σ 0 0 29 [(0, .ref (B.1 + 157)), (1, .int (nI w)), (2, .int (nI (un (bbA A) i))), (3, .int (nI i))] [.int (nI v), .int (nI (un (bbA A) i))] := by
      intro v hv
      rw [← hv] at ih
      refine y_iadd hg dX3_bitOf_29 ?_
      refine y_ti (nI_add _ _) ?_
      refine y_istore_n hg dX3_bitOf_30 (by decide) (lv1 := [(0, _), (1, _), (2, _), (3, _)]) rfl ?_
      refine y_iinc hg dX3_bitOf_31 rfl (inc1 _) (by decide) (lv1 := [(0, _), (1, _), (2, _), (3, _)]) rfl ?_
      refine y_goto hg 4 dX3_bitOf_34 (by decide) ?_
      exact ih
    refine y_iload_n hg dX3_bitOf_4 rfl ?_
    refine y_iload_n hg dX3_bitOf_5 rfl ?_
    refine y_icmp_ge hg 37 dX3_bitOf_6 (by decide) (fun hT => absurd hT (ge_c hi (by omega))) (fun _ => ?_)
    refine y_iload_n hg dX3_bitOf_9 rfl ?_
    refine y_aload_n hg dX3_bitOf_10 rfl ?_
    refine y_getr (j := 7) hg cf3 (hM.m) (by decide) rfl (hM.r_now) q918 dX3_bitOf_11 ?_
    refine y_bipush (v := nI 8) hg dX3_bitOf_14 rfl ?_
    refine y_iald hg _ (hM.k_now) rfl (by omega) dX3_bitOf_16 ?_
    refine y_ti (hR.barred) ?_
    refine y_iload_n hg dX3_bitOf_17 rfl ?_
    refine y_cSi hg (cM_has _ _) iX3_has q1100 rfl rfl (by simp [Value.category]) (Nat.le_refl _) (Nat.le_refl _) (by decide) dX3_bitOf_18 (fun r σ1 hp => ?_)
    obtain ⟨rfl, rfl⟩ := hp
    refine y_if_eq hg 28 dX3_bitOf_21 (by decide) (fun hc => ?_) (fun hc => ?_)
    · refine y_iconst (v := nI 1) hg dX3_bitOf_28 rfl ?_
      exact J 1 (by rw [if_neg (show ¬ bbA A i = true from b2F hc)])
    · refine y_iconst (v := nI 0) hg dX3_bitOf_24 rfl ?_
      refine y_goto hg 29 dX3_bitOf_25 (by decide) ?_
      exact J 0 (by rw [if_pos (show bbA A i = true from b2T hc)]; rfl)
  · skip
    refine y_iload_n hg dX3_bitOf_4 rfl ?_
    refine y_iload_n hg dX3_bitOf_5 rfl ?_
    refine y_icmp_ge hg 37 dX3_bitOf_6 (by decide) (fun _ => ?_) (fun hF => absurd (le_c (Nat.le_refl _) (by omega)) hF)
    refine y_iconst (v := nI 1) hg dX3_bitOf_37 rfl ?_
    refine y_iload_n hg dX3_bitOf_38 rfl ?_
    refine y_ishl hg dX3_bitOf_39 ?_
    refine y_iret hg hr ⟨_, rfl, ?_⟩ dX3_bitOf_40 (Nat.le_refl _) (Nat.le_refl _)
    exact ⟨sh_nI _ (by omega), rfl⟩
end Bit

