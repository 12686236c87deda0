section Ops2
variable {ll : Launch} {B : Bs} {σ : Mem} {A : Ab} {sd : Int64}
theorem RX.uBag (h : RX B A sd σ) (hA : nm A ≤ 10) {x : Nat} (hx : x < 8) {v : Int32} : RX B (up2 A 11 x v) sd (setI σ 3 x v) := by
  have := h.u2 hA (v := v) 11 x (by unfold dm; omega) (by omega) (by omega)
  rw [(xA_row (by omega) (by omega)).1, (xA_row (by omega) (by omega)).2, show rA (kS 11) x = 3 by unfold rA; rw [if_pos hx]; rfl, show rB x = x by unfold rB; rw [if_pos hx]] at this
  exact this
theorem RX.uRank (h : RX B A sd σ) (hA : nm A ≤ 10) {w : Nat} (hw : w < 10) {v : Int32} : RX B (up2 A 11 (9 + w) v) sd (setI σ 4 w v) := by
  have := h.u2 hA (v := v) 11 (9 + w) (by unfold dm; omega) (by omega) (by omega)
  rw [(xA_row (by omega) (by omega)).1, (xA_row (by omega) (by omega)).2, show rA (kS 11) (9 + w) = 4 by unfold rA; rw [if_neg (by omega), if_neg (by omega), if_pos (by omega)]; rfl, show rB (9 + w) = w by unfold rB; rw [if_neg (by omega), if_neg (by omega), if_pos (by omega)]; omega] at this
  exact this
theorem RX.uFollow (h : RX B A sd σ) (hA : nm A ≤ 10) {k : Nat} (hk : k < 4) {v : Int32} : RX B (up2 A 11 (21 + k) v) sd (setI σ 5 k v) := by
  have := h.u2 hA (v := v) 11 (21 + k) (by unfold dm; omega) (by omega) (by omega)
  rw [(xA_row (by omega) (by omega)).1, (xA_row (by omega) (by omega)).2, show rA (kS 11) (21 + k) = 5 by unfold rA; rw [if_neg (by omega), if_neg (by omega), if_neg (by omega), if_neg (by omega), if_neg (by omega)]; rfl, show rB (21 + k) = k by unfold rB; rw [if_neg (by omega), if_neg (by omega), if_neg (by omega), if_neg (by omega), if_neg (by omega)]; omega] at this
  exact this
theorem RX.uBarred (h : RX B A sd σ) (hA : nm A ≤ 10) {v : Int32} : RX B (up2 A 11 8 v) sd (setI σ 2 1 v) := h.u2 hA 11 8 (by unfold dm; omega) (by omega) (by omega)
theorem RX.uBegins (h : RX B A sd σ) (hA : nm A ≤ 10) {v : Int32} : RX B (up2 A 11 19 v) sd (setI σ 2 3 v) := h.u2 hA 11 19 (by unfold dm; omega) (by omega) (by omega)
theorem RX.uEnds (h : RX B A sd σ) (hA : nm A ≤ 10) {v : Int32} : RX B (up2 A 11 20 v) sd (setI σ 2 4 v) := h.u2 hA 11 20 (by unfold dm; omega) (by omega) (by omega)
theorem RMm.uNow (h : RMm B A sd σ) {j : Nat} (hj : j < 25) {v : Int32} : RMm B (up2 A 11 j v) sd (setI σ 163 j v) := h.up (c0 := 11) (j0 := j) (by unfold dm; omega) (by omega) (by omega)
theorem RMm.uBag (h : RMm B A sd σ) (_ : nm A ≤ 10) {x : Nat} (hx : x < 8) {v : Int32} : RMm B (up2 A 11 x v) sd (setI σ 163 x v) := h.uNow (by omega)
theorem RMm.uRank (h : RMm B A sd σ) (_ : nm A ≤ 10) {w : Nat} (hw : w < 10) {v : Int32} : RMm B (up2 A 11 (9 + w) v) sd (setI σ 163 (9 + w) v) := h.uNow (by omega)
theorem RMm.uBarred (h : RMm B A sd σ) (_ : nm A ≤ 10) {v : Int32} : RMm B (up2 A 11 8 v) sd (setI σ 163 8 v) := h.uNow (by omega)
theorem RMm.bag (h : RMm B A sd σ) {x : Nat} (hx : x < 8) : σ.2.2.1 163 x = A 11 x := h.now (by omega)
theorem RMm.ranks (h : RMm B A sd σ) {w : Nat} (hw : w < 10) : σ.2.2.1 163 (9 + w) = A 11 (9 + w) := h.now (by omega)
theorem RMm.barred (h : RMm B A sd σ) : σ.2.2.1 163 8 = A 11 8 := h.now (by omega)
theorem cX_bag {l : Launch} (hR : RX B A sd σ) : MT l B 0 0 0 yX1_size cX1_size 3 (some .int) [.ref (B.1 + 2)] σ (pI fun r σ' => r = bagS (A 11) ∧ σ' = σ) := by
  have h := cX_size (l := l) hR.1.s_now
  rw [show fo (fun x n => n + σ.2.2.1 (2 + 1) x) 0 8 = bagS (A 11) from fo_congr 8 (fun x a hx => by rw [show 2 + 1 = 3 from rfl, hR.bag hx])] at h
  exact h
theorem cM_bag {l : Launch} (hR : RMm B A sd σ) : MT l B 0 0 0 yX3_bagOf cX3_bagOf 3 (some .int) [.ref (B.1 + 163)] σ (pI fun r σ' => r = bagS (A 11) ∧ σ' = σ) := by
  have h := cM_bagOf (l := l) (B := B) hR.1.k_now (by omega)
  rw [show fo (fun x n => n + σ.2.2.1 163 x) 0 8 = bagS (A 11) from fo_congr 8 (fun x a hx => by rw [hR.bag hx])] at h
  exact h
/-- put, take -/
def oPut (A : Ab) (v : Int32) : Int32 × Ab := if inL v.toInt64 0 7 = true then if bagS (A 11) = nI 12 then (-4, A) else (bagS (up2 (nt A) 11 v.toNatClampNeg (nt A 11 v.toNatClampNeg + nI 1) 11), up2 (nt A) 11 v.toNatClampNeg (nt A 11 v.toNatClampNeg + nI 1)) else (-1, A)
def oTake (A : Ab) (v : Int32) : Int32 × Ab := if inL v.toInt64 0 7 = true then if A 11 v.toNatClampNeg = 0 then (-3, A) else (bagS (up2 (nt A) 11 v.toNatClampNeg (nt A 11 v.toNatClampNeg - nI 1) 11), up2 (nt A) 11 v.toNatClampNeg (nt A 11 v.toNatClampNeg - nI 1)) else (-1, A)
theorem wPut (hW : WFA A) (v : Int32) : WFA (oPut A v).2 := by
  unfold oPut
  split
  · rename_i h
    split
    · exact hW
    · rename_i h2
      obtain ⟨x, hx, rfl⟩ := (inL_iff 7 rfl (by decide)).mp h
      have hr := hW.now
      rw [bagS_nI hr.1] at h2
      have hs := lt_of_ne hr.2.1 h2
      have hge : bg (A 11) x ≤ sm (bg (A 11)) 8 := sm_ge 8 (by omega)
      rw [nI_clamp (by omega)]
      refine wNow (wNt hW) ?_
      rw [nt_nm, nt_n (by omega) (by omega), hr.1 x (by omega), nI_add]
      exact hr.letter (by omega) (by omega)
  · exact hW
theorem wTake (hW : WFA A) (v : Int32) : WFA (oTake A v).2 := by
  unfold oTake
  split
  · rename_i h
    split
    · exact hW
    · rename_i h2
      obtain ⟨x, hx, rfl⟩ := (inL_iff 7 rfl (by decide)).mp h
      have hr := hW.now
      rw [nI_clamp (by omega)] at h2 ⊢
      refine wNow (wNt hW) ?_
      have h0 : 0 < bg (A 11) x := by
        rcases Nat.eq_zero_or_pos (bg (A 11) x) with z | z
        · exact absurd (by rw [hr.1 x (by omega), z]; rfl) h2
        · exact z
      rw [nt_nm, nt_n (by omega) (by omega), hr.1 x (by omega), pk_sub (by omega)]
      exact hr.letter (by omega) (by have := hr.2.1; omega)
  · exact hW
theorem cX_put (hW : WFA A) (hR : RX B A sd σ) (v : Int32) : MT ll B 24 0 0 yX0_put cX0_put 2 (some .int) [.ref (B.1 + 0), .int v] σ (oX B sd σ (oPut A v)) := by
  have hL := hR.1
  refine MT.of (by decide) (Nat.le_of_ble_eq_true rfl) (fun g hg hr => ?_)
  refine y_iload_n hg dX0_put_0 rfl ?_
  refine y_cSi hg (cX_isLetter _) iX0_isLetter q467 rfl rfl (by simp [Value.category]) (Nat.le_refl _) (Nat.le_refl _) (by decide) dX0_put_1 (fun r σ1 hp => ?_)
  obtain ⟨rfl, rfl⟩ := hp
  refine y_if_ne hg 9 dX0_put_4 (by decide) (fun hc => ?_) (fun hc => ?_)
  · have h1 := b2T hc
    refine y_aload_n hg dX0_put_9 rfl ?_
    refine y_getr (j := 2) hg cf0 (hL.x) (by decide) rfl (hL.r_now) q174 dX0_put_10 ?_
    refine y_cVi hg (cX_bag hR) iX1_size q332 (hL.s_now.o) cf1 rfl rfl (by simp [Value.category]) (Nat.le_refl _) (Nat.le_refl _) (by decide) dX0_put_13 (fun r σ1 hp => ?_)
    obtain ⟨rfl, rfl⟩ := hp
    refine y_bipush (v := nI 12) hg dX0_put_16 rfl ?_
    refine y_icmp_ne hg 24 dX0_put_18 (by decide) (fun hc2 => ?_) (fun hc2 => ?_)
    · obtain ⟨x, hx, rfl⟩ := (inL_iff 7 rfl (by decide)).mp h1
      refine y_aload_n hg dX0_put_24 rfl ?_
      refine y_cVv hg (cX_act hW hR) iX0_act q479 (hL.x) cf0 rfl rfl (by simp [Value.category]) (Nat.le_refl _) (Nat.le_refl _) (by decide) dX0_put_25 (fun σ2 hp => ?_)
      obtain ⟨hR1, hf1⟩ := hp
      have hL := hR1.1
      have hb := hR1.bag (x := x) (by omega)
      have hn1 : nm (nt A) ≤ 10 := by rw [nt_nm]; exact hW.nmle
      have hR2 := hR1.uBag (x := x) hn1 (by omega) (v := nt A 11 x + nI 1)
      refine y_aload_n hg dX0_put_28 rfl ?_
      refine y_getr (j := 2) hg cf0 (hL.x) (by decide) rfl (hL.r_now) q174 dX0_put_29 ?_
      refine y_getrN (j := 0) hg cf1 (hL.s_now.o) (by decide) rfl (hL.s_now.r_bag) nf0 dX0_put_32 ?_
      refine y_iload_n hg dX0_put_35 rfl ?_
      refine y_dup2 hg dX0_put_36 rfl rfl ?_
      refine y_iald hg _ (hL.s_now.k_bag) rfl (by omega) dX0_put_37 ?_
      refine y_ti (hb) ?_
      refine y_iconst (v := nI 1) hg dX0_put_38 rfl ?_
      refine y_iadd hg dX0_put_39 ?_
      refine y_iast hg _ (hL.s_now.k_bag) rfl (by omega) dX0_put_40 ?_
      refine y_aload_n hg dX0_put_41 rfl ?_
      refine y_getr (j := 2) hg cf0 (hL.x) (by decide) rfl (hL.r_now) q174 dX0_put_42 ?_
      refine y_cVi hg (cX_bag hR2) iX1_size q332 (hL.s_now.o) cf1 rfl rfl (by simp [Value.category]) (Nat.le_refl _) (Nat.le_refl _) (by decide) dX0_put_45 (fun r σ3 hp => ?_)
      obtain ⟨rfl, rfl⟩ := hp
      refine y_iret hg hr ⟨_, rfl, ?_⟩ dX0_put_48 (Nat.le_refl _) (Nat.le_refl _)
      have eo : oPut A (nI x) = (bagS (up2 (nt A) 11 x (nt A 11 x + nI 1) 11), up2 (nt A) 11 x (nt A 11 x + nI 1)) := by
        unfold oPut
        rw [if_pos h1, if_neg hc2, nI_clamp (by omega)]
      rw [eo]
      exact ⟨rfl, hR2, hf1.stI (by omega)⟩
    · refine y_bipush (v := -4) hg dX0_put_21 rfl ?_
      refine y_iret hg hr ⟨_, rfl, ?_⟩ dX0_put_23 (Nat.le_refl _) (Nat.le_refl _)
      have eo : oPut A v = (-4, A) := by unfold oPut; rw [if_pos h1, if_pos hc2]
      rw [eo]
      exact ⟨rfl, hR, Fr.rf⟩
  · refine y_iconst (v := -1) hg dX0_put_7 rfl ?_
    refine y_iret hg hr ⟨_, rfl, ?_⟩ dX0_put_8 (Nat.le_refl _) (Nat.le_refl _)
    have eo : oPut A v = (-1, A) := by unfold oPut; rw [if_neg (b2F hc)]
    rw [eo]
    exact ⟨rfl, hR, Fr.rf⟩
theorem cX_take (hW : WFA A) (hR : RX B A sd σ) (v : Int32) : MT ll B 24 0 0 yX0_take cX0_take 2 (some .int) [.ref (B.1 + 0), .int v] σ (oX B sd σ (oTake A v)) := by
  have hL := hR.1
  refine MT.of (by decide) (Nat.le_of_ble_eq_true rfl) (fun g hg hr => ?_)
  refine y_iload_n hg dX0_take_0 rfl ?_
  refine y_cSi hg (cX_isLetter _) iX0_isLetter q467 rfl rfl (by simp [Value.category]) (Nat.le_refl _) (Nat.le_refl _) (by decide) dX0_take_1 (fun r σ1 hp => ?_)
  obtain ⟨rfl, rfl⟩ := hp
  refine y_if_ne hg 9 dX0_take_4 (by decide) (fun hc => ?_) (fun hc => ?_)
  · have h1 := b2T hc
    obtain ⟨x, hx, rfl⟩ := (inL_iff 7 rfl (by decide)).mp h1
    refine y_aload_n hg dX0_take_9 rfl ?_
    refine y_getr (j := 2) hg cf0 (hL.x) (by decide) rfl (hL.r_now) q174 dX0_take_10 ?_
    refine y_getrN (j := 0) hg cf1 (hL.s_now.o) (by decide) rfl (hL.s_now.r_bag) nf0 dX0_take_13 ?_
    refine y_iload_n hg dX0_take_16 rfl ?_
    refine y_iald hg _ (hL.s_now.k_bag) rfl (by omega) dX0_take_17 ?_
    refine y_ti (hR.bag (by omega)) ?_
    refine y_if_ne hg 24 dX0_take_18 (by decide) (fun hc2 => ?_) (fun hc2 => ?_)
    · refine y_aload_n hg dX0_take_24 rfl ?_
      refine y_cVv hg (cX_act hW hR) iX0_act q479 (hL.x) cf0 rfl rfl (by simp [Value.category]) (Nat.le_refl _) (Nat.le_refl _) (by decide) dX0_take_25 (fun σ2 hp => ?_)
      obtain ⟨hR1, hf1⟩ := hp
      have hL := hR1.1
      have hb := hR1.bag (x := x) (by omega)
      have hn1 : nm (nt A) ≤ 10 := by rw [nt_nm]; exact hW.nmle
      have hR2 := hR1.uBag (x := x) hn1 (by omega) (v := nt A 11 x - nI 1)
      refine y_aload_n hg dX0_take_28 rfl ?_
      refine y_getr (j := 2) hg cf0 (hL.x) (by decide) rfl (hL.r_now) q174 dX0_take_29 ?_
      refine y_getrN (j := 0) hg cf1 (hL.s_now.o) (by decide) rfl (hL.s_now.r_bag) nf0 dX0_take_32 ?_
      refine y_iload_n hg dX0_take_35 rfl ?_
      refine y_dup2 hg dX0_take_36 rfl rfl ?_
      refine y_iald hg _ (hL.s_now.k_bag) rfl (by omega) dX0_take_37 ?_
      refine y_ti (hb) ?_
      refine y_iconst (v := nI 1) hg dX0_take_38 rfl ?_
      refine y_isub hg dX0_take_39 ?_
      refine y_iast hg _ (hL.s_now.k_bag) rfl (by omega) dX0_take_40 ?_
      refine y_aload_n hg dX0_take_41 rfl ?_
      refine y_getr (j := 2) hg cf0 (hL.x) (by decide) rfl (hL.r_now) q174 dX0_take_42 ?_
      refine y_cVi hg (cX_bag hR2) iX1_size q332 (hL.s_now.o) cf1 rfl rfl (by simp [Value.category]) (Nat.le_refl _) (Nat.le_refl _) (by decide) dX0_take_45 (fun r σ3 hp => ?_)
      obtain ⟨rfl, rfl⟩ := hp
      refine y_iret hg hr ⟨_, rfl, ?_⟩ dX0_take_48 (Nat.le_refl _) (Nat.le_refl _)
      have eo : oTake A (nI x) = (bagS (up2 (nt A) 11 x (nt A 11 x - nI 1) 11), up2 (nt A) 11 x (nt A 11 x - nI 1)) := by
        unfold oTake
        rw [if_pos h1, nI_clamp (by omega), if_neg hc2]
      rw [eo]
      exact ⟨rfl, hR2, hf1.stI (by omega)⟩
    · refine y_bipush (v := -3) hg dX0_take_21 rfl ?_
      refine y_iret hg hr ⟨_, rfl, ?_⟩ dX0_take_23 (Nat.le_refl _) (Nat.le_refl _)
      have eo : oTake A (nI x) = (-3, A) := by unfold oTake; rw [if_pos h1, nI_clamp (by omega), if_pos hc2]
      rw [eo]
      exact ⟨rfl, hR, Fr.rf⟩
  · refine y_iconst (v := -1) hg dX0_take_7 rfl ?_
    refine y_iret hg hr ⟨_, rfl, ?_⟩ dX0_take_8 (Nat.le_refl _) (Nat.le_refl _)
    have eo : oTake A v = (-1, A) := by unfold oTake; rw [if_neg (b2F hc)]
    rw [eo]
    exact ⟨rfl, hR, Fr.rf⟩
theorem cM_put (hW : WFA A) (hR : RMm B A sd σ) (v : Int32) : MT ll B 24 0 0 yX3_put cX3_put 2 (some .int) [.ref (B.1 + 157), .int v] σ (oM B sd σ (oPut A v)) := by
  have hM := hR.1
  refine MT.of (by decide) (Nat.le_of_ble_eq_true rfl) (fun g hg hr => ?_)
  refine y_iload_n hg dX3_put_0 rfl ?_
  refine y_cSi hg (cM_isLetter _) iX3_isLetter q1198 rfl rfl (by simp [Value.category]) (Nat.le_refl _) (Nat.le_refl _) (by decide) dX3_put_1 (fun r σ1 hp => ?_)
  obtain ⟨rfl, rfl⟩ := hp
  refine y_if_ne hg 9 dX3_put_4 (by decide) (fun hc => ?_) (fun hc => ?_)
  · have h1 := b2T hc
    refine y_aload_n hg dX3_put_9 rfl ?_
    refine y_getr (j := 7) hg cf3 (hM.m) (by decide) rfl (hM.r_now) q918 dX3_put_10 ?_
    refine y_cSi hg (cM_bag hR) iX3_bagOf q1071 rfl rfl (by simp [Value.category]) (Nat.le_refl _) (Nat.le_refl _) (by decide) dX3_put_13 (fun r σ1 hp => ?_)
    obtain ⟨rfl, rfl⟩ := hp
    refine y_bipush (v := nI 12) hg dX3_put_16 rfl ?_
    refine y_icmp_ne hg 24 dX3_put_18 (by decide) (fun hc2 => ?_) (fun hc2 => ?_)
    · obtain ⟨x, hx, rfl⟩ := (inL_iff 7 rfl (by decide)).mp h1
      refine y_aload_n hg dX3_put_24 rfl ?_
      refine y_cVv hg (cM_note hW hR) iX3_note q1206 (hM.m) cf3 rfl rfl (by simp [Value.category]) (Nat.le_refl _) (Nat.le_refl _) (by decide) dX3_put_25 (fun σ2 hp => ?_)
      obtain ⟨hR1, hf1⟩ := hp
      have hM := hR1.1
      have hb := hR1.bag (x := x) (by omega)
      have hn1 : nm (nt A) ≤ 10 := by rw [nt_nm]; exact hW.nmle
      have hR2 := hR1.uBag (x := x) hn1 (by omega) (v := nt A 11 x + nI 1)
      refine y_aload_n hg dX3_put_28 rfl ?_
      refine y_getr (j := 7) hg cf3 (hM.m) (by decide) rfl (hM.r_now) q918 dX3_put_29 ?_
      refine y_iload_n hg dX3_put_32 rfl ?_
      refine y_dup2 hg dX3_put_33 rfl rfl ?_
      refine y_iald hg _ (hM.k_now) rfl (by omega) dX3_put_34 ?_
      refine y_ti (hb) ?_
      refine y_iconst (v := nI 1) hg dX3_put_35 rfl ?_
      refine y_iadd hg dX3_put_36 ?_
      refine y_iast hg _ (hM.k_now) rfl (by omega) dX3_put_37 ?_
      refine y_aload_n hg dX3_put_38 rfl ?_
      refine y_getr (j := 7) hg cf3 (hM.m) (by decide) rfl (hM.r_now) q918 dX3_put_39 ?_
      refine y_cSi hg (cM_bag hR2) iX3_bagOf q1071 rfl rfl (by simp [Value.category]) (Nat.le_refl _) (Nat.le_refl _) (by decide) dX3_put_42 (fun r σ3 hp => ?_)
      obtain ⟨rfl, rfl⟩ := hp
      refine y_iret hg hr ⟨_, rfl, ?_⟩ dX3_put_45 (Nat.le_refl _) (Nat.le_refl _)
      have eo : oPut A (nI x) = (bagS (up2 (nt A) 11 x (nt A 11 x + nI 1) 11), up2 (nt A) 11 x (nt A 11 x + nI 1)) := by
        unfold oPut
        rw [if_pos h1, if_neg hc2, nI_clamp (by omega)]
      rw [eo]
      exact ⟨rfl, hR2, hf1.stI (by omega)⟩
    · refine y_bipush (v := -4) hg dX3_put_21 rfl ?_
      refine y_iret hg hr ⟨_, rfl, ?_⟩ dX3_put_23 (Nat.le_refl _) (Nat.le_refl _)
      have eo : oPut A v = (-4, A) := by unfold oPut; rw [if_pos h1, if_pos hc2]
      rw [eo]
      exact ⟨rfl, hR, FrR.rf⟩
  · refine y_iconst (v := -1) hg dX3_put_7 rfl ?_
    refine y_iret hg hr ⟨_, rfl, ?_⟩ dX3_put_8 (Nat.le_refl _) (Nat.le_refl _)
    have eo : oPut A v = (-1, A) := by unfold oPut; rw [if_neg (b2F hc)]
    rw [eo]
    exact ⟨rfl, hR, FrR.rf⟩
theorem cM_take (hW : WFA A) (hR : RMm B A sd σ) (v : Int32) : MT ll B 24 0 0 yX3_take cX3_take 2 (some .int) [.ref (B.1 + 157), .int v] σ (oM B sd σ (oTake A v)) := by
  have hM := hR.1
  refine MT.of (by decide) (Nat.le_of_ble_eq_true rfl) (fun g hg hr => ?_)
  refine y_iload_n hg dX3_take_0 rfl ?_
  refine y_cSi hg (cM_isLetter _) iX3_isLetter q1198 rfl rfl (by simp [Value.category]) (Nat.le_refl _) (Nat.le_refl _) (by decide) dX3_take_1 (fun r σ1 hp => ?_)
  obtain ⟨rfl, rfl⟩ := hp
  refine y_if_ne hg 9 dX3_take_4 (by decide) (fun hc => ?_) (fun hc => ?_)
  · have h1 := b2T hc
    obtain ⟨x, hx, rfl⟩ := (inL_iff 7 rfl (by decide)).mp h1
    refine y_aload_n hg dX3_take_9 rfl ?_
    refine y_getr (j := 7) hg cf3 (hM.m) (by decide) rfl (hM.r_now) q918 dX3_take_10 ?_
    refine y_iload_n hg dX3_take_13 rfl ?_
    refine y_iald hg _ (hM.k_now) rfl (by omega) dX3_take_14 ?_
    refine y_ti (hR.bag (by omega)) ?_
    refine y_if_ne hg 21 dX3_take_15 (by decide) (fun hc2 => ?_) (fun hc2 => ?_)
    · refine y_aload_n hg dX3_take_21 rfl ?_
      refine y_cVv hg (cM_note hW hR) iX3_note q1206 (hM.m) cf3 rfl rfl (by simp [Value.category]) (Nat.le_refl _) (Nat.le_refl _) (by decide) dX3_take_22 (fun σ2 hp => ?_)
      obtain ⟨hR1, hf1⟩ := hp
      have hM := hR1.1
      have hb := hR1.bag (x := x) (by omega)
      have hn1 : nm (nt A) ≤ 10 := by rw [nt_nm]; exact hW.nmle
      have hR2 := hR1.uBag (x := x) hn1 (by omega) (v := nt A 11 x - nI 1)
      refine y_aload_n hg dX3_take_25 rfl ?_
      refine y_getr (j := 7) hg cf3 (hM.m) (by decide) rfl (hM.r_now) q918 dX3_take_26 ?_
      refine y_iload_n hg dX3_take_29 rfl ?_
      refine y_dup2 hg dX3_take_30 rfl rfl ?_
      refine y_iald hg _ (hM.k_now) rfl (by omega) dX3_take_31 ?_
      refine y_ti (hb) ?_
      refine y_iconst (v := nI 1) hg dX3_take_32 rfl ?_
      refine y_isub hg dX3_take_33 ?_
      refine y_iast hg _ (hM.k_now) rfl (by omega) dX3_take_34 ?_
      refine y_aload_n hg dX3_take_35 rfl ?_
      refine y_getr (j := 7) hg cf3 (hM.m) (by decide) rfl (hM.r_now) q918 dX3_take_36 ?_
      refine y_cSi hg (cM_bag hR2) iX3_bagOf q1071 rfl rfl (by simp [Value.category]) (Nat.le_refl _) (Nat.le_refl _) (by decide) dX3_take_39 (fun r σ3 hp => ?_)
      obtain ⟨rfl, rfl⟩ := hp
      refine y_iret hg hr ⟨_, rfl, ?_⟩ dX3_take_42 (Nat.le_refl _) (Nat.le_refl _)
      have eo : oTake A (nI x) = (bagS (up2 (nt A) 11 x (nt A 11 x - nI 1) 11), up2 (nt A) 11 x (nt A 11 x - nI 1)) := by
        unfold oTake
        rw [if_pos h1, nI_clamp (by omega), if_neg hc2]
      rw [eo]
      exact ⟨rfl, hR2, hf1.stI (by omega)⟩
    · refine y_bipush (v := -3) hg dX3_take_18 rfl ?_
      refine y_iret hg hr ⟨_, rfl, ?_⟩ dX3_take_20 (Nat.le_refl _) (Nat.le_refl _)
      have eo : oTake A (nI x) = (-3, A) := by unfold oTake; rw [if_pos h1, nI_clamp (by omega), if_pos hc2]
      rw [eo]
      exact ⟨rfl, hR, FrR.rf⟩
  · refine y_iconst (v := -1) hg dX3_take_7 rfl ?_
    refine y_iret hg hr ⟨_, rfl, ?_⟩ dX3_take_8 (Nat.le_refl _) (Nat.le_refl _)
    have eo : oTake A v = (-1, A) := by unfold oTake; rw [if_neg (b2F hc)]
    rw [eo]
    exact ⟨rfl, hR, FrR.rf⟩
/-- bar, rank -/
def oBar (A : Ab) (v : Int32) : Int32 × Ab := if isW (nm A) v = true then (((nt A 11 8 ^^^ (nI 1 <<< (v &&& 31))) >>> (v &&& 31)) &&& nI 1, up2 (nt A) 11 8 (nt A 11 8 ^^^ (nI 1 <<< (v &&& 31)))) else (-1, A)
def oRank (A : Ab) (w v : Int32) : Int32 × Ab := if isW (nm A) w = true then if inL v.toInt64 0 9 = true then (nt A 11 (9 + w.toNatClampNeg), up2 (nt A) 11 (9 + w.toNatClampNeg) v) else (-2, A) else (-1, A)
theorem wBar (hW : WFA A) (v : Int32) : WFA (oBar A v).2 := by
  unfold oBar
  split
  · rename_i h
    have hm := hW.nmle
    obtain ⟨w, hw, rfl⟩ := (isW_iff hm).mp h
    have hr := hW.now
    refine wNow (wNt hW) ?_
    rw [nt_nm, nt_n (by omega) (by omega)]
    obtain ⟨b, hb, eb⟩ := hr.2.2.1
    exact hr.oth (by omega) (fun _ => by rw [eb]; exact xor_sh hb hw (by omega)) (fun q => by omega) (fun q => by omega)
  · exact hW
theorem wRank (hW : WFA A) (w v : Int32) : WFA (oRank A w v).2 := by
  unfold oRank
  split
  · rename_i h
    split
    · rename_i h2
      have hm := hW.nmle
      obtain ⟨w, hw, rfl⟩ := (isW_iff hm).mp h
      have hr := hW.now
      rw [nI_clamp (by omega)]
      refine wNow (wNt hW) ?_
      rw [nt_nm, nt_n (by omega) (by omega)]
      exact hr.oth (by omega) (fun q => by omega) (fun _ _ => (inL_iff 9 rfl (by decide)).mp h2) (fun q => by omega)
    · exact hW
  · exact hW
theorem cX_bar (hW : WFA A) (hR : RX B A sd σ) (v : Int32) : MT ll B 24 0 0 yX0_bar cX0_bar 2 (some .int) [.ref (B.1 + 0), .int v] σ (oX B sd σ (oBar A v)) := by
  have hL := hR.1
  refine MT.of (by decide) (Nat.le_of_ble_eq_true rfl) (fun g hg hr => ?_)
  refine y_aload_n hg dX0_bar_0 rfl ?_
  refine y_iload_n hg dX0_bar_1 rfl ?_
  refine y_cVi hg (cX_isW hW hR _) iX0_isWord q440 (hL.x) cf0 rfl rfl (by simp [Value.category]) (Nat.le_refl _) (Nat.le_refl _) (by decide) dX0_bar_2 (fun r σ1 hp => ?_)
  obtain ⟨rfl, rfl⟩ := hp
  refine y_if_ne hg 10 dX0_bar_5 (by decide) (fun hc => ?_) (fun hc => ?_)
  · have h1 := b2T hc
    refine y_aload_n hg dX0_bar_10 rfl ?_
    refine y_cVv hg (cX_act hW hR) iX0_act q479 (hL.x) cf0 rfl rfl (by simp [Value.category]) (Nat.le_refl _) (Nat.le_refl _) (by decide) dX0_bar_11 (fun σ2 hp => ?_)
    obtain ⟨hR1, hf1⟩ := hp
    have hL := hR1.1
    have hb := hR1.barred
    have hn1 : nm (nt A) ≤ 10 := by rw [nt_nm]; exact hW.nmle
    have hR2 := hR1.uBarred hn1 (v := nt A 11 8 ^^^ (nI 1 <<< (v &&& 31)))
    refine y_aload_n hg dX0_bar_14 rfl ?_
    refine y_getr (j := 2) hg cf0 (hL.x) (by decide) rfl (hL.r_now) q174 dX0_bar_15 ?_
    refine y_dup hg dX0_bar_18 rfl ?_
    refine y_getiN (j := 1) hg cf1 (hL.s_now.o) (by decide) rfl nf1 dX0_bar_19 ?_
    refine y_ti (hb) ?_
    refine y_iconst (v := nI 1) hg dX0_bar_22 rfl ?_
    refine y_iload_n hg dX0_bar_23 rfl ?_
    refine y_ishl hg dX0_bar_24 ?_
    refine y_ixor hg dX0_bar_25 ?_
    refine y_putiN (j := 1) hg cf1 (hL.s_now.o) (by decide) rfl rfl nf1 dX0_bar_26 ?_
    refine y_aload_n hg dX0_bar_29 rfl ?_
    refine y_getr (j := 2) hg cf0 (hL.x) (by decide) rfl (hL.r_now) q174 dX0_bar_30 ?_
    refine y_getiN (j := 1) hg cf1 (hL.s_now.o) (by decide) rfl nf1 dX0_bar_33 ?_
    refine y_ti (gI_s) ?_
    refine y_iload_n hg dX0_bar_36 rfl ?_
    refine y_ishr hg dX0_bar_37 ?_
    refine y_iconst (v := nI 1) hg dX0_bar_38 rfl ?_
    refine y_iand hg dX0_bar_39 ?_
    refine y_iret hg hr ⟨_, rfl, ?_⟩ dX0_bar_40 (Nat.le_refl _) (Nat.le_refl _)
    have eo : oBar A v = (((nt A 11 8 ^^^ (nI 1 <<< (v &&& 31))) >>> (v &&& 31)) &&& nI 1, up2 (nt A) 11 8 (nt A 11 8 ^^^ (nI 1 <<< (v &&& 31)))) := by
      unfold oBar
      rw [if_pos h1]
    rw [eo]
    exact ⟨rfl, hR2, hf1.stI (by omega)⟩
  · refine y_iconst (v := -1) hg dX0_bar_8 rfl ?_
    refine y_iret hg hr ⟨_, rfl, ?_⟩ dX0_bar_9 (Nat.le_refl _) (Nat.le_refl _)
    have eo : oBar A v = (-1, A) := by unfold oBar; rw [if_neg (b2F hc)]
    rw [eo]
    exact ⟨rfl, hR, Fr.rf⟩
theorem cX_rank (hW : WFA A) (hR : RX B A sd σ) (w v : Int32) : MT ll B 24 0 0 yX0_rank cX0_rank 4 (some .int) [.ref (B.1 + 0), .int w, .int v] σ (oX B sd σ (oRank A w v)) := by
  have hL := hR.1
  refine MT.of (by decide) (Nat.le_of_ble_eq_true rfl) (fun g hg hr => ?_)
  refine y_aload_n hg dX0_rank_0 rfl ?_
  refine y_iload_n hg dX0_rank_1 rfl ?_
  refine y_cVi hg (cX_isW hW hR _) iX0_isWord q440 (hL.x) cf0 rfl rfl (by simp [Value.category]) (Nat.le_refl _) (Nat.le_refl _) (by decide) dX0_rank_2 (fun r σ1 hp => ?_)
  obtain ⟨rfl, rfl⟩ := hp
  refine y_if_ne hg 10 dX0_rank_5 (by decide) (fun hc => ?_) (fun hc => ?_)
  · have h1 := b2T hc
    refine y_iload_n hg dX0_rank_10 rfl ?_
    refine y_i2l hg dX0_rank_11 ?_
    refine y_lconst (v := 0) hg dX0_rank_12 rfl ?_
    refine y_ldc2 hg dX0_rank_13 q496 ?_
    refine y_cSi hg (cX_isIn _ _ _) iX0_isIn q286 rfl rfl (by simp [Value.category]) (Nat.le_refl _) (Nat.le_refl _) (by decide) dX0_rank_16 (fun r σ1 hp => ?_)
    obtain ⟨rfl, rfl⟩ := hp
    refine y_if_ne hg 25 dX0_rank_19 (by decide) (fun hc2 => ?_) (fun hc2 => ?_)
    · have h2 := b2T hc2
      have hm := hW.nmle
      obtain ⟨w, hw, rfl⟩ := (isW_iff hm).mp h1
      refine y_aload_n hg dX0_rank_25 rfl ?_
      refine y_cVv hg (cX_act hW hR) iX0_act q479 (hL.x) cf0 rfl rfl (by simp [Value.category]) (Nat.le_refl _) (Nat.le_refl _) (by decide) dX0_rank_26 (fun σ2 hp => ?_)
      obtain ⟨hR1, hf1⟩ := hp
      have hL := hR1.1
      have hb := hR1.ranks (w := w) (by omega)
      have hn1 : nm (nt A) ≤ 10 := by rw [nt_nm]; exact hW.nmle
      have hR2 := hR1.uRank (w := w) hn1 (by omega) (v := v)
      refine y_aload_n hg dX0_rank_29 rfl ?_
      refine y_getr (j := 2) hg cf0 (hL.x) (by decide) rfl (hL.r_now) q174 dX0_rank_30 ?_
      refine y_getrN (j := 2) hg cf1 (hL.s_now.o) (by decide) rfl (hL.s_now.r_ranks) nf2 dX0_rank_33 ?_
      refine y_iload_n hg dX0_rank_36 rfl ?_
      refine y_iald hg _ (hL.s_now.k_ranks) rfl (by omega) dX0_rank_37 ?_
      refine y_ti (hb) ?_
      refine y_istore_n hg dX0_rank_38 (by decide) (lv1 := [(0, _), (1, _), (2, _), (3, _)]) rfl ?_
      refine y_aload_n hg dX0_rank_39 rfl ?_
      refine y_getr (j := 2) hg cf0 (hL.x) (by decide) rfl (hL.r_now) q174 dX0_rank_40 ?_
      refine y_getrN (j := 2) hg cf1 (hL.s_now.o) (by decide) rfl (hL.s_now.r_ranks) nf2 dX0_rank_43 ?_
      refine y_iload_n hg dX0_rank_46 rfl ?_
      refine y_iload_n hg dX0_rank_47 rfl ?_
      refine y_iast hg _ (hL.s_now.k_ranks) rfl (by omega) dX0_rank_48 ?_
      refine y_iload_n hg dX0_rank_49 rfl ?_
      refine y_iret hg hr ⟨_, rfl, ?_⟩ dX0_rank_50 (Nat.le_refl _) (Nat.le_refl _)
      have eo : oRank A (nI w) v = (nt A 11 (9 + w), up2 (nt A) 11 (9 + w) v) := by
        unfold oRank
        rw [if_pos h1, if_pos h2, nI_clamp (by omega)]
      rw [eo]
      exact ⟨rfl, hR2, hf1.stI (by omega)⟩
    · refine y_bipush (v := -2) hg dX0_rank_22 rfl ?_
      refine y_iret hg hr ⟨_, rfl, ?_⟩ dX0_rank_24 (Nat.le_refl _) (Nat.le_refl _)
      have eo : oRank A w v = (-2, A) := by unfold oRank; rw [if_pos h1, if_neg (b2F hc2)]
      rw [eo]
      exact ⟨rfl, hR, Fr.rf⟩
  · refine y_iconst (v := -1) hg dX0_rank_8 rfl ?_
    refine y_iret hg hr ⟨_, rfl, ?_⟩ dX0_rank_9 (Nat.le_refl _) (Nat.le_refl _)
    have eo : oRank A w v = (-1, A) := by unfold oRank; rw [if_neg (b2F hc)]
    rw [eo]
    exact ⟨rfl, hR, Fr.rf⟩
theorem cM_bar (hW : WFA A) (hR : RMm B A sd σ) (v : Int32) : MT ll B 24 0 0 yX3_bar cX3_bar 2 (some .int) [.ref (B.1 + 157), .int v] σ (oM B sd σ (oBar A v)) := by
  have hM := hR.1
  refine MT.of (by decide) (Nat.le_of_ble_eq_true rfl) (fun g hg hr => ?_)
  refine y_aload_n hg dX3_bar_0 rfl ?_
  refine y_iload_n hg dX3_bar_1 rfl ?_
  refine y_cVi hg (cM_isW hW hR _) iX3_isWord q1174 (hM.m) cf3 rfl rfl (by simp [Value.category]) (Nat.le_refl _) (Nat.le_refl _) (by decide) dX3_bar_2 (fun r σ1 hp => ?_)
  obtain ⟨rfl, rfl⟩ := hp
  refine y_if_ne hg 10 dX3_bar_5 (by decide) (fun hc => ?_) (fun hc => ?_)
  · have h1 := b2T hc
    refine y_aload_n hg dX3_bar_10 rfl ?_
    refine y_cVv hg (cM_note hW hR) iX3_note q1206 (hM.m) cf3 rfl rfl (by simp [Value.category]) (Nat.le_refl _) (Nat.le_refl _) (by decide) dX3_bar_11 (fun σ2 hp => ?_)
    obtain ⟨hR1, hf1⟩ := hp
    have hM := hR1.1
    have hb := hR1.barred
    have hn1 : nm (nt A) ≤ 10 := by rw [nt_nm]; exact hW.nmle
    have hR2 := hR1.uBarred hn1 (v := nt A 11 8 ^^^ (nI 1 <<< (v &&& 31)))
    refine y_aload_n hg dX3_bar_14 rfl ?_
    refine y_getr (j := 7) hg cf3 (hM.m) (by decide) rfl (hM.r_now) q918 dX3_bar_15 ?_
    refine y_bipush (v := nI 8) hg dX3_bar_18 rfl ?_
    refine y_dup2 hg dX3_bar_20 rfl rfl ?_
    refine y_iald hg _ (hM.k_now) rfl (by omega) dX3_bar_21 ?_
    refine y_ti (hb) ?_
    refine y_iconst (v := nI 1) hg dX3_bar_22 rfl ?_
    refine y_iload_n hg dX3_bar_23 rfl ?_
    refine y_ishl hg dX3_bar_24 ?_
    refine y_ixor hg dX3_bar_25 ?_
    refine y_iast hg _ (hM.k_now) rfl (by omega) dX3_bar_26 ?_
    refine y_aload_n hg dX3_bar_27 rfl ?_
    refine y_getr (j := 7) hg cf3 (hM.m) (by decide) rfl (hM.r_now) q918 dX3_bar_28 ?_
    refine y_bipush (v := nI 8) hg dX3_bar_31 rfl ?_
    refine y_iald hg _ (hM.k_now) rfl (by omega) dX3_bar_33 ?_
    refine y_ti (gI_s) ?_
    refine y_iload_n hg dX3_bar_34 rfl ?_
    refine y_ishr hg dX3_bar_35 ?_
    refine y_iconst (v := nI 1) hg dX3_bar_36 rfl ?_
    refine y_iand hg dX3_bar_37 ?_
    refine y_iret hg hr ⟨_, rfl, ?_⟩ dX3_bar_38 (Nat.le_refl _) (Nat.le_refl _)
    have eo : oBar A v = (((nt A 11 8 ^^^ (nI 1 <<< (v &&& 31))) >>> (v &&& 31)) &&& nI 1, up2 (nt A) 11 8 (nt A 11 8 ^^^ (nI 1 <<< (v &&& 31)))) := by
      unfold oBar
      rw [if_pos h1]
    rw [eo]
    exact ⟨rfl, hR2, hf1.stI (by omega)⟩
  · refine y_iconst (v := -1) hg dX3_bar_8 rfl ?_
    refine y_iret hg hr ⟨_, rfl, ?_⟩ dX3_bar_9 (Nat.le_refl _) (Nat.le_refl _)
    have eo : oBar A v = (-1, A) := by unfold oBar; rw [if_neg (b2F hc)]
    rw [eo]
    exact ⟨rfl, hR, FrR.rf⟩
theorem cM_rank (hW : WFA A) (hR : RMm B A sd σ) (w v : Int32) : MT ll B 24 0 0 yX3_rank cX3_rank 4 (some .int) [.ref (B.1 + 157), .int w, .int v] σ (oM B sd σ (oRank A w v)) := by
  have hM := hR.1
  refine MT.of (by decide) (Nat.le_of_ble_eq_true rfl) (fun g hg hr => ?_)
  refine y_aload_n hg dX3_rank_0 rfl ?_
  refine y_iload_n hg dX3_rank_1 rfl ?_
  refine y_cVi hg (cM_isW hW hR _) iX3_isWord q1174 (hM.m) cf3 rfl rfl (by simp [Value.category]) (Nat.le_refl _) (Nat.le_refl _) (by decide) dX3_rank_2 (fun r σ1 hp => ?_)
  obtain ⟨rfl, rfl⟩ := hp
  refine y_if_ne hg 10 dX3_rank_5 (by decide) (fun hc => ?_) (fun hc => ?_)
  · have h1 := b2T hc
    refine y_iload_n hg dX3_rank_10 rfl ?_
    refine y_i2l hg dX3_rank_11 ?_
    refine y_lconst (v := 0) hg dX3_rank_12 rfl ?_
    refine y_ldc2 hg dX3_rank_13 q1222 ?_
    refine y_cSi hg (cM_in _ _ _) iX3_in q1052 rfl rfl (by simp [Value.category]) (Nat.le_refl _) (Nat.le_refl _) (by decide) dX3_rank_16 (fun r σ1 hp => ?_)
    obtain ⟨rfl, rfl⟩ := hp
    refine y_if_ne hg 25 dX3_rank_19 (by decide) (fun hc2 => ?_) (fun hc2 => ?_)
    · have h2 := b2T hc2
      have hm := hW.nmle
      obtain ⟨w, hw, rfl⟩ := (isW_iff hm).mp h1
      refine y_aload_n hg dX3_rank_25 rfl ?_
      refine y_cVv hg (cM_note hW hR) iX3_note q1206 (hM.m) cf3 rfl rfl (by simp [Value.category]) (Nat.le_refl _) (Nat.le_refl _) (by decide) dX3_rank_26 (fun σ2 hp => ?_)
      obtain ⟨hR1, hf1⟩ := hp
      have hM := hR1.1
      have hb := hR1.ranks (w := w) (by omega)
      have hn1 : nm (nt A) ≤ 10 := by rw [nt_nm]; exact hW.nmle
      have hR2 := hR1.uRank (w := w) hn1 (by omega) (v := v)
      refine y_aload_n hg dX3_rank_29 rfl ?_
      refine y_getr (j := 7) hg cf3 (hM.m) (by decide) rfl (hM.r_now) q918 dX3_rank_30 ?_
      refine y_bipush (v := nI 9) hg dX3_rank_33 rfl ?_
      refine y_iload_n hg dX3_rank_35 rfl ?_
      refine y_iadd hg dX3_rank_36 ?_
      refine y_ti (nI_add _ _) ?_
      refine y_iald hg _ (hM.k_now) rfl (by omega) dX3_rank_37 ?_
      refine y_ti (hb) ?_
      refine y_istore_n hg dX3_rank_38 (by decide) (lv1 := [(0, _), (1, _), (2, _), (3, _)]) rfl ?_
      refine y_aload_n hg dX3_rank_39 rfl ?_
      refine y_getr (j := 7) hg cf3 (hM.m) (by decide) rfl (hM.r_now) q918 dX3_rank_40 ?_
      refine y_bipush (v := nI 9) hg dX3_rank_43 rfl ?_
      refine y_iload_n hg dX3_rank_45 rfl ?_
      refine y_iadd hg dX3_rank_46 ?_
      refine y_ti (nI_add _ _) ?_
      refine y_iload_n hg dX3_rank_47 rfl ?_
      refine y_iast hg _ (hM.k_now) rfl (by omega) dX3_rank_48 ?_
      refine y_iload_n hg dX3_rank_49 rfl ?_
      refine y_iret hg hr ⟨_, rfl, ?_⟩ dX3_rank_50 (Nat.le_refl _) (Nat.le_refl _)
      have eo : oRank A (nI w) v = (nt A 11 (9 + w), up2 (nt A) 11 (9 + w) v) := by
        unfold oRank
        rw [if_pos h1, if_pos h2, nI_clamp (by omega)]
      rw [eo]
      exact ⟨rfl, hR2, hf1.stI (by omega)⟩
    · refine y_bipush (v := -2) hg dX3_rank_22 rfl ?_
      refine y_iret hg hr ⟨_, rfl, ?_⟩ dX3_rank_24 (Nat.le_refl _) (Nat.le_refl _)
      have eo : oRank A w v = (-2, A) := by unfold oRank; rw [if_pos h1, if_neg (b2F hc2)]
      rw [eo]
      exact ⟨rfl, hR, FrR.rf⟩
  · refine y_iconst (v := -1) hg dX3_rank_8 rfl ?_
    refine y_iret hg hr ⟨_, rfl, ?_⟩ dX3_rank_9 (Nat.le_refl _) (Nat.le_refl _)
    have eo : oRank A w v = (-1, A) := by unfold oRank; rw [if_neg (b2F hc)]
    rw [eo]
    exact ⟨rfl, hR, FrR.rf⟩
end Ops2

