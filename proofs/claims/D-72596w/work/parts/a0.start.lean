/-! ===== what holds at the law's entry ===== -/
section Start
theorem kk_start {s : State} {b : Nat} (hts : ∀ w ∈ lw_tbl, w.before #[Value.ref b] s = true) (hgv : (Jvm.Cond.and given_1 narrow_1).before #[Value.ref b] s = true) : ∃ B : Bs, B.1 = s.heap.size ∧ KK B s := by
  have ht : ∀ w ∈ lw_all, w.before #[Value.ref b] s = true := fun w hw => hts w (lw_all_tbl hw)
  obtain ⟨c0, i0, h0⟩ := u_known (n := 36) ht cf0.2.1 (ht _ q103)
  obtain ⟨c1, i1, h1⟩ := u_known (n := 6) ht cf1.2.1 (ht _ q113)
  obtain ⟨c2, i2, h2⟩ := u_known (n := 4) ht cf2.2.1 (ht _ q148)
  obtain ⟨c3, i3, h3⟩ := u_known (n := 45) ht cf3.2.1 (ht _ q903)
  obtain ⟨c4, i4, h4⟩ := u_known (n := 7) ht cf4.2.1 (ht _ q575)
  obtain ⟨c5, i5, h5⟩ := u_known (n := 7) ht cf5.2.1 (ht _ q645)
  obtain ⟨c6, i6, h6⟩ := u_known (n := 8) ht cf6.2.1 (ht _ q664)
  obtain ⟨c7, i7, h7⟩ := u_known (n := 7) ht cf7.2.1 (ht _ q690)
  obtain ⟨c8, i8, h8⟩ := u_known (n := 7) ht cf8.2.1 (ht _ q705)
  obtain ⟨c9, i9, h9⟩ := u_known (n := 7) ht cf9.2.1 (ht _ q725)
  obtain ⟨c10, i10, h10⟩ := u_known (n := 7) ht cf10.2.1 (ht _ q741)
  obtain ⟨a0, k0, o0, f0, g0, e0⟩ := Cond.arrayClass_spec (ht _ q143)
  obtain ⟨a1, k1, o1, f1, g1, e1⟩ := Cond.arrayClass_spec (ht _ q170)
  obtain ⟨a2, k2, o2, f2, g2, e2⟩ := Cond.arrayClass_spec (ht _ q171)
  obtain ⟨o3, a3, k3, x3, -, g3, e3, f3⟩ := Cond.arrayOver_spec (hts _ q111)
  obtain ⟨o4, a4, k4, x4, -, g4, e4, f4⟩ := Cond.arrayOver_spec (hts _ q147)
  have hfl := flat_of_before _ hgv
  have hA : ∀ a : Nat, a < s.heap.size → ¬ (fun q => s.heap.size ≤ q) a := fun a ha => Nat.not_le.mpr ha
  refine ⟨(s.heap.size, (fun k => match k with | 0 => c0 | 1 => c1 | 2 => c2 | 3 => c3 | 4 => c4 | 5 => c5 | 6 => c6 | 7 => c7 | 8 => c8 | 9 => c9 | _ => c10, fun k => match k with | 0 => i0 | 1 => i1 | 2 => i2 | 3 => i3 | 4 => i4 | 5 => i5 | 6 => i6 | 7 => i7 | 8 => i8 | 9 => i9 | _ => i10), fun k => match k with | 0 => a0 | 1 => a1 | 2 => a2 | 3 => a3 | _ => a4), rfl, ⟨?_, ?_⟩, ?_, ?_, va_AO.of (hts _ q111), va_AO.of (hts _ q147), vx_Zqof (hts _ q599) (hts _ (lw_all_tbl q91)) (hfl _ (by decide +kernel)) hA, vx_Zqof (hts _ q601) (hts _ (lw_all_tbl q91)) (hfl _ (by decide +kernel)) hA, ?_, ?_, va_Nw.of rfl (hts _ q760)⟩
  · intro c q hq
    match c, hq with
    | 0, hq => cases hq; exact h0
    | 1, hq => cases hq; exact h1
    | 2, hq => cases hq; exact h2
    | 3, hq => cases hq; exact h3
    | 4, hq => cases hq; exact h4
    | 5, hq => cases hq; exact h5
    | 6, hq => cases hq; exact h6
    | 7, hq => cases hq; exact h7
    | 8, hq => cases hq; exact h8
    | 9, hq => cases hq; exact h9
    | 10, hq => cases hq; exact h10
    | k + 11, hq => cases hq
  · intro c q hq
    match c, hq with
    | 0, hq => cases hq; exact ⟨fun n z => ⟨fun k h => (by cases h), k0, g0, o0, e0⟩, f0⟩
    | 1, hq => cases hq; exact ⟨fun n z => ⟨fun k h => (by cases h), k1, g1, o1, e1⟩, f1⟩
    | 2, hq => cases hq; exact ⟨fun n z => ⟨fun k h => (by cases h), k2, g2, o2, e2⟩, f2⟩
    | 3, hq => cases hq; exact ⟨fun n z => ⟨fun k h => (by cases h), k3, g3, o3, e3⟩, k3, o3, g3, e3, x3, f3⟩
    | 4, hq => cases hq; exact ⟨fun n z => ⟨fun k h => (by cases h), k4, g4, o4, e4⟩, k4, o4, g4, e4, x4, f4⟩
    | k + 5, hq => cases hq
  · intro q hq
    simp only [nstF, List.mem_cons, List.not_mem_nil, or_false] at hq
    rcases hq with rfl | rfl | rfl | rfl | rfl | rfl | rfl | rfl | rfl | rfl | rfl | rfl
    · exact va_Nw.of rfl (hts _ q119)
    · exact va_Nw.of rfl (hts _ q121)
    · exact va_Nw.of rfl (hts _ q123)
    · exact va_Nw.of rfl (hts _ q125)
    · exact va_Nw.of rfl (hts _ q127)
    · exact va_Nw.of rfl (hts _ q129)
    · exact va_Nw.of rfl (hts _ q154)
    · exact va_Nw.of rfl (hts _ q156)
    · exact va_Nw.of rfl (hts _ q158)
    · exact va_Nw.of rfl (hts _ q160)
    · exact va_Nw.of rfl (hts _ q680)
    · exact va_Nw.of rfl (hts _ q682)
  · intro q hq
    simp only [nstM, List.mem_cons, List.not_mem_nil, or_false] at hq
    rcases hq with rfl | rfl
    · exact va_Nw.of rfl (hts _ q114)
    · exact va_Nw.of rfl (hts _ q149)
  · intro q hq
    simp only [ncL, List.mem_cons, List.not_mem_nil, or_false] at hq
    rcases hq with rfl | rfl | rfl | rfl | rfl | rfl | rfl | rfl | rfl | rfl | rfl | rfl <;> exact va_Nc.of (hfl _ (by decide +kernel))
  · intro q hq
    simp only [caL, List.mem_cons, List.not_mem_nil, or_false] at hq
    rcases hq with rfl | rfl | rfl | rfl | rfl | rfl | rfl | rfl | rfl | rfl
    · exact va_Nw.of rfl (hts _ q665)
    · exact va_Nw.of rfl (hts _ q576)
    · exact va_Nw.of rfl (hts _ q646)
    · exact va_Nw.of rfl (hts _ q706)
    · exact va_Nw.of rfl (hts _ q1390)
    · exact va_Nw.of rfl (hts _ q1394)
    · exact va_Nw.of rfl (hts _ q1392)
    · exact va_Nw.of rfl (hts _ q1395)
    · exact va_Nw.of rfl (hts _ q1391)
    · exact va_Nw.of rfl (hts _ q1393)
end Start
