/-! ===== the layout of the two objects in the memory ===== -/
theorem inc1 (a : Nat) : nI a + Int32.ofInt 1 = nI (a + 1) := nI_1 a
theorem dec1 (a : Nat) : nI (a + 1) + Int32.ofInt (-1) = nI a := pk_m1 a
def b2 (b : Bool) : Int32 := bif b then 1 else 0
theorem nz_b2 (b : Bool) : narrow .boolean (.int (b2 b)) = .int (b2 b) := by cases b <;> rfl
theorem b2_ne (b : Bool) : b2 b ≠ 0 ↔ b = true := by cases b <;> decide
theorem b2_eq (b : Bool) : b2 b = 0 ↔ b = false := by cases b <;> decide
theorem b2_t {b : Bool} (h : b = true) : b2 b = 1 := by rw [h]; rfl
theorem b2_f {b : Bool} (h : b = false) : b2 b = 0 := by rw [h]; rfl
theorem nf0 : (("BagPhrases", 104, "BagPhrases$Setting", "bag", "[I", "BagPhrases") : String × Nat × String × String × String × String) ∈ nstF := List.mem_of_getElem? (i := 0) rfl
theorem nf1 : (("BagPhrases", 119, "BagPhrases$Setting", "barred", "I", "BagPhrases") : String × Nat × String × String × String × String) ∈ nstF := List.mem_of_getElem? (i := 1) rfl
theorem nf2 : (("BagPhrases", 156, "BagPhrases$Setting", "ranks", "[I", "BagPhrases") : String × Nat × String × String × String × String) ∈ nstF := List.mem_of_getElem? (i := 2) rfl
theorem nf3 : (("BagPhrases", 129, "BagPhrases$Setting", "begins", "I", "BagPhrases") : String × Nat × String × String × String × String) ∈ nstF := List.mem_of_getElem? (i := 3) rfl
theorem nf4 : (("BagPhrases", 138, "BagPhrases$Setting", "ends", "I", "BagPhrases") : String × Nat × String × String × String × String) ∈ nstF := List.mem_of_getElem? (i := 4) rfl
theorem nf5 : (("BagPhrases", 132, "BagPhrases$Setting", "follows", "[I", "BagPhrases") : String × Nat × String × String × String × String) ∈ nstF := List.mem_of_getElem? (i := 5) rfl
theorem nf6 : (("BagPhrases", 340, "BagPhrases$Word", "spelt", "[I", "BagPhrases") : String × Nat × String × String × String × String) ∈ nstF := List.mem_of_getElem? (i := 6) rfl
theorem nf7 : (("BagPhrases", 210, "BagPhrases$Word", "length", "I", "BagPhrases") : String × Nat × String × String × String × String) ∈ nstF := List.mem_of_getElem? (i := 7) rfl
theorem nf8 : (("BagPhrases", 135, "BagPhrases$Word", "kind", "I", "BagPhrases") : String × Nat × String × String × String × String) ∈ nstF := List.mem_of_getElem? (i := 8) rfl
theorem nf9 : (("BagPhrases", 112, "BagPhrases$Word", "has", "[I", "BagPhrases") : String × Nat × String × String × String × String) ∈ nstF := List.mem_of_getElem? (i := 9) rfl
theorem nf10 : (("BagPhrases", 396, "BagPhrases$Amiss", "letter", "I", "BagPhrases") : String × Nat × String × String × String × String) ∈ nstF := List.mem_of_getElem? (i := 10) rfl
theorem nf11 : (("BagPhrases", 399, "BagPhrases$Amiss", "many", "I", "BagPhrases") : String × Nat × String × String × String × String) ∈ nstF := List.mem_of_getElem? (i := 11) rfl
theorem nm0 : (("BagPhrases", 17, ⟨"BagPhrases$Setting", "<init>", "()V"⟩, "BagPhrases") : String × Nat × MethodName × String) ∈ nstM := List.mem_of_getElem? (i := 0) rfl
theorem nm1 : (("BagPhrases", 96, ⟨"BagPhrases$Word", "<init>", "()V"⟩, "BagPhrases") : String × Nat × MethodName × String) ∈ nstM := List.mem_of_getElem? (i := 1) rfl
def IsS (B : Bs) (σ : Mem) (k : Nat) : Prop := (KO σ k 1) ∧ (σ.2.2.2.2 k 0 = some (B.1 + (k + 1))) ∧ (KA σ (k + 1) 0 8) ∧ (σ.2.2.2.2 k 2 = some (B.1 + (k + 2))) ∧ (KA σ (k + 2) 0 10) ∧ (σ.2.2.2.2 k 5 = some (B.1 + (k + 3))) ∧ (KA σ (k + 3) 0 4)
theorem IsS.o {B : Bs} {σ : Mem} {k : Nat} (h : IsS B σ k) : KO σ k 1 := h.1
theorem IsS.r_bag {B : Bs} {σ : Mem} {k : Nat} (h : IsS B σ k) : σ.2.2.2.2 k 0 = some (B.1 + (k + 1)) := h.2.1
theorem IsS.k_bag {B : Bs} {σ : Mem} {k : Nat} (h : IsS B σ k) : KA σ (k + 1) 0 8 := h.2.2.1
theorem IsS.r_ranks {B : Bs} {σ : Mem} {k : Nat} (h : IsS B σ k) : σ.2.2.2.2 k 2 = some (B.1 + (k + 2)) := h.2.2.2.1
theorem IsS.k_ranks {B : Bs} {σ : Mem} {k : Nat} (h : IsS B σ k) : KA σ (k + 2) 0 10 := h.2.2.2.2.1
theorem IsS.r_follows {B : Bs} {σ : Mem} {k : Nat} (h : IsS B σ k) : σ.2.2.2.2 k 5 = some (B.1 + (k + 3)) := h.2.2.2.2.2.1
theorem IsS.k_follows {B : Bs} {σ : Mem} {k : Nat} (h : IsS B σ k) : KA σ (k + 3) 0 4 := h.2.2.2.2.2.2
def IsW (B : Bs) (σ : Mem) (k : Nat) : Prop := (KO σ k 2) ∧ (σ.2.2.2.2 k 0 = some (B.1 + (k + 1))) ∧ (KA σ (k + 1) 0 6) ∧ (σ.2.2.2.2 k 3 = some (B.1 + (k + 2))) ∧ (KA σ (k + 2) 0 8)
theorem IsW.o {B : Bs} {σ : Mem} {k : Nat} (h : IsW B σ k) : KO σ k 2 := h.1
theorem IsW.r_spelt {B : Bs} {σ : Mem} {k : Nat} (h : IsW B σ k) : σ.2.2.2.2 k 0 = some (B.1 + (k + 1)) := h.2.1
theorem IsW.k_spelt {B : Bs} {σ : Mem} {k : Nat} (h : IsW B σ k) : KA σ (k + 1) 0 6 := h.2.2.1
theorem IsW.r_has {B : Bs} {σ : Mem} {k : Nat} (h : IsW B σ k) : σ.2.2.2.2 k 3 = some (B.1 + (k + 2)) := h.2.2.2.1
theorem IsW.k_has {B : Bs} {σ : Mem} {k : Nat} (h : IsW B σ k) : KA σ (k + 2) 0 8 := h.2.2.2.2
def LX (B : Bs) (σ : Mem) : Prop := (KO σ 0 0) ∧ (σ.2.2.2.2 0 0 = some (B.1 + 1)) ∧ (KA σ 1 3 10) ∧ (σ.2.2.2.2 0 6 = some (B.1 + 10)) ∧ (KA σ 10 0 8) ∧ (σ.2.2.2.2 0 7 = some (B.1 + 11)) ∧ (KA σ 11 0 8) ∧ (σ.2.2.2.2 0 8 = some (B.1 + 12)) ∧ (KA σ 12 1 10000) ∧ (σ.2.2.2.2 0 9 = some (B.1 + 13)) ∧ (KA σ 13 0 10000) ∧ (σ.2.2.2.2 0 10 = some (B.1 + 14)) ∧ (KA σ 14 0 10) ∧ (σ.2.2.2.2 0 12 = some (B.1 + 15)) ∧ (KA σ 15 0 13) ∧ (σ.2.2.2.2 0 16 = some (B.1 + 18)) ∧ (KA σ 18 0 180) ∧ (σ.2.2.2.2 0 20 = some (B.1 + 19)) ∧ (KA σ 19 3 10) ∧ (σ.2.2.2.2 0 24 = some (B.1 + 24)) ∧ (KA σ 24 4 14) ∧ (σ.2.2.2.2 0 25 = some (B.1 + 81)) ∧ (KA σ 81 0 12) ∧ (σ.2.2.2.2 0 27 = some (B.1 + 82)) ∧ (KA σ 82 0 8) ∧ (σ.2.2.2.2 0 29 = some (B.1 + 83)) ∧ (KA σ 83 0 6) ∧ (σ.2.2.2.2 0 30 = some (B.1 + 84)) ∧ (KA σ 84 0 6) ∧ (σ.2.2.2.2 0 31 = some (B.1 + 85)) ∧ (KA σ 85 0 6) ∧ (σ.2.2.2.2 0 32 = some (B.1 + 86)) ∧ (KA σ 86 1 1024) ∧ (σ.2.2.2.2 0 34 = some (B.1 + 87)) ∧ (KA σ 87 2 2) ∧ (σ.2.2.2.2 0 35 = some (B.1 + 88)) ∧ (KA σ 88 4 2) ∧ (KA σ 16 1 8000) ∧ (KA σ 17 1 8000) ∧ (σ.2.2.2.2 0 2 = some (B.1 + 2)) ∧ (IsS B σ 2) ∧ (σ.2.2.2.2 0 3 = some (B.1 + 6)) ∧ (IsS B σ 6) ∧ (σ.2.2.2.2 0 21 = some (B.1 + 20)) ∧ (IsS B σ 20) ∧ (∀ i, i < 14 → σ.2.2.2.2 24 i = some (B.1 + (25 + 4 * i)) ∧ IsS B σ (25 + 4 * i)) ∧ (∀ i, i < 2 → σ.2.2.2.2 88 i = some (B.1 + (89 + 4 * i)) ∧ IsS B σ (89 + 4 * i)) ∧ (∀ i, i < 10 → σ.2.2.2.2 1 i = some (B.1 + (97 + 6 * i)) ∧ IsW B σ (97 + 6 * i)) ∧ (∀ i, i < 10 → σ.2.2.2.2 19 i = some (B.1 + (100 + 6 * i)) ∧ IsW B σ (100 + 6 * i))
theorem LX.x {B : Bs} {σ : Mem} (h : LX B σ) : KO σ 0 0 := h.1
theorem LX.r_words {B : Bs} {σ : Mem} (h : LX B σ) : σ.2.2.2.2 0 0 = some (B.1 + 1) := h.2.1
theorem LX.k_words {B : Bs} {σ : Mem} (h : LX B σ) : KA σ 1 3 10 := h.2.2.1
theorem LX.r_base {B : Bs} {σ : Mem} (h : LX B σ) : σ.2.2.2.2 0 6 = some (B.1 + 10) := h.2.2.2.1
theorem LX.k_base {B : Bs} {σ : Mem} (h : LX B σ) : KA σ 10 0 8 := h.2.2.2.2.1
theorem LX.r_rest {B : Bs} {σ : Mem} (h : LX B σ) : σ.2.2.2.2 0 7 = some (B.1 + 11) := h.2.2.2.2.2.1
theorem LX.k_rest {B : Bs} {σ : Mem} (h : LX B σ) : KA σ 11 0 8 := h.2.2.2.2.2.2.1
theorem LX.r_counts {B : Bs} {σ : Mem} (h : LX B σ) : σ.2.2.2.2 0 8 = some (B.1 + 12) := h.2.2.2.2.2.2.2.1
theorem LX.k_counts {B : Bs} {σ : Mem} (h : LX B σ) : KA σ 12 1 10000 := h.2.2.2.2.2.2.2.2.1
theorem LX.r_worths {B : Bs} {σ : Mem} (h : LX B σ) : σ.2.2.2.2 0 9 = some (B.1 + 13) := h.2.2.2.2.2.2.2.2.2.1
theorem LX.k_worths {B : Bs} {σ : Mem} (h : LX B σ) : KA σ 13 0 10000 := h.2.2.2.2.2.2.2.2.2.2.1
theorem LX.r_steps {B : Bs} {σ : Mem} (h : LX B σ) : σ.2.2.2.2 0 10 = some (B.1 + 14) := h.2.2.2.2.2.2.2.2.2.2.2.1
theorem LX.k_steps {B : Bs} {σ : Mem} (h : LX B σ) : KA σ 14 0 10 := h.2.2.2.2.2.2.2.2.2.2.2.2.1
theorem LX.r_found {B : Bs} {σ : Mem} (h : LX B σ) : σ.2.2.2.2 0 12 = some (B.1 + 15) := h.2.2.2.2.2.2.2.2.2.2.2.2.2.1
theorem LX.k_found {B : Bs} {σ : Mem} (h : LX B σ) : KA σ 15 0 13 := h.2.2.2.2.2.2.2.2.2.2.2.2.2.2.1
theorem LX.r_text {B : Bs} {σ : Mem} (h : LX B σ) : σ.2.2.2.2 0 16 = some (B.1 + 18) := h.2.2.2.2.2.2.2.2.2.2.2.2.2.2.2.1
theorem LX.k_text {B : Bs} {σ : Mem} (h : LX B σ) : KA σ 18 0 180 := h.2.2.2.2.2.2.2.2.2.2.2.2.2.2.2.2.1
theorem LX.r_readWords {B : Bs} {σ : Mem} (h : LX B σ) : σ.2.2.2.2 0 20 = some (B.1 + 19) := h.2.2.2.2.2.2.2.2.2.2.2.2.2.2.2.2.2.1
theorem LX.k_readWords {B : Bs} {σ : Mem} (h : LX B σ) : KA σ 19 3 10 := h.2.2.2.2.2.2.2.2.2.2.2.2.2.2.2.2.2.2.1
theorem LX.r_before {B : Bs} {σ : Mem} (h : LX B σ) : σ.2.2.2.2 0 24 = some (B.1 + 24) := h.2.2.2.2.2.2.2.2.2.2.2.2.2.2.2.2.2.2.2.1
theorem LX.k_before {B : Bs} {σ : Mem} (h : LX B σ) : KA σ 24 4 14 := h.2.2.2.2.2.2.2.2.2.2.2.2.2.2.2.2.2.2.2.2.1
theorem LX.r_row {B : Bs} {σ : Mem} (h : LX B σ) : σ.2.2.2.2 0 25 = some (B.1 + 81) := h.2.2.2.2.2.2.2.2.2.2.2.2.2.2.2.2.2.2.2.2.2.1
theorem LX.k_row {B : Bs} {σ : Mem} (h : LX B σ) : KA σ 81 0 12 := h.2.2.2.2.2.2.2.2.2.2.2.2.2.2.2.2.2.2.2.2.2.2.1
theorem LX.r_left {B : Bs} {σ : Mem} (h : LX B σ) : σ.2.2.2.2 0 27 = some (B.1 + 82) := h.2.2.2.2.2.2.2.2.2.2.2.2.2.2.2.2.2.2.2.2.2.2.2.1
theorem LX.k_left {B : Bs} {σ : Mem} (h : LX B σ) : KA σ 82 0 8 := h.2.2.2.2.2.2.2.2.2.2.2.2.2.2.2.2.2.2.2.2.2.2.2.2.1
theorem LX.r_seenWhat {B : Bs} {σ : Mem} (h : LX B σ) : σ.2.2.2.2 0 29 = some (B.1 + 83) := h.2.2.2.2.2.2.2.2.2.2.2.2.2.2.2.2.2.2.2.2.2.2.2.2.2.1
theorem LX.k_seenWhat {B : Bs} {σ : Mem} (h : LX B σ) : KA σ 83 0 6 := h.2.2.2.2.2.2.2.2.2.2.2.2.2.2.2.2.2.2.2.2.2.2.2.2.2.2.1
theorem LX.r_seenOf {B : Bs} {σ : Mem} (h : LX B σ) : σ.2.2.2.2 0 30 = some (B.1 + 84) := h.2.2.2.2.2.2.2.2.2.2.2.2.2.2.2.2.2.2.2.2.2.2.2.2.2.2.2.1
theorem LX.k_seenOf {B : Bs} {σ : Mem} (h : LX B σ) : KA σ 84 0 6 := h.2.2.2.2.2.2.2.2.2.2.2.2.2.2.2.2.2.2.2.2.2.2.2.2.2.2.2.2.1
theorem LX.r_seenWas {B : Bs} {σ : Mem} (h : LX B σ) : σ.2.2.2.2 0 31 = some (B.1 + 85) := h.2.2.2.2.2.2.2.2.2.2.2.2.2.2.2.2.2.2.2.2.2.2.2.2.2.2.2.2.2.1
theorem LX.k_seenWas {B : Bs} {σ : Mem} (h : LX B σ) : KA σ 85 0 6 := h.2.2.2.2.2.2.2.2.2.2.2.2.2.2.2.2.2.2.2.2.2.2.2.2.2.2.2.2.2.2.1
theorem LX.r_worth {B : Bs} {σ : Mem} (h : LX B σ) : σ.2.2.2.2 0 32 = some (B.1 + 86) := h.2.2.2.2.2.2.2.2.2.2.2.2.2.2.2.2.2.2.2.2.2.2.2.2.2.2.2.2.2.2.2.1
theorem LX.k_worth {B : Bs} {σ : Mem} (h : LX B σ) : KA σ 86 1 1024 := h.2.2.2.2.2.2.2.2.2.2.2.2.2.2.2.2.2.2.2.2.2.2.2.2.2.2.2.2.2.2.2.2.1
theorem LX.r_isKept {B : Bs} {σ : Mem} (h : LX B σ) : σ.2.2.2.2 0 34 = some (B.1 + 87) := h.2.2.2.2.2.2.2.2.2.2.2.2.2.2.2.2.2.2.2.2.2.2.2.2.2.2.2.2.2.2.2.2.2.1
theorem LX.k_isKept {B : Bs} {σ : Mem} (h : LX B σ) : KA σ 87 2 2 := h.2.2.2.2.2.2.2.2.2.2.2.2.2.2.2.2.2.2.2.2.2.2.2.2.2.2.2.2.2.2.2.2.2.2.1
theorem LX.r_kept {B : Bs} {σ : Mem} (h : LX B σ) : σ.2.2.2.2 0 35 = some (B.1 + 88) := h.2.2.2.2.2.2.2.2.2.2.2.2.2.2.2.2.2.2.2.2.2.2.2.2.2.2.2.2.2.2.2.2.2.2.2.1
theorem LX.k_kept {B : Bs} {σ : Mem} (h : LX B σ) : KA σ 88 4 2 := h.2.2.2.2.2.2.2.2.2.2.2.2.2.2.2.2.2.2.2.2.2.2.2.2.2.2.2.2.2.2.2.2.2.2.2.2.1
theorem LX.k_la {B : Bs} {σ : Mem} (h : LX B σ) : KA σ 16 1 8000 := h.2.2.2.2.2.2.2.2.2.2.2.2.2.2.2.2.2.2.2.2.2.2.2.2.2.2.2.2.2.2.2.2.2.2.2.2.2.1
theorem LX.k_lb {B : Bs} {σ : Mem} (h : LX B σ) : KA σ 17 1 8000 := h.2.2.2.2.2.2.2.2.2.2.2.2.2.2.2.2.2.2.2.2.2.2.2.2.2.2.2.2.2.2.2.2.2.2.2.2.2.2.1
theorem LX.r_now {B : Bs} {σ : Mem} (h : LX B σ) : σ.2.2.2.2 0 2 = some (B.1 + 2) := h.2.2.2.2.2.2.2.2.2.2.2.2.2.2.2.2.2.2.2.2.2.2.2.2.2.2.2.2.2.2.2.2.2.2.2.2.2.2.2.1
theorem LX.s_now {B : Bs} {σ : Mem} (h : LX B σ) : IsS B σ 2 := h.2.2.2.2.2.2.2.2.2.2.2.2.2.2.2.2.2.2.2.2.2.2.2.2.2.2.2.2.2.2.2.2.2.2.2.2.2.2.2.2.1
theorem LX.r_trial {B : Bs} {σ : Mem} (h : LX B σ) : σ.2.2.2.2 0 3 = some (B.1 + 6) := h.2.2.2.2.2.2.2.2.2.2.2.2.2.2.2.2.2.2.2.2.2.2.2.2.2.2.2.2.2.2.2.2.2.2.2.2.2.2.2.2.2.1
theorem LX.s_trial {B : Bs} {σ : Mem} (h : LX B σ) : IsS B σ 6 := h.2.2.2.2.2.2.2.2.2.2.2.2.2.2.2.2.2.2.2.2.2.2.2.2.2.2.2.2.2.2.2.2.2.2.2.2.2.2.2.2.2.2.1
theorem LX.r_read {B : Bs} {σ : Mem} (h : LX B σ) : σ.2.2.2.2 0 21 = some (B.1 + 20) := h.2.2.2.2.2.2.2.2.2.2.2.2.2.2.2.2.2.2.2.2.2.2.2.2.2.2.2.2.2.2.2.2.2.2.2.2.2.2.2.2.2.2.2.1
theorem LX.s_read {B : Bs} {σ : Mem} (h : LX B σ) : IsS B σ 20 := h.2.2.2.2.2.2.2.2.2.2.2.2.2.2.2.2.2.2.2.2.2.2.2.2.2.2.2.2.2.2.2.2.2.2.2.2.2.2.2.2.2.2.2.2.1
theorem LX.a_before {B : Bs} {σ : Mem} (h : LX B σ) : ∀ i, i < 14 → σ.2.2.2.2 24 i = some (B.1 + (25 + 4 * i)) ∧ IsS B σ (25 + 4 * i) := h.2.2.2.2.2.2.2.2.2.2.2.2.2.2.2.2.2.2.2.2.2.2.2.2.2.2.2.2.2.2.2.2.2.2.2.2.2.2.2.2.2.2.2.2.2.1
theorem LX.a_kept {B : Bs} {σ : Mem} (h : LX B σ) : ∀ i, i < 2 → σ.2.2.2.2 88 i = some (B.1 + (89 + 4 * i)) ∧ IsS B σ (89 + 4 * i) := h.2.2.2.2.2.2.2.2.2.2.2.2.2.2.2.2.2.2.2.2.2.2.2.2.2.2.2.2.2.2.2.2.2.2.2.2.2.2.2.2.2.2.2.2.2.2.1
theorem LX.a_words {B : Bs} {σ : Mem} (h : LX B σ) : ∀ i, i < 10 → σ.2.2.2.2 1 i = some (B.1 + (97 + 6 * i)) ∧ IsW B σ (97 + 6 * i) := h.2.2.2.2.2.2.2.2.2.2.2.2.2.2.2.2.2.2.2.2.2.2.2.2.2.2.2.2.2.2.2.2.2.2.2.2.2.2.2.2.2.2.2.2.2.2.2.1
theorem LX.a_readWords {B : Bs} {σ : Mem} (h : LX B σ) : ∀ i, i < 10 → σ.2.2.2.2 19 i = some (B.1 + (100 + 6 * i)) ∧ IsW B σ (100 + 6 * i) := h.2.2.2.2.2.2.2.2.2.2.2.2.2.2.2.2.2.2.2.2.2.2.2.2.2.2.2.2.2.2.2.2.2.2.2.2.2.2.2.2.2.2.2.2.2.2.2.2
theorem LX.e_before {B : Bs} {σ : Mem} (h : LX B σ) {i : Nat} (hi : i < 14) : σ.2.2.2.2 24 i = some (B.1 + (25 + 4 * i)) := (h.a_before i hi).1
theorem LX.w_before {B : Bs} {σ : Mem} (h : LX B σ) {i : Nat} (hi : i < 14) : IsS B σ (25 + 4 * i) := (h.a_before i hi).2
theorem LX.e_kept {B : Bs} {σ : Mem} (h : LX B σ) {i : Nat} (hi : i < 2) : σ.2.2.2.2 88 i = some (B.1 + (89 + 4 * i)) := (h.a_kept i hi).1
theorem LX.w_kept {B : Bs} {σ : Mem} (h : LX B σ) {i : Nat} (hi : i < 2) : IsS B σ (89 + 4 * i) := (h.a_kept i hi).2
theorem LX.e_words {B : Bs} {σ : Mem} (h : LX B σ) {i : Nat} (hi : i < 10) : σ.2.2.2.2 1 i = some (B.1 + (97 + 6 * i)) := (h.a_words i hi).1
theorem LX.w_words {B : Bs} {σ : Mem} (h : LX B σ) {i : Nat} (hi : i < 10) : IsW B σ (97 + 6 * i) := (h.a_words i hi).2
theorem LX.e_readWords {B : Bs} {σ : Mem} (h : LX B σ) {i : Nat} (hi : i < 10) : σ.2.2.2.2 19 i = some (B.1 + (100 + 6 * i)) := (h.a_readWords i hi).1
theorem LX.w_readWords {B : Bs} {σ : Mem} (h : LX B σ) {i : Nat} (hi : i < 10) : IsW B σ (100 + 6 * i) := (h.a_readWords i hi).2
def LM (B : Bs) (σ : Mem) : Prop := (KO σ 157 3) ∧ (σ.2.2.2.2 157 0 = some (B.1 + 158)) ∧ (KA σ 158 0 180) ∧ (σ.2.2.2.2 157 3 = some (B.1 + 159)) ∧ (KA σ 159 0 60) ∧ (σ.2.2.2.2 157 4 = some (B.1 + 160)) ∧ (KA σ 160 0 10) ∧ (σ.2.2.2.2 157 5 = some (B.1 + 161)) ∧ (KA σ 161 0 10) ∧ (σ.2.2.2.2 157 6 = some (B.1 + 162)) ∧ (KA σ 162 0 80) ∧ (σ.2.2.2.2 157 7 = some (B.1 + 163)) ∧ (KA σ 163 0 25) ∧ (σ.2.2.2.2 157 8 = some (B.1 + 164)) ∧ (KA σ 164 0 25) ∧ (σ.2.2.2.2 157 9 = some (B.1 + 165)) ∧ (KA σ 165 0 350) ∧ (σ.2.2.2.2 157 12 = some (B.1 + 166)) ∧ (KA σ 166 0 50) ∧ (σ.2.2.2.2 157 13 = some (B.1 + 167)) ∧ (KA σ 167 2 2) ∧ (σ.2.2.2.2 157 14 = some (B.1 + 168)) ∧ (KA σ 168 0 12) ∧ (σ.2.2.2.2 157 16 = some (B.1 + 169)) ∧ (KA σ 169 0 6) ∧ (σ.2.2.2.2 157 17 = some (B.1 + 170)) ∧ (KA σ 170 0 6) ∧ (σ.2.2.2.2 157 18 = some (B.1 + 171)) ∧ (KA σ 171 0 6) ∧ (σ.2.2.2.2 157 22 = some (B.1 + 172)) ∧ (KA σ 172 0 60) ∧ (σ.2.2.2.2 157 23 = some (B.1 + 173)) ∧ (KA σ 173 0 10) ∧ (σ.2.2.2.2 157 24 = some (B.1 + 174)) ∧ (KA σ 174 0 10) ∧ (σ.2.2.2.2 157 25 = some (B.1 + 175)) ∧ (KA σ 175 0 25) ∧ (σ.2.2.2.2 157 29 = some (B.1 + 176)) ∧ (KA σ 176 0 25) ∧ (σ.2.2.2.2 157 30 = some (B.1 + 177)) ∧ (KA σ 177 0 9) ∧ (σ.2.2.2.2 157 33 = some (B.1 + 178)) ∧ (KA σ 178 0 10) ∧ (σ.2.2.2.2 157 34 = some (B.1 + 179)) ∧ (KA σ 179 1 9720) ∧ (σ.2.2.2.2 157 35 = some (B.1 + 180)) ∧ (KA σ 180 1 9720) ∧ (σ.2.2.2.2 157 36 = some (B.1 + 181)) ∧ (KA σ 181 1 9720) ∧ (σ.2.2.2.2 157 37 = some (B.1 + 182)) ∧ (KA σ 182 0 9720) ∧ (σ.2.2.2.2 157 38 = some (B.1 + 183)) ∧ (KA σ 183 2 19440) ∧ (σ.2.2.2.2 157 39 = some (B.1 + 184)) ∧ (KA σ 184 0 12) ∧ (σ.2.2.2.2 157 40 = some (B.1 + 185)) ∧ (KA σ 185 0 8) ∧ (σ.2.2.2.2 157 44 = some (B.1 + 186)) ∧ (KA σ 186 1 256)
theorem LM.m {B : Bs} {σ : Mem} (h : LM B σ) : KO σ 157 3 := h.1
theorem LM.r_text {B : Bs} {σ : Mem} (h : LM B σ) : σ.2.2.2.2 157 0 = some (B.1 + 158) := h.2.1
theorem LM.k_text {B : Bs} {σ : Mem} (h : LM B σ) : KA σ 158 0 180 := h.2.2.1
theorem LM.r_spelt {B : Bs} {σ : Mem} (h : LM B σ) : σ.2.2.2.2 157 3 = some (B.1 + 159) := h.2.2.2.1
theorem LM.k_spelt {B : Bs} {σ : Mem} (h : LM B σ) : KA σ 159 0 60 := h.2.2.2.2.1
theorem LM.r_size {B : Bs} {σ : Mem} (h : LM B σ) : σ.2.2.2.2 157 4 = some (B.1 + 160) := h.2.2.2.2.2.1
theorem LM.k_size {B : Bs} {σ : Mem} (h : LM B σ) : KA σ 160 0 10 := h.2.2.2.2.2.2.1
theorem LM.r_kind {B : Bs} {σ : Mem} (h : LM B σ) : σ.2.2.2.2 157 5 = some (B.1 + 161) := h.2.2.2.2.2.2.2.1
theorem LM.k_kind {B : Bs} {σ : Mem} (h : LM B σ) : KA σ 161 0 10 := h.2.2.2.2.2.2.2.2.1
theorem LM.r_need {B : Bs} {σ : Mem} (h : LM B σ) : σ.2.2.2.2 157 6 = some (B.1 + 162) := h.2.2.2.2.2.2.2.2.2.1
theorem LM.k_need {B : Bs} {σ : Mem} (h : LM B σ) : KA σ 162 0 80 := h.2.2.2.2.2.2.2.2.2.2.1
theorem LM.r_now {B : Bs} {σ : Mem} (h : LM B σ) : σ.2.2.2.2 157 7 = some (B.1 + 163) := h.2.2.2.2.2.2.2.2.2.2.2.1
theorem LM.k_now {B : Bs} {σ : Mem} (h : LM B σ) : KA σ 163 0 25 := h.2.2.2.2.2.2.2.2.2.2.2.2.1
theorem LM.r_trial {B : Bs} {σ : Mem} (h : LM B σ) : σ.2.2.2.2 157 8 = some (B.1 + 164) := h.2.2.2.2.2.2.2.2.2.2.2.2.2.1
theorem LM.k_trial {B : Bs} {σ : Mem} (h : LM B σ) : KA σ 164 0 25 := h.2.2.2.2.2.2.2.2.2.2.2.2.2.2.1
theorem LM.r_diary {B : Bs} {σ : Mem} (h : LM B σ) : σ.2.2.2.2 157 9 = some (B.1 + 165) := h.2.2.2.2.2.2.2.2.2.2.2.2.2.2.2.1
theorem LM.k_diary {B : Bs} {σ : Mem} (h : LM B σ) : KA σ 165 0 350 := h.2.2.2.2.2.2.2.2.2.2.2.2.2.2.2.2.1
theorem LM.r_kept {B : Bs} {σ : Mem} (h : LM B σ) : σ.2.2.2.2 157 12 = some (B.1 + 166) := h.2.2.2.2.2.2.2.2.2.2.2.2.2.2.2.2.2.1
theorem LM.k_kept {B : Bs} {σ : Mem} (h : LM B σ) : KA σ 166 0 50 := h.2.2.2.2.2.2.2.2.2.2.2.2.2.2.2.2.2.2.1
theorem LM.r_isKept {B : Bs} {σ : Mem} (h : LM B σ) : σ.2.2.2.2 157 13 = some (B.1 + 167) := h.2.2.2.2.2.2.2.2.2.2.2.2.2.2.2.2.2.2.2.1
theorem LM.k_isKept {B : Bs} {σ : Mem} (h : LM B σ) : KA σ 167 2 2 := h.2.2.2.2.2.2.2.2.2.2.2.2.2.2.2.2.2.2.2.2.1
theorem LM.r_told {B : Bs} {σ : Mem} (h : LM B σ) : σ.2.2.2.2 157 14 = some (B.1 + 168) := h.2.2.2.2.2.2.2.2.2.2.2.2.2.2.2.2.2.2.2.2.2.1
theorem LM.k_told {B : Bs} {σ : Mem} (h : LM B σ) : KA σ 168 0 12 := h.2.2.2.2.2.2.2.2.2.2.2.2.2.2.2.2.2.2.2.2.2.2.1
theorem LM.r_seenWhat {B : Bs} {σ : Mem} (h : LM B σ) : σ.2.2.2.2 157 16 = some (B.1 + 169) := h.2.2.2.2.2.2.2.2.2.2.2.2.2.2.2.2.2.2.2.2.2.2.2.1
theorem LM.k_seenWhat {B : Bs} {σ : Mem} (h : LM B σ) : KA σ 169 0 6 := h.2.2.2.2.2.2.2.2.2.2.2.2.2.2.2.2.2.2.2.2.2.2.2.2.1
theorem LM.r_seenOf {B : Bs} {σ : Mem} (h : LM B σ) : σ.2.2.2.2 157 17 = some (B.1 + 170) := h.2.2.2.2.2.2.2.2.2.2.2.2.2.2.2.2.2.2.2.2.2.2.2.2.2.1
theorem LM.k_seenOf {B : Bs} {σ : Mem} (h : LM B σ) : KA σ 170 0 6 := h.2.2.2.2.2.2.2.2.2.2.2.2.2.2.2.2.2.2.2.2.2.2.2.2.2.2.1
theorem LM.r_seenWas {B : Bs} {σ : Mem} (h : LM B σ) : σ.2.2.2.2 157 18 = some (B.1 + 171) := h.2.2.2.2.2.2.2.2.2.2.2.2.2.2.2.2.2.2.2.2.2.2.2.2.2.2.2.1
theorem LM.k_seenWas {B : Bs} {σ : Mem} (h : LM B σ) : KA σ 171 0 6 := h.2.2.2.2.2.2.2.2.2.2.2.2.2.2.2.2.2.2.2.2.2.2.2.2.2.2.2.2.1
theorem LM.r_readSpelt {B : Bs} {σ : Mem} (h : LM B σ) : σ.2.2.2.2 157 22 = some (B.1 + 172) := h.2.2.2.2.2.2.2.2.2.2.2.2.2.2.2.2.2.2.2.2.2.2.2.2.2.2.2.2.2.1
theorem LM.k_readSpelt {B : Bs} {σ : Mem} (h : LM B σ) : KA σ 172 0 60 := h.2.2.2.2.2.2.2.2.2.2.2.2.2.2.2.2.2.2.2.2.2.2.2.2.2.2.2.2.2.2.1
theorem LM.r_readSize {B : Bs} {σ : Mem} (h : LM B σ) : σ.2.2.2.2 157 23 = some (B.1 + 173) := h.2.2.2.2.2.2.2.2.2.2.2.2.2.2.2.2.2.2.2.2.2.2.2.2.2.2.2.2.2.2.2.1
theorem LM.k_readSize {B : Bs} {σ : Mem} (h : LM B σ) : KA σ 173 0 10 := h.2.2.2.2.2.2.2.2.2.2.2.2.2.2.2.2.2.2.2.2.2.2.2.2.2.2.2.2.2.2.2.2.1
theorem LM.r_readKind {B : Bs} {σ : Mem} (h : LM B σ) : σ.2.2.2.2 157 24 = some (B.1 + 174) := h.2.2.2.2.2.2.2.2.2.2.2.2.2.2.2.2.2.2.2.2.2.2.2.2.2.2.2.2.2.2.2.2.2.1
theorem LM.k_readKind {B : Bs} {σ : Mem} (h : LM B σ) : KA σ 174 0 10 := h.2.2.2.2.2.2.2.2.2.2.2.2.2.2.2.2.2.2.2.2.2.2.2.2.2.2.2.2.2.2.2.2.2.2.1
theorem LM.r_readRow {B : Bs} {σ : Mem} (h : LM B σ) : σ.2.2.2.2 157 25 = some (B.1 + 175) := h.2.2.2.2.2.2.2.2.2.2.2.2.2.2.2.2.2.2.2.2.2.2.2.2.2.2.2.2.2.2.2.2.2.2.2.1
theorem LM.k_readRow {B : Bs} {σ : Mem} (h : LM B σ) : KA σ 175 0 25 := h.2.2.2.2.2.2.2.2.2.2.2.2.2.2.2.2.2.2.2.2.2.2.2.2.2.2.2.2.2.2.2.2.2.2.2.2.1
theorem LM.r_open {B : Bs} {σ : Mem} (h : LM B σ) : σ.2.2.2.2 157 29 = some (B.1 + 176) := h.2.2.2.2.2.2.2.2.2.2.2.2.2.2.2.2.2.2.2.2.2.2.2.2.2.2.2.2.2.2.2.2.2.2.2.2.2.1
theorem LM.k_open {B : Bs} {σ : Mem} (h : LM B σ) : KA σ 176 0 25 := h.2.2.2.2.2.2.2.2.2.2.2.2.2.2.2.2.2.2.2.2.2.2.2.2.2.2.2.2.2.2.2.2.2.2.2.2.2.2.1
theorem LM.r_base {B : Bs} {σ : Mem} (h : LM B σ) : σ.2.2.2.2 157 30 = some (B.1 + 177) := h.2.2.2.2.2.2.2.2.2.2.2.2.2.2.2.2.2.2.2.2.2.2.2.2.2.2.2.2.2.2.2.2.2.2.2.2.2.2.2.1
theorem LM.k_base {B : Bs} {σ : Mem} (h : LM B σ) : KA σ 177 0 9 := h.2.2.2.2.2.2.2.2.2.2.2.2.2.2.2.2.2.2.2.2.2.2.2.2.2.2.2.2.2.2.2.2.2.2.2.2.2.2.2.2.1
theorem LM.r_price {B : Bs} {σ : Mem} (h : LM B σ) : σ.2.2.2.2 157 33 = some (B.1 + 178) := h.2.2.2.2.2.2.2.2.2.2.2.2.2.2.2.2.2.2.2.2.2.2.2.2.2.2.2.2.2.2.2.2.2.2.2.2.2.2.2.2.2.1
theorem LM.k_price {B : Bs} {σ : Mem} (h : LM B σ) : KA σ 178 0 10 := h.2.2.2.2.2.2.2.2.2.2.2.2.2.2.2.2.2.2.2.2.2.2.2.2.2.2.2.2.2.2.2.2.2.2.2.2.2.2.2.2.2.2.1
theorem LM.r_ways {B : Bs} {σ : Mem} (h : LM B σ) : σ.2.2.2.2 157 34 = some (B.1 + 179) := h.2.2.2.2.2.2.2.2.2.2.2.2.2.2.2.2.2.2.2.2.2.2.2.2.2.2.2.2.2.2.2.2.2.2.2.2.2.2.2.2.2.2.2.1
theorem LM.k_ways {B : Bs} {σ : Mem} (h : LM B σ) : KA σ 179 1 9720 := h.2.2.2.2.2.2.2.2.2.2.2.2.2.2.2.2.2.2.2.2.2.2.2.2.2.2.2.2.2.2.2.2.2.2.2.2.2.2.2.2.2.2.2.2.1
theorem LM.r_layer {B : Bs} {σ : Mem} (h : LM B σ) : σ.2.2.2.2 157 35 = some (B.1 + 180) := h.2.2.2.2.2.2.2.2.2.2.2.2.2.2.2.2.2.2.2.2.2.2.2.2.2.2.2.2.2.2.2.2.2.2.2.2.2.2.2.2.2.2.2.2.2.1
theorem LM.k_layer {B : Bs} {σ : Mem} (h : LM B σ) : KA σ 180 1 9720 := h.2.2.2.2.2.2.2.2.2.2.2.2.2.2.2.2.2.2.2.2.2.2.2.2.2.2.2.2.2.2.2.2.2.2.2.2.2.2.2.2.2.2.2.2.2.2.1
theorem LM.r_later {B : Bs} {σ : Mem} (h : LM B σ) : σ.2.2.2.2 157 36 = some (B.1 + 181) := h.2.2.2.2.2.2.2.2.2.2.2.2.2.2.2.2.2.2.2.2.2.2.2.2.2.2.2.2.2.2.2.2.2.2.2.2.2.2.2.2.2.2.2.2.2.2.2.1
theorem LM.k_later {B : Bs} {σ : Mem} (h : LM B σ) : KA σ 181 1 9720 := h.2.2.2.2.2.2.2.2.2.2.2.2.2.2.2.2.2.2.2.2.2.2.2.2.2.2.2.2.2.2.2.2.2.2.2.2.2.2.2.2.2.2.2.2.2.2.2.2.1
theorem LM.r_best {B : Bs} {σ : Mem} (h : LM B σ) : σ.2.2.2.2 157 37 = some (B.1 + 182) := h.2.2.2.2.2.2.2.2.2.2.2.2.2.2.2.2.2.2.2.2.2.2.2.2.2.2.2.2.2.2.2.2.2.2.2.2.2.2.2.2.2.2.2.2.2.2.2.2.2.1
theorem LM.k_best {B : Bs} {σ : Mem} (h : LM B σ) : KA σ 182 0 9720 := h.2.2.2.2.2.2.2.2.2.2.2.2.2.2.2.2.2.2.2.2.2.2.2.2.2.2.2.2.2.2.2.2.2.2.2.2.2.2.2.2.2.2.2.2.2.2.2.2.2.2.1
theorem LM.r_fits {B : Bs} {σ : Mem} (h : LM B σ) : σ.2.2.2.2 157 38 = some (B.1 + 183) := h.2.2.2.2.2.2.2.2.2.2.2.2.2.2.2.2.2.2.2.2.2.2.2.2.2.2.2.2.2.2.2.2.2.2.2.2.2.2.2.2.2.2.2.2.2.2.2.2.2.2.2.1
theorem LM.k_fits {B : Bs} {σ : Mem} (h : LM B σ) : KA σ 183 2 19440 := h.2.2.2.2.2.2.2.2.2.2.2.2.2.2.2.2.2.2.2.2.2.2.2.2.2.2.2.2.2.2.2.2.2.2.2.2.2.2.2.2.2.2.2.2.2.2.2.2.2.2.2.2.1
theorem LM.r_found {B : Bs} {σ : Mem} (h : LM B σ) : σ.2.2.2.2 157 39 = some (B.1 + 184) := h.2.2.2.2.2.2.2.2.2.2.2.2.2.2.2.2.2.2.2.2.2.2.2.2.2.2.2.2.2.2.2.2.2.2.2.2.2.2.2.2.2.2.2.2.2.2.2.2.2.2.2.2.2.1
theorem LM.k_found {B : Bs} {σ : Mem} (h : LM B σ) : KA σ 184 0 12 := h.2.2.2.2.2.2.2.2.2.2.2.2.2.2.2.2.2.2.2.2.2.2.2.2.2.2.2.2.2.2.2.2.2.2.2.2.2.2.2.2.2.2.2.2.2.2.2.2.2.2.2.2.2.2.1
theorem LM.r_left {B : Bs} {σ : Mem} (h : LM B σ) : σ.2.2.2.2 157 40 = some (B.1 + 185) := h.2.2.2.2.2.2.2.2.2.2.2.2.2.2.2.2.2.2.2.2.2.2.2.2.2.2.2.2.2.2.2.2.2.2.2.2.2.2.2.2.2.2.2.2.2.2.2.2.2.2.2.2.2.2.2.1
theorem LM.k_left {B : Bs} {σ : Mem} (h : LM B σ) : KA σ 185 0 8 := h.2.2.2.2.2.2.2.2.2.2.2.2.2.2.2.2.2.2.2.2.2.2.2.2.2.2.2.2.2.2.2.2.2.2.2.2.2.2.2.2.2.2.2.2.2.2.2.2.2.2.2.2.2.2.2.2.1
theorem LM.r_worth {B : Bs} {σ : Mem} (h : LM B σ) : σ.2.2.2.2 157 44 = some (B.1 + 186) := h.2.2.2.2.2.2.2.2.2.2.2.2.2.2.2.2.2.2.2.2.2.2.2.2.2.2.2.2.2.2.2.2.2.2.2.2.2.2.2.2.2.2.2.2.2.2.2.2.2.2.2.2.2.2.2.2.2.1
theorem LM.k_worth {B : Bs} {σ : Mem} (h : LM B σ) : KA σ 186 1 256 := h.2.2.2.2.2.2.2.2.2.2.2.2.2.2.2.2.2.2.2.2.2.2.2.2.2.2.2.2.2.2.2.2.2.2.2.2.2.2.2.2.2.2.2.2.2.2.2.2.2.2.2.2.2.2.2.2.2.2
/-- nothing but the places P (ints, longs) has changed; of references only the three that move -/
def Fr (P : Nat → Nat → Prop) (σ σ' : Mem) : Prop := σ.2.1 ≤ σ'.2.1 ∧ (∀ k, k < σ.2.1 → σ'.1 k = σ.1 k) ∧ (∀ k j, k < σ.2.1 → ¬ P k j → σ'.2.2.1 k j = σ.2.2.1 k j ∧ σ'.2.2.2.1 k j = σ.2.2.2.1 k j) ∧ (∀ k j, k < σ.2.1 → ¬ (k = 0 ∧ (j = 4 ∨ j = 14 ∨ j = 15)) → σ'.2.2.2.2 k j = σ.2.2.2.2 k j)
theorem Fr.rf {P : Nat → Nat → Prop} {σ : Mem} : Fr P σ σ := ⟨Nat.le_refl _, fun _ _ => rfl, fun _ _ _ _ => ⟨rfl, rfl⟩, fun _ _ _ _ => rfl⟩
theorem Fr.mono {P P' : Nat → Nat → Prop} {σ σ' : Mem} (h : Fr P σ σ') (hp : ∀ k j, P k j → P' k j) : Fr P' σ σ' := ⟨h.1, h.2.1, fun k j hk hn => h.2.2.1 k j hk (fun q => hn (hp k j q)), h.2.2.2⟩
theorem Fr.tr {P : Nat → Nat → Prop} {σ σ' σ'' : Mem} (h : Fr P σ σ') (h2 : Fr P σ' σ'') : Fr P σ σ'' :=
  ⟨Nat.le_trans h.1 h2.1, fun k hk => (h2.2.1 k (Nat.lt_of_lt_of_le hk h.1)).trans (h.2.1 k hk), fun k j hk hn => ⟨(h2.2.2.1 k j (Nat.lt_of_lt_of_le hk h.1) hn).1.trans (h.2.2.1 k j hk hn).1, (h2.2.2.1 k j (Nat.lt_of_lt_of_le hk h.1) hn).2.trans (h.2.2.1 k j hk hn).2⟩, fun k j hk hn => (h2.2.2.2 k j (Nat.lt_of_lt_of_le hk h.1) hn).trans (h.2.2.2 k j hk hn)⟩
theorem Fr.i {P : Nat → Nat → Prop} {σ σ' : Mem} (h : Fr P σ σ') {k j : Nat} (hk : k < σ.2.1) (hn : ¬ P k j) : σ'.2.2.1 k j = σ.2.2.1 k j := (h.2.2.1 k j hk hn).1
theorem Fr.l {P : Nat → Nat → Prop} {σ σ' : Mem} (h : Fr P σ σ') {k j : Nat} (hk : k < σ.2.1) (hn : ¬ P k j) : σ'.2.2.2.1 k j = σ.2.2.2.1 k j := (h.2.2.1 k j hk hn).2
theorem Fr.r {P : Nat → Nat → Prop} {σ σ' : Mem} (h : Fr P σ σ') {k j : Nat} (hk : k < σ.2.1) (hn : ¬ (k = 0 ∧ (j = 4 ∨ j = 14 ∨ j = 15))) : σ'.2.2.2.2 k j = σ.2.2.2.2 k j := h.2.2.2 k j hk hn
theorem Fr.stI {P : Nat → Nat → Prop} {σ σ' : Mem} {k j : Nat} {v : Int32} (h : Fr P σ σ') (hp : P k j) : Fr P σ (setI σ' k j v) :=
  ⟨h.1, h.2.1, fun a b ha hn => ⟨(up2_n (fun e => hn (by rw [e.1, e.2]; exact hp))).trans (h.i ha hn), h.l ha hn⟩, h.2.2.2⟩
theorem Fr.stL {P : Nat → Nat → Prop} {σ σ' : Mem} {k j : Nat} {v : Int64} (h : Fr P σ σ') (hp : P k j) : Fr P σ (setL σ' k j v) :=
  ⟨h.1, h.2.1, fun a b ha hn => ⟨h.i ha hn, (up2_n (fun e => hn (by rw [e.1, e.2]; exact hp))).trans (h.l ha hn)⟩, h.2.2.2⟩
theorem Fr.stRow {P : Nat → Nat → Prop} {σ σ' : Mem} {k : Nat} {f : Nat → Int32} (h : Fr P σ σ') (hp : ∀ j, ¬ P k j → f j = σ'.2.2.1 k j) : Fr P σ (rowI σ' k f) :=
  ⟨h.1, h.2.1, fun a b ha hn => ⟨by
    show up1 σ'.2.2.1 k f a b = _
    by_cases e : a = k
    · subst e; rw [up1_s, hp b hn]; exact h.i ha hn
    · rw [up1_n e]; exact h.i ha hn, h.l ha hn⟩, h.2.2.2⟩
theorem Fr.stR {P : Nat → Nat → Prop} {σ σ' : Mem} {j : Nat} {v : Option Nat} (h : Fr P σ σ') (hj : j = 4 ∨ j = 14 ∨ j = 15) : Fr P σ (setR σ' 0 j v) :=
  ⟨h.1, h.2.1, fun a b ha hn => h.2.2.1 a b ha hn, fun a b ha hn => (up2_n (fun e => hn ⟨e.1, by rw [e.2]; exact hj⟩)).trans (h.r ha hn)⟩
theorem KO.fr {P : Nat → Nat → Prop} {σ σ' : Mem} {k c : Nat} (hf : Fr P σ σ') (h : KO σ k c) : KO σ' k c := ⟨(hf.2.1 k h.2).trans h.1, Nat.lt_of_lt_of_le h.2 hf.1⟩
theorem KA.fr {P : Nat → Nat → Prop} {σ σ' : Mem} {k t n : Nat} (hf : Fr P σ σ') (h : KA σ k t n) : KA σ' k t n := ⟨(hf.2.1 k h.2.1).trans h.1, Nat.lt_of_lt_of_le h.2.1 hf.1, h.2.2⟩
theorem IsS.fr {P : Nat → Nat → Prop} {B : Bs} {σ σ' : Mem} {k : Nat} (hf : Fr P σ σ') (h : IsS B σ k) (h0 : k ≠ 0) : IsS B σ' k :=
  ⟨h.o.fr hf, (hf.r h.o.2 (fun e => h0 e.1)).trans h.r_bag, h.k_bag.fr hf, (hf.r h.o.2 (fun e => h0 e.1)).trans h.r_ranks, h.k_ranks.fr hf, (hf.r h.o.2 (fun e => h0 e.1)).trans h.r_follows, h.k_follows.fr hf⟩
theorem IsW.fr {P : Nat → Nat → Prop} {B : Bs} {σ σ' : Mem} {k : Nat} (hf : Fr P σ σ') (h : IsW B σ k) (h0 : k ≠ 0) : IsW B σ' k :=
  ⟨h.o.fr hf, (hf.r h.o.2 (fun e => h0 e.1)).trans h.r_spelt, h.k_spelt.fr hf, (hf.r h.o.2 (fun e => h0 e.1)).trans h.r_has, h.k_has.fr hf⟩
theorem LX.fr {P : Nat → Nat → Prop} {B : Bs} {σ σ' : Mem} (h : LX B σ) (hf : Fr P σ σ') : LX B σ' :=
  ⟨h.x.fr hf, (hf.r h.x.2 (by omega)).trans h.r_words, h.k_words.fr hf, (hf.r h.x.2 (by omega)).trans h.r_base, h.k_base.fr hf, (hf.r h.x.2 (by omega)).trans h.r_rest, h.k_rest.fr hf, (hf.r h.x.2 (by omega)).trans h.r_counts, h.k_counts.fr hf, (hf.r h.x.2 (by omega)).trans h.r_worths, h.k_worths.fr hf, (hf.r h.x.2 (by omega)).trans h.r_steps, h.k_steps.fr hf, (hf.r h.x.2 (by omega)).trans h.r_found, h.k_found.fr hf, (hf.r h.x.2 (by omega)).trans h.r_text, h.k_text.fr hf, (hf.r h.x.2 (by omega)).trans h.r_readWords, h.k_readWords.fr hf, (hf.r h.x.2 (by omega)).trans h.r_before, h.k_before.fr hf, (hf.r h.x.2 (by omega)).trans h.r_row, h.k_row.fr hf, (hf.r h.x.2 (by omega)).trans h.r_left, h.k_left.fr hf, (hf.r h.x.2 (by omega)).trans h.r_seenWhat, h.k_seenWhat.fr hf, (hf.r h.x.2 (by omega)).trans h.r_seenOf, h.k_seenOf.fr hf, (hf.r h.x.2 (by omega)).trans h.r_seenWas, h.k_seenWas.fr hf, (hf.r h.x.2 (by omega)).trans h.r_worth, h.k_worth.fr hf, (hf.r h.x.2 (by omega)).trans h.r_isKept, h.k_isKept.fr hf, (hf.r h.x.2 (by omega)).trans h.r_kept, h.k_kept.fr hf, h.k_la.fr hf, h.k_lb.fr hf, (hf.r h.x.2 (by omega)).trans h.r_now, h.s_now.fr hf (by omega), (hf.r h.x.2 (by omega)).trans h.r_trial, h.s_trial.fr hf (by omega), (hf.r h.x.2 (by omega)).trans h.r_read, h.s_read.fr hf (by omega), fun i hi => ⟨(hf.r h.k_before.2.1 (by omega)).trans (h.e_before hi), (h.w_before hi).fr hf (by omega)⟩, fun i hi => ⟨(hf.r h.k_kept.2.1 (by omega)).trans (h.e_kept hi), (h.w_kept hi).fr hf (by omega)⟩, fun i hi => ⟨(hf.r h.k_words.2.1 (by omega)).trans (h.e_words hi), (h.w_words hi).fr hf (by omega)⟩, fun i hi => ⟨(hf.r h.k_readWords.2.1 (by omega)).trans (h.e_readWords hi), (h.w_readWords hi).fr hf (by omega)⟩⟩
theorem LM.fr {P : Nat → Nat → Prop} {B : Bs} {σ σ' : Mem} (h : LM B σ) (hf : Fr P σ σ') : LM B σ' :=
  ⟨h.m.fr hf, (hf.r h.m.2 (by omega)).trans h.r_text, h.k_text.fr hf, (hf.r h.m.2 (by omega)).trans h.r_spelt, h.k_spelt.fr hf, (hf.r h.m.2 (by omega)).trans h.r_size, h.k_size.fr hf, (hf.r h.m.2 (by omega)).trans h.r_kind, h.k_kind.fr hf, (hf.r h.m.2 (by omega)).trans h.r_need, h.k_need.fr hf, (hf.r h.m.2 (by omega)).trans h.r_now, h.k_now.fr hf, (hf.r h.m.2 (by omega)).trans h.r_trial, h.k_trial.fr hf, (hf.r h.m.2 (by omega)).trans h.r_diary, h.k_diary.fr hf, (hf.r h.m.2 (by omega)).trans h.r_kept, h.k_kept.fr hf, (hf.r h.m.2 (by omega)).trans h.r_isKept, h.k_isKept.fr hf, (hf.r h.m.2 (by omega)).trans h.r_told, h.k_told.fr hf, (hf.r h.m.2 (by omega)).trans h.r_seenWhat, h.k_seenWhat.fr hf, (hf.r h.m.2 (by omega)).trans h.r_seenOf, h.k_seenOf.fr hf, (hf.r h.m.2 (by omega)).trans h.r_seenWas, h.k_seenWas.fr hf, (hf.r h.m.2 (by omega)).trans h.r_readSpelt, h.k_readSpelt.fr hf, (hf.r h.m.2 (by omega)).trans h.r_readSize, h.k_readSize.fr hf, (hf.r h.m.2 (by omega)).trans h.r_readKind, h.k_readKind.fr hf, (hf.r h.m.2 (by omega)).trans h.r_readRow, h.k_readRow.fr hf, (hf.r h.m.2 (by omega)).trans h.r_open, h.k_open.fr hf, (hf.r h.m.2 (by omega)).trans h.r_base, h.k_base.fr hf, (hf.r h.m.2 (by omega)).trans h.r_price, h.k_price.fr hf, (hf.r h.m.2 (by omega)).trans h.r_ways, h.k_ways.fr hf, (hf.r h.m.2 (by omega)).trans h.r_layer, h.k_layer.fr hf, (hf.r h.m.2 (by omega)).trans h.r_later, h.k_later.fr hf, (hf.r h.m.2 (by omega)).trans h.r_best, h.k_best.fr hf, (hf.r h.m.2 (by omega)).trans h.r_fits, h.k_fits.fr hf, (hf.r h.m.2 (by omega)).trans h.r_found, h.k_found.fr hf, (hf.r h.m.2 (by omega)).trans h.r_left, h.k_left.fr hf, (hf.r h.m.2 (by omega)).trans h.r_worth, h.k_worth.fr hf⟩
