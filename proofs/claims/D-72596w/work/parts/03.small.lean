/-! BagPhrases$Setting -/
set_option maxRecDepth 100000
def RX1 : String := "BagPhrases$Setting"
def TX1 : u_T := fun k => match k with
  | 0 => ("BagPhrases$Setting", "bag", "[I", true)
  | 1 => ("BagPhrases$Setting", "barred", "I", false)
  | 2 => ("BagPhrases$Setting", "ranks", "[I", true)
  | 3 => ("BagPhrases$Setting", "begins", "I", false)
  | 4 => ("BagPhrases$Setting", "ends", "I", false)
  | _ => ("BagPhrases$Setting", "follows", "[I", true)
def tyX1 : Nat → FieldType := fun k => match k with
  | 0 => .array .int
  | 1 => .int
  | 2 => .array .int
  | 3 => .int
  | 4 => .int
  | _ => .array .int
abbrev wsX10 : List Cond := u_ws RX1 TX1 6
theorem nmX1 : ∀ a, a < 6 → ∀ b, b < 6 → a ≠ b → (TX1 a).2.1 ≠ (TX1 b).2.1 := by decide +kernel
theorem tyX1_ok : ∀ k, k < 6 → parseFieldDescriptor (TX1 k).2.2.1 = some (tyX1 k) := by decide +kernel
abbrev cX1_init : ByteArray := prog_6_method_1_code
def yX1_init : MethodName := ⟨RX1, "<init>", "()V"⟩
def dkwX1_init_1 : List UInt8 := [181, 0, 18, 177]
abbrev dktX1_init_1 : List UInt8 := dkwX1_init_1 ++ []
def dkwX1_init_0 : List UInt8 := [42, 183, 0, 3, 42, 16, 8, 188, 10, 181, 0, 9, 42, 16, 10, 188, 10, 181, 0, 15, 42, 7, 188, 10]
abbrev dktX1_init_0 : List UInt8 := dkwX1_init_0 ++ dktX1_init_1
theorem dksX1_init_0 : cX1_init.data.toList.drop 0 = dktX1_init_0 := by decide +kernel
theorem dksX1_init_1 : cX1_init.data.toList.drop 24 = dktX1_init_1 := dk_seg dksX1_init_0 24 rfl rfl
theorem dX1_init_0 : decode cX1_init 0 = .ok (.aload_n 0, 1) := dk_42 (dk_at dksX1_init_0 0 rfl rfl)
theorem dX1_init_1 : decode cX1_init 1 = .ok (.invokespecial 3, 3) := dk_183 0 3 (dk_at dksX1_init_0 1 rfl rfl)
theorem dX1_init_4 : decode cX1_init 4 = .ok (.aload_n 0, 1) := dk_42 (dk_at dksX1_init_0 4 rfl rfl)
theorem dX1_init_5 : decode cX1_init 5 = .ok (.bipush 8, 2) := dk_16 8 (dk_at dksX1_init_0 5 rfl rfl)
theorem dX1_init_7 : decode cX1_init 7 = .ok (.newarray .int, 2) := dk_188_10 (dk_at dksX1_init_0 7 rfl rfl)
theorem dX1_init_9 : decode cX1_init 9 = .ok (.putfield 9, 3) := dk_181 0 9 (dk_at dksX1_init_0 9 rfl rfl)
theorem dX1_init_12 : decode cX1_init 12 = .ok (.aload_n 0, 1) := dk_42 (dk_at dksX1_init_0 12 rfl rfl)
theorem dX1_init_13 : decode cX1_init 13 = .ok (.bipush 10, 2) := dk_16 10 (dk_at dksX1_init_0 13 rfl rfl)
theorem dX1_init_15 : decode cX1_init 15 = .ok (.newarray .int, 2) := dk_188_10 (dk_at dksX1_init_0 15 rfl rfl)
theorem dX1_init_17 : decode cX1_init 17 = .ok (.putfield 15, 3) := dk_181 0 15 (dk_at dksX1_init_0 17 rfl rfl)
theorem dX1_init_20 : decode cX1_init 20 = .ok (.aload_n 0, 1) := dk_42 (dk_at dksX1_init_0 20 rfl rfl)
theorem dX1_init_21 : decode cX1_init 21 = .ok (.iconst 4, 1) := dk_7 (dk_at dksX1_init_0 21 rfl rfl)
theorem dX1_init_22 : decode cX1_init 22 = .ok (.newarray .int, 2) := dk_188_10 (dk_at dksX1_init_0 22 rfl rfl)
theorem dX1_init_24 : decode cX1_init 24 = .ok (.putfield 18, 3) := dk_181 0 18 (dk_at dksX1_init_1 0 rfl rfl)
theorem dX1_init_27 : decode cX1_init 27 = .ok (.return_, 1) := dk_177 (dk_at dksX1_init_1 3 rfl rfl)
abbrev cX1_copy : ByteArray := prog_6_method_2_code
def yX1_copy : MethodName := ⟨RX1, "copy", "(LBagPhrases$Setting;)V"⟩
def dkwX1_copy_2 : List UInt8 := [180, 0, 34, 181, 0, 34, 43, 180, 0, 18, 3, 42, 180, 0, 18, 3, 7, 184, 0, 21, 177]
abbrev dktX1_copy_2 : List UInt8 := dkwX1_copy_2 ++ []
def dkwX1_copy_1 : List UInt8 := [180, 0, 15, 3, 42, 180, 0, 15, 3, 16, 10, 184, 0, 21, 42, 43, 180, 0, 31, 181, 0, 31, 42, 43]
abbrev dktX1_copy_1 : List UInt8 := dkwX1_copy_1 ++ dktX1_copy_2
def dkwX1_copy_0 : List UInt8 := [43, 180, 0, 9, 3, 42, 180, 0, 9, 3, 16, 8, 184, 0, 21, 42, 43, 180, 0, 27, 181, 0, 27, 43]
abbrev dktX1_copy_0 : List UInt8 := dkwX1_copy_0 ++ dktX1_copy_1
theorem dksX1_copy_0 : cX1_copy.data.toList.drop 0 = dktX1_copy_0 := by decide +kernel
theorem dksX1_copy_1 : cX1_copy.data.toList.drop 24 = dktX1_copy_1 := dk_seg dksX1_copy_0 24 rfl rfl
theorem dksX1_copy_2 : cX1_copy.data.toList.drop 48 = dktX1_copy_2 := dk_seg dksX1_copy_1 24 rfl rfl
theorem dX1_copy_0 : decode cX1_copy 0 = .ok (.aload_n 1, 1) := dk_43 (dk_at dksX1_copy_0 0 rfl rfl)
theorem dX1_copy_1 : decode cX1_copy 1 = .ok (.getfield 9, 3) := dk_180 0 9 (dk_at dksX1_copy_0 1 rfl rfl)
theorem dX1_copy_4 : decode cX1_copy 4 = .ok (.iconst 0, 1) := dk_3 (dk_at dksX1_copy_0 4 rfl rfl)
theorem dX1_copy_5 : decode cX1_copy 5 = .ok (.aload_n 0, 1) := dk_42 (dk_at dksX1_copy_0 5 rfl rfl)
theorem dX1_copy_6 : decode cX1_copy 6 = .ok (.getfield 9, 3) := dk_180 0 9 (dk_at dksX1_copy_0 6 rfl rfl)
theorem dX1_copy_9 : decode cX1_copy 9 = .ok (.iconst 0, 1) := dk_3 (dk_at dksX1_copy_0 9 rfl rfl)
theorem dX1_copy_10 : decode cX1_copy 10 = .ok (.bipush 8, 2) := dk_16 8 (dk_at dksX1_copy_0 10 rfl rfl)
theorem dX1_copy_12 : decode cX1_copy 12 = .ok (.invokestatic 21, 3) := dk_184 0 21 (dk_at dksX1_copy_0 12 rfl rfl)
theorem dX1_copy_15 : decode cX1_copy 15 = .ok (.aload_n 0, 1) := dk_42 (dk_at dksX1_copy_0 15 rfl rfl)
theorem dX1_copy_16 : decode cX1_copy 16 = .ok (.aload_n 1, 1) := dk_43 (dk_at dksX1_copy_0 16 rfl rfl)
theorem dX1_copy_17 : decode cX1_copy 17 = .ok (.getfield 27, 3) := dk_180 0 27 (dk_at dksX1_copy_0 17 rfl rfl)
theorem dX1_copy_20 : decode cX1_copy 20 = .ok (.putfield 27, 3) := dk_181 0 27 (dk_at dksX1_copy_0 20 rfl rfl)
theorem dX1_copy_23 : decode cX1_copy 23 = .ok (.aload_n 1, 1) := dk_43 (dk_at dksX1_copy_0 23 rfl rfl)
theorem dX1_copy_24 : decode cX1_copy 24 = .ok (.getfield 15, 3) := dk_180 0 15 (dk_at dksX1_copy_1 0 rfl rfl)
theorem dX1_copy_27 : decode cX1_copy 27 = .ok (.iconst 0, 1) := dk_3 (dk_at dksX1_copy_1 3 rfl rfl)
theorem dX1_copy_28 : decode cX1_copy 28 = .ok (.aload_n 0, 1) := dk_42 (dk_at dksX1_copy_1 4 rfl rfl)
theorem dX1_copy_29 : decode cX1_copy 29 = .ok (.getfield 15, 3) := dk_180 0 15 (dk_at dksX1_copy_1 5 rfl rfl)
theorem dX1_copy_32 : decode cX1_copy 32 = .ok (.iconst 0, 1) := dk_3 (dk_at dksX1_copy_1 8 rfl rfl)
theorem dX1_copy_33 : decode cX1_copy 33 = .ok (.bipush 10, 2) := dk_16 10 (dk_at dksX1_copy_1 9 rfl rfl)
theorem dX1_copy_35 : decode cX1_copy 35 = .ok (.invokestatic 21, 3) := dk_184 0 21 (dk_at dksX1_copy_1 11 rfl rfl)
theorem dX1_copy_38 : decode cX1_copy 38 = .ok (.aload_n 0, 1) := dk_42 (dk_at dksX1_copy_1 14 rfl rfl)
theorem dX1_copy_39 : decode cX1_copy 39 = .ok (.aload_n 1, 1) := dk_43 (dk_at dksX1_copy_1 15 rfl rfl)
theorem dX1_copy_40 : decode cX1_copy 40 = .ok (.getfield 31, 3) := dk_180 0 31 (dk_at dksX1_copy_1 16 rfl rfl)
theorem dX1_copy_43 : decode cX1_copy 43 = .ok (.putfield 31, 3) := dk_181 0 31 (dk_at dksX1_copy_1 19 rfl rfl)
theorem dX1_copy_46 : decode cX1_copy 46 = .ok (.aload_n 0, 1) := dk_42 (dk_at dksX1_copy_1 22 rfl rfl)
theorem dX1_copy_47 : decode cX1_copy 47 = .ok (.aload_n 1, 1) := dk_43 (dk_at dksX1_copy_1 23 rfl rfl)
theorem dX1_copy_48 : decode cX1_copy 48 = .ok (.getfield 34, 3) := dk_180 0 34 (dk_at dksX1_copy_2 0 rfl rfl)
theorem dX1_copy_51 : decode cX1_copy 51 = .ok (.putfield 34, 3) := dk_181 0 34 (dk_at dksX1_copy_2 3 rfl rfl)
theorem dX1_copy_54 : decode cX1_copy 54 = .ok (.aload_n 1, 1) := dk_43 (dk_at dksX1_copy_2 6 rfl rfl)
theorem dX1_copy_55 : decode cX1_copy 55 = .ok (.getfield 18, 3) := dk_180 0 18 (dk_at dksX1_copy_2 7 rfl rfl)
theorem dX1_copy_58 : decode cX1_copy 58 = .ok (.iconst 0, 1) := dk_3 (dk_at dksX1_copy_2 10 rfl rfl)
theorem dX1_copy_59 : decode cX1_copy 59 = .ok (.aload_n 0, 1) := dk_42 (dk_at dksX1_copy_2 11 rfl rfl)
theorem dX1_copy_60 : decode cX1_copy 60 = .ok (.getfield 18, 3) := dk_180 0 18 (dk_at dksX1_copy_2 12 rfl rfl)
theorem dX1_copy_63 : decode cX1_copy 63 = .ok (.iconst 0, 1) := dk_3 (dk_at dksX1_copy_2 15 rfl rfl)
theorem dX1_copy_64 : decode cX1_copy 64 = .ok (.iconst 4, 1) := dk_7 (dk_at dksX1_copy_2 16 rfl rfl)
theorem dX1_copy_65 : decode cX1_copy 65 = .ok (.invokestatic 21, 3) := dk_184 0 21 (dk_at dksX1_copy_2 17 rfl rfl)
theorem dX1_copy_68 : decode cX1_copy 68 = .ok (.return_, 1) := dk_177 (dk_at dksX1_copy_2 20 rfl rfl)
abbrev cX1_size : ByteArray := prog_6_method_3_code
def yX1_size : MethodName := ⟨RX1, "size", "()I"⟩
def dkwX1_size_1 : List UInt8 := [167, 255, 238, 27, 172]
abbrev dktX1_size_1 : List UInt8 := dkwX1_size_1 ++ []
def dkwX1_size_0 : List UInt8 := [3, 60, 3, 61, 28, 16, 8, 162, 0, 18, 27, 42, 180, 0, 9, 28, 46, 96, 60, 132, 2, 1]
abbrev dktX1_size_0 : List UInt8 := dkwX1_size_0 ++ dktX1_size_1
theorem dksX1_size_0 : cX1_size.data.toList.drop 0 = dktX1_size_0 := by decide +kernel
theorem dksX1_size_1 : cX1_size.data.toList.drop 22 = dktX1_size_1 := dk_seg dksX1_size_0 22 rfl rfl
theorem dX1_size_0 : decode cX1_size 0 = .ok (.iconst 0, 1) := dk_3 (dk_at dksX1_size_0 0 rfl rfl)
theorem dX1_size_1 : decode cX1_size 1 = .ok (.istore_n 1, 1) := dk_60 (dk_at dksX1_size_0 1 rfl rfl)
theorem dX1_size_2 : decode cX1_size 2 = .ok (.iconst 0, 1) := dk_3 (dk_at dksX1_size_0 2 rfl rfl)
theorem dX1_size_3 : decode cX1_size 3 = .ok (.istore_n 2, 1) := dk_61 (dk_at dksX1_size_0 3 rfl rfl)
theorem dX1_size_4 : decode cX1_size 4 = .ok (.iload_n 2, 1) := dk_28 (dk_at dksX1_size_0 4 rfl rfl)
theorem dX1_size_5 : decode cX1_size 5 = .ok (.bipush 8, 2) := dk_16 8 (dk_at dksX1_size_0 5 rfl rfl)
theorem dX1_size_7 : decode cX1_size 7 = .ok (.if_icmp .ge 18, 3) := dk_162 0 18 (dk_at dksX1_size_0 7 rfl rfl)
theorem dX1_size_10 : decode cX1_size 10 = .ok (.iload_n 1, 1) := dk_27 (dk_at dksX1_size_0 10 rfl rfl)
theorem dX1_size_11 : decode cX1_size 11 = .ok (.aload_n 0, 1) := dk_42 (dk_at dksX1_size_0 11 rfl rfl)
theorem dX1_size_12 : decode cX1_size 12 = .ok (.getfield 9, 3) := dk_180 0 9 (dk_at dksX1_size_0 12 rfl rfl)
theorem dX1_size_15 : decode cX1_size 15 = .ok (.iload_n 2, 1) := dk_28 (dk_at dksX1_size_0 15 rfl rfl)
theorem dX1_size_16 : decode cX1_size 16 = .ok (.iaload, 1) := dk_46 (dk_at dksX1_size_0 16 rfl rfl)
theorem dX1_size_17 : decode cX1_size 17 = .ok (.iadd, 1) := dk_96 (dk_at dksX1_size_0 17 rfl rfl)
theorem dX1_size_18 : decode cX1_size 18 = .ok (.istore_n 1, 1) := dk_60 (dk_at dksX1_size_0 18 rfl rfl)
theorem dX1_size_19 : decode cX1_size 19 = .ok (.iinc 2 1, 3) := dk_132 2 1 (dk_at dksX1_size_0 19 rfl rfl)
theorem dX1_size_22 : decode cX1_size 22 = .ok (.goto (-18), 3) := dk_167 255 238 (dk_at dksX1_size_1 0 rfl rfl)
theorem dX1_size_25 : decode cX1_size 25 = .ok (.iload_n 1, 1) := dk_27 (dk_at dksX1_size_1 3 rfl rfl)
theorem dX1_size_26 : decode cX1_size 26 = .ok (.ireturn, 1) := dk_172 (dk_at dksX1_size_1 4 rfl rfl)
theorem q86 : (Jvm.Cond.initialized "BagPhrases$Setting") ∈ lw_all := lw_g (lw_at lw_m1 2 rfl) rfl
theorem q113 : (Jvm.Cond.instantiable "BagPhrases$Setting" (6 : Nat)) ∈ lw_all := lw_g (lw_at lw_m1 29 rfl) rfl
theorem q115 : (Jvm.Cond.instanceMethod ({ cls := "BagPhrases$Setting", name := "<init>", desc := "()V" } : Jvm.MethodName)) ∈ lw_all := lw_g (lw_at lw_m1 31 rfl) rfl
theorem q116 : (Jvm.Cond.code ({ cls := "BagPhrases$Setting", name := "<init>", desc := "()V" } : Jvm.MethodName) prog_6_method_1_code (1 : Nat) (Option.none : Option Jvm.ClassFile.FieldType)) ∈ lw_all := lw_g (lw_at lw_m1 32 rfl) rfl
theorem q117 : (Jvm.Cond.methodLink "BagPhrases$Setting" (3 : Nat) ({ cls := "java/lang/Object", name := "<init>", desc := "()V" } : Jvm.MethodName)) ∈ lw_all := lw_g (lw_at lw_m1 33 rfl) rfl
theorem q118 : (Jvm.Cond.fieldLink "BagPhrases$Setting" (9 : Nat) "BagPhrases$Setting" "bag" "[I") ∈ lw_all := lw_g (lw_at lw_m1 34 rfl) rfl
theorem q120 : (Jvm.Cond.fieldLink "BagPhrases$Setting" (27 : Nat) "BagPhrases$Setting" "barred" "I") ∈ lw_all := lw_g (lw_at lw_m1 36 rfl) rfl
theorem q122 : (Jvm.Cond.fieldLink "BagPhrases$Setting" (15 : Nat) "BagPhrases$Setting" "ranks" "[I") ∈ lw_all := lw_g (lw_at lw_m1 38 rfl) rfl
theorem q124 : (Jvm.Cond.fieldLink "BagPhrases$Setting" (31 : Nat) "BagPhrases$Setting" "begins" "I") ∈ lw_all := lw_g (lw_at lw_m1 40 rfl) rfl
theorem q126 : (Jvm.Cond.fieldLink "BagPhrases$Setting" (34 : Nat) "BagPhrases$Setting" "ends" "I") ∈ lw_all := lw_g (lw_at lw_m1 42 rfl) rfl
theorem q128 : (Jvm.Cond.fieldLink "BagPhrases$Setting" (18 : Nat) "BagPhrases$Setting" "follows" "[I") ∈ lw_all := lw_g (lw_at lw_m1 44 rfl) rfl
theorem q130 : (Jvm.Cond.laysFinal "BagPhrases$Setting" "BagPhrases$Setting" "bag" "[I") ∈ lw_all := lw_g (lw_at lw_m1 46 rfl) rfl
theorem q131 : (Jvm.Cond.soleField "BagPhrases$Setting" "bag") ∈ lw_all := lw_g (lw_at lw_m1 47 rfl) rfl
theorem q132 : (Jvm.Cond.lays "BagPhrases$Setting" "BagPhrases$Setting" "barred" "I") ∈ lw_all := lw_g (lw_at lw_m1 48 rfl) rfl
theorem q133 : (Jvm.Cond.soleField "BagPhrases$Setting" "barred") ∈ lw_all := lw_g (lw_at lw_m1 49 rfl) rfl
theorem q134 : (Jvm.Cond.laysFinal "BagPhrases$Setting" "BagPhrases$Setting" "ranks" "[I") ∈ lw_all := lw_g (lw_at lw_m1 50 rfl) rfl
theorem q135 : (Jvm.Cond.soleField "BagPhrases$Setting" "ranks") ∈ lw_all := lw_g (lw_at lw_m1 51 rfl) rfl
theorem q136 : (Jvm.Cond.lays "BagPhrases$Setting" "BagPhrases$Setting" "begins" "I") ∈ lw_all := lw_g (lw_at lw_m1 52 rfl) rfl
theorem q137 : (Jvm.Cond.soleField "BagPhrases$Setting" "begins") ∈ lw_all := lw_g (lw_at lw_m1 53 rfl) rfl
theorem q138 : (Jvm.Cond.lays "BagPhrases$Setting" "BagPhrases$Setting" "ends" "I") ∈ lw_all := lw_g (lw_at lw_m1 54 rfl) rfl
theorem q139 : (Jvm.Cond.soleField "BagPhrases$Setting" "ends") ∈ lw_all := lw_g (lw_at lw_m1 55 rfl) rfl
theorem q140 : (Jvm.Cond.laysFinal "BagPhrases$Setting" "BagPhrases$Setting" "follows" "[I") ∈ lw_all := lw_g (lw_at lw_m1 56 rfl) rfl
theorem q141 : (Jvm.Cond.soleField "BagPhrases$Setting" "follows") ∈ lw_all := lw_g (lw_at lw_m1 57 rfl) rfl
theorem q142 : (Jvm.Cond.superclass "BagPhrases$Setting" "java/lang/Object") ∈ lw_all := lw_g (lw_at lw_m1 58 rfl) rfl
theorem q302 : (Jvm.Cond.instanceMethod ({ cls := "BagPhrases$Setting", name := "copy", desc := "(LBagPhrases$Setting;)V" } : Jvm.MethodName)) ∈ lw_all := lw_g (lw_at lw_m1 218 rfl) rfl
theorem q303 : (Jvm.Cond.selects "BagPhrases$Setting" ({ cls := "BagPhrases$Setting", name := "copy", desc := "(LBagPhrases$Setting;)V" } : Jvm.MethodName) ({ cls := "BagPhrases$Setting", name := "copy", desc := "(LBagPhrases$Setting;)V" } : Jvm.MethodName)) ∈ lw_all := lw_g (lw_at lw_m1 219 rfl) rfl
theorem q304 : (Jvm.Cond.code ({ cls := "BagPhrases$Setting", name := "copy", desc := "(LBagPhrases$Setting;)V" } : Jvm.MethodName) prog_6_method_2_code (2 : Nat) (Option.none : Option Jvm.ClassFile.FieldType)) ∈ lw_all := lw_g (lw_at lw_m1 220 rfl) rfl
theorem q305 : (Jvm.Cond.methodLink "BagPhrases$Setting" (21 : Nat) ({ cls := "java/lang/System", name := "arraycopy", desc := "(Ljava/lang/Object;ILjava/lang/Object;II)V" } : Jvm.MethodName)) ∈ lw_all := lw_g (lw_at lw_m1 221 rfl) rfl
theorem q333 : (Jvm.Cond.instanceMethod ({ cls := "BagPhrases$Setting", name := "size", desc := "()I" } : Jvm.MethodName)) ∈ lw_all := lw_g (lw_at lw_m2 9 rfl) rfl
theorem q334 : (Jvm.Cond.selects "BagPhrases$Setting" ({ cls := "BagPhrases$Setting", name := "size", desc := "()I" } : Jvm.MethodName) ({ cls := "BagPhrases$Setting", name := "size", desc := "()I" } : Jvm.MethodName)) ∈ lw_all := lw_g (lw_at lw_m2 10 rfl) rfl
theorem q335 : (Jvm.Cond.code ({ cls := "BagPhrases$Setting", name := "size", desc := "()I" } : Jvm.MethodName) prog_6_method_3_code (3 : Nat) (Option.some Jvm.ClassFile.FieldType.int)) ∈ lw_all := lw_g (lw_at lw_m2 11 rfl) rfl
theorem in_X1 : ∀ w ∈ wsX10, w ∈ lw_all := lw_in wsX10 [130, 132, 134, 136, 138, 140] (by decide +kernel) (by decide +kernel)

/-! BagPhrases$Word -/
set_option maxRecDepth 100000
def RX2 : String := "BagPhrases$Word"
def TX2 : u_T := fun k => match k with
  | 0 => ("BagPhrases$Word", "spelt", "[I", true)
  | 1 => ("BagPhrases$Word", "length", "I", false)
  | 2 => ("BagPhrases$Word", "kind", "I", false)
  | _ => ("BagPhrases$Word", "has", "[I", true)
def tyX2 : Nat → FieldType := fun k => match k with
  | 0 => .array .int
  | 1 => .int
  | 2 => .int
  | _ => .array .int
abbrev wsX20 : List Cond := u_ws RX2 TX2 4
theorem nmX2 : ∀ a, a < 4 → ∀ b, b < 4 → a ≠ b → (TX2 a).2.1 ≠ (TX2 b).2.1 := by decide +kernel
theorem tyX2_ok : ∀ k, k < 4 → parseFieldDescriptor (TX2 k).2.2.1 = some (tyX2 k) := by decide +kernel
abbrev cX2_init : ByteArray := prog_10_method_1_code
def yX2_init : MethodName := ⟨RX2, "<init>", "()V"⟩
def dkwX2_init_0 : List UInt8 := [42, 183, 0, 3, 42, 16, 6, 188, 10, 181, 0, 9, 42, 16, 8, 188, 10, 181, 0, 15, 177]
abbrev dktX2_init_0 : List UInt8 := dkwX2_init_0 ++ []
theorem dksX2_init_0 : cX2_init.data.toList.drop 0 = dktX2_init_0 := by decide +kernel
theorem dX2_init_0 : decode cX2_init 0 = .ok (.aload_n 0, 1) := dk_42 (dk_at dksX2_init_0 0 rfl rfl)
theorem dX2_init_1 : decode cX2_init 1 = .ok (.invokespecial 3, 3) := dk_183 0 3 (dk_at dksX2_init_0 1 rfl rfl)
theorem dX2_init_4 : decode cX2_init 4 = .ok (.aload_n 0, 1) := dk_42 (dk_at dksX2_init_0 4 rfl rfl)
theorem dX2_init_5 : decode cX2_init 5 = .ok (.bipush 6, 2) := dk_16 6 (dk_at dksX2_init_0 5 rfl rfl)
theorem dX2_init_7 : decode cX2_init 7 = .ok (.newarray .int, 2) := dk_188_10 (dk_at dksX2_init_0 7 rfl rfl)
theorem dX2_init_9 : decode cX2_init 9 = .ok (.putfield 9, 3) := dk_181 0 9 (dk_at dksX2_init_0 9 rfl rfl)
theorem dX2_init_12 : decode cX2_init 12 = .ok (.aload_n 0, 1) := dk_42 (dk_at dksX2_init_0 12 rfl rfl)
theorem dX2_init_13 : decode cX2_init 13 = .ok (.bipush 8, 2) := dk_16 8 (dk_at dksX2_init_0 13 rfl rfl)
theorem dX2_init_15 : decode cX2_init 15 = .ok (.newarray .int, 2) := dk_188_10 (dk_at dksX2_init_0 15 rfl rfl)
theorem dX2_init_17 : decode cX2_init 17 = .ok (.putfield 15, 3) := dk_181 0 15 (dk_at dksX2_init_0 17 rfl rfl)
theorem dX2_init_20 : decode cX2_init 20 = .ok (.return_, 1) := dk_177 (dk_at dksX2_init_0 20 rfl rfl)
abbrev cX2_begin : ByteArray := prog_10_method_2_code
def yX2_begin : MethodName := ⟨RX2, "begin", "()V"⟩
def dkwX2_begin_1 : List UInt8 := [167, 255, 240, 177]
abbrev dktX2_begin_1 : List UInt8 := dkwX2_begin_1 ++ []
def dkwX2_begin_0 : List UInt8 := [42, 3, 181, 0, 18, 3, 60, 27, 16, 8, 162, 0, 16, 42, 180, 0, 15, 27, 3, 79, 132, 1, 1]
abbrev dktX2_begin_0 : List UInt8 := dkwX2_begin_0 ++ dktX2_begin_1
theorem dksX2_begin_0 : cX2_begin.data.toList.drop 0 = dktX2_begin_0 := by decide +kernel
theorem dksX2_begin_1 : cX2_begin.data.toList.drop 23 = dktX2_begin_1 := dk_seg dksX2_begin_0 23 rfl rfl
theorem dX2_begin_0 : decode cX2_begin 0 = .ok (.aload_n 0, 1) := dk_42 (dk_at dksX2_begin_0 0 rfl rfl)
theorem dX2_begin_1 : decode cX2_begin 1 = .ok (.iconst 0, 1) := dk_3 (dk_at dksX2_begin_0 1 rfl rfl)
theorem dX2_begin_2 : decode cX2_begin 2 = .ok (.putfield 18, 3) := dk_181 0 18 (dk_at dksX2_begin_0 2 rfl rfl)
theorem dX2_begin_5 : decode cX2_begin 5 = .ok (.iconst 0, 1) := dk_3 (dk_at dksX2_begin_0 5 rfl rfl)
theorem dX2_begin_6 : decode cX2_begin 6 = .ok (.istore_n 1, 1) := dk_60 (dk_at dksX2_begin_0 6 rfl rfl)
theorem dX2_begin_7 : decode cX2_begin 7 = .ok (.iload_n 1, 1) := dk_27 (dk_at dksX2_begin_0 7 rfl rfl)
theorem dX2_begin_8 : decode cX2_begin 8 = .ok (.bipush 8, 2) := dk_16 8 (dk_at dksX2_begin_0 8 rfl rfl)
theorem dX2_begin_10 : decode cX2_begin 10 = .ok (.if_icmp .ge 16, 3) := dk_162 0 16 (dk_at dksX2_begin_0 10 rfl rfl)
theorem dX2_begin_13 : decode cX2_begin 13 = .ok (.aload_n 0, 1) := dk_42 (dk_at dksX2_begin_0 13 rfl rfl)
theorem dX2_begin_14 : decode cX2_begin 14 = .ok (.getfield 15, 3) := dk_180 0 15 (dk_at dksX2_begin_0 14 rfl rfl)
theorem dX2_begin_17 : decode cX2_begin 17 = .ok (.iload_n 1, 1) := dk_27 (dk_at dksX2_begin_0 17 rfl rfl)
theorem dX2_begin_18 : decode cX2_begin 18 = .ok (.iconst 0, 1) := dk_3 (dk_at dksX2_begin_0 18 rfl rfl)
theorem dX2_begin_19 : decode cX2_begin 19 = .ok (.iastore, 1) := dk_79 (dk_at dksX2_begin_0 19 rfl rfl)
theorem dX2_begin_20 : decode cX2_begin 20 = .ok (.iinc 1 1, 3) := dk_132 1 1 (dk_at dksX2_begin_0 20 rfl rfl)
theorem dX2_begin_23 : decode cX2_begin 23 = .ok (.goto (-16), 3) := dk_167 255 240 (dk_at dksX2_begin_1 0 rfl rfl)
theorem dX2_begin_26 : decode cX2_begin 26 = .ok (.return_, 1) := dk_177 (dk_at dksX2_begin_1 3 rfl rfl)
abbrev cX2_add : ByteArray := prog_10_method_3_code
def yX2_add : MethodName := ⟨RX2, "add", "(I)V"⟩
def dkwX2_add_1 : List UInt8 := [27, 92, 46, 4, 96, 79, 177]
abbrev dktX2_add_1 : List UInt8 := dkwX2_add_1 ++ []
def dkwX2_add_0 : List UInt8 := [42, 180, 0, 9, 42, 180, 0, 18, 27, 79, 42, 89, 180, 0, 18, 4, 96, 181, 0, 18, 42, 180, 0, 15]
abbrev dktX2_add_0 : List UInt8 := dkwX2_add_0 ++ dktX2_add_1
theorem dksX2_add_0 : cX2_add.data.toList.drop 0 = dktX2_add_0 := by decide +kernel
theorem dksX2_add_1 : cX2_add.data.toList.drop 24 = dktX2_add_1 := dk_seg dksX2_add_0 24 rfl rfl
theorem dX2_add_0 : decode cX2_add 0 = .ok (.aload_n 0, 1) := dk_42 (dk_at dksX2_add_0 0 rfl rfl)
theorem dX2_add_1 : decode cX2_add 1 = .ok (.getfield 9, 3) := dk_180 0 9 (dk_at dksX2_add_0 1 rfl rfl)
theorem dX2_add_4 : decode cX2_add 4 = .ok (.aload_n 0, 1) := dk_42 (dk_at dksX2_add_0 4 rfl rfl)
theorem dX2_add_5 : decode cX2_add 5 = .ok (.getfield 18, 3) := dk_180 0 18 (dk_at dksX2_add_0 5 rfl rfl)
theorem dX2_add_8 : decode cX2_add 8 = .ok (.iload_n 1, 1) := dk_27 (dk_at dksX2_add_0 8 rfl rfl)
theorem dX2_add_9 : decode cX2_add 9 = .ok (.iastore, 1) := dk_79 (dk_at dksX2_add_0 9 rfl rfl)
theorem dX2_add_10 : decode cX2_add 10 = .ok (.aload_n 0, 1) := dk_42 (dk_at dksX2_add_0 10 rfl rfl)
theorem dX2_add_11 : decode cX2_add 11 = .ok (.dup, 1) := dk_89 (dk_at dksX2_add_0 11 rfl rfl)
theorem dX2_add_12 : decode cX2_add 12 = .ok (.getfield 18, 3) := dk_180 0 18 (dk_at dksX2_add_0 12 rfl rfl)
theorem dX2_add_15 : decode cX2_add 15 = .ok (.iconst 1, 1) := dk_4 (dk_at dksX2_add_0 15 rfl rfl)
theorem dX2_add_16 : decode cX2_add 16 = .ok (.iadd, 1) := dk_96 (dk_at dksX2_add_0 16 rfl rfl)
theorem dX2_add_17 : decode cX2_add 17 = .ok (.putfield 18, 3) := dk_181 0 18 (dk_at dksX2_add_0 17 rfl rfl)
theorem dX2_add_20 : decode cX2_add 20 = .ok (.aload_n 0, 1) := dk_42 (dk_at dksX2_add_0 20 rfl rfl)
theorem dX2_add_21 : decode cX2_add 21 = .ok (.getfield 15, 3) := dk_180 0 15 (dk_at dksX2_add_0 21 rfl rfl)
theorem dX2_add_24 : decode cX2_add 24 = .ok (.iload_n 1, 1) := dk_27 (dk_at dksX2_add_1 0 rfl rfl)
theorem dX2_add_25 : decode cX2_add 25 = .ok (.dup2, 1) := dk_92 (dk_at dksX2_add_1 1 rfl rfl)
theorem dX2_add_26 : decode cX2_add 26 = .ok (.iaload, 1) := dk_46 (dk_at dksX2_add_1 2 rfl rfl)
theorem dX2_add_27 : decode cX2_add 27 = .ok (.iconst 1, 1) := dk_4 (dk_at dksX2_add_1 3 rfl rfl)
theorem dX2_add_28 : decode cX2_add 28 = .ok (.iadd, 1) := dk_96 (dk_at dksX2_add_1 4 rfl rfl)
theorem dX2_add_29 : decode cX2_add 29 = .ok (.iastore, 1) := dk_79 (dk_at dksX2_add_1 5 rfl rfl)
theorem dX2_add_30 : decode cX2_add 30 = .ok (.return_, 1) := dk_177 (dk_at dksX2_add_1 6 rfl rfl)
abbrev cX2_copy : ByteArray := prog_10_method_4_code
def yX2_copy : MethodName := ⟨RX2, "copy", "(LBagPhrases$Word;)V"⟩
def dkwX2_copy_2 : List UInt8 := [177]
abbrev dktX2_copy_2 : List UInt8 := dkwX2_copy_2 ++ []
def dkwX2_copy_1 : List UInt8 := [180, 0, 9, 3, 16, 6, 184, 0, 25, 43, 180, 0, 15, 3, 42, 180, 0, 15, 3, 16, 8, 184, 0, 25]
abbrev dktX2_copy_1 : List UInt8 := dkwX2_copy_1 ++ dktX2_copy_2
def dkwX2_copy_0 : List UInt8 := [42, 43, 180, 0, 18, 181, 0, 18, 42, 43, 180, 0, 22, 181, 0, 22, 43, 180, 0, 9, 3, 42]
abbrev dktX2_copy_0 : List UInt8 := dkwX2_copy_0 ++ dktX2_copy_1
theorem dksX2_copy_0 : cX2_copy.data.toList.drop 0 = dktX2_copy_0 := by decide +kernel
theorem dksX2_copy_1 : cX2_copy.data.toList.drop 22 = dktX2_copy_1 := dk_seg dksX2_copy_0 22 rfl rfl
theorem dksX2_copy_2 : cX2_copy.data.toList.drop 46 = dktX2_copy_2 := dk_seg dksX2_copy_1 24 rfl rfl
theorem dX2_copy_0 : decode cX2_copy 0 = .ok (.aload_n 0, 1) := dk_42 (dk_at dksX2_copy_0 0 rfl rfl)
theorem dX2_copy_1 : decode cX2_copy 1 = .ok (.aload_n 1, 1) := dk_43 (dk_at dksX2_copy_0 1 rfl rfl)
theorem dX2_copy_2 : decode cX2_copy 2 = .ok (.getfield 18, 3) := dk_180 0 18 (dk_at dksX2_copy_0 2 rfl rfl)
theorem dX2_copy_5 : decode cX2_copy 5 = .ok (.putfield 18, 3) := dk_181 0 18 (dk_at dksX2_copy_0 5 rfl rfl)
theorem dX2_copy_8 : decode cX2_copy 8 = .ok (.aload_n 0, 1) := dk_42 (dk_at dksX2_copy_0 8 rfl rfl)
theorem dX2_copy_9 : decode cX2_copy 9 = .ok (.aload_n 1, 1) := dk_43 (dk_at dksX2_copy_0 9 rfl rfl)
theorem dX2_copy_10 : decode cX2_copy 10 = .ok (.getfield 22, 3) := dk_180 0 22 (dk_at dksX2_copy_0 10 rfl rfl)
theorem dX2_copy_13 : decode cX2_copy 13 = .ok (.putfield 22, 3) := dk_181 0 22 (dk_at dksX2_copy_0 13 rfl rfl)
theorem dX2_copy_16 : decode cX2_copy 16 = .ok (.aload_n 1, 1) := dk_43 (dk_at dksX2_copy_0 16 rfl rfl)
theorem dX2_copy_17 : decode cX2_copy 17 = .ok (.getfield 9, 3) := dk_180 0 9 (dk_at dksX2_copy_0 17 rfl rfl)
theorem dX2_copy_20 : decode cX2_copy 20 = .ok (.iconst 0, 1) := dk_3 (dk_at dksX2_copy_0 20 rfl rfl)
theorem dX2_copy_21 : decode cX2_copy 21 = .ok (.aload_n 0, 1) := dk_42 (dk_at dksX2_copy_0 21 rfl rfl)
theorem dX2_copy_22 : decode cX2_copy 22 = .ok (.getfield 9, 3) := dk_180 0 9 (dk_at dksX2_copy_1 0 rfl rfl)
theorem dX2_copy_25 : decode cX2_copy 25 = .ok (.iconst 0, 1) := dk_3 (dk_at dksX2_copy_1 3 rfl rfl)
theorem dX2_copy_26 : decode cX2_copy 26 = .ok (.bipush 6, 2) := dk_16 6 (dk_at dksX2_copy_1 4 rfl rfl)
theorem dX2_copy_28 : decode cX2_copy 28 = .ok (.invokestatic 25, 3) := dk_184 0 25 (dk_at dksX2_copy_1 6 rfl rfl)
theorem dX2_copy_31 : decode cX2_copy 31 = .ok (.aload_n 1, 1) := dk_43 (dk_at dksX2_copy_1 9 rfl rfl)
theorem dX2_copy_32 : decode cX2_copy 32 = .ok (.getfield 15, 3) := dk_180 0 15 (dk_at dksX2_copy_1 10 rfl rfl)
theorem dX2_copy_35 : decode cX2_copy 35 = .ok (.iconst 0, 1) := dk_3 (dk_at dksX2_copy_1 13 rfl rfl)
theorem dX2_copy_36 : decode cX2_copy 36 = .ok (.aload_n 0, 1) := dk_42 (dk_at dksX2_copy_1 14 rfl rfl)
theorem dX2_copy_37 : decode cX2_copy 37 = .ok (.getfield 15, 3) := dk_180 0 15 (dk_at dksX2_copy_1 15 rfl rfl)
theorem dX2_copy_40 : decode cX2_copy 40 = .ok (.iconst 0, 1) := dk_3 (dk_at dksX2_copy_1 18 rfl rfl)
theorem dX2_copy_41 : decode cX2_copy 41 = .ok (.bipush 8, 2) := dk_16 8 (dk_at dksX2_copy_1 19 rfl rfl)
theorem dX2_copy_43 : decode cX2_copy 43 = .ok (.invokestatic 25, 3) := dk_184 0 25 (dk_at dksX2_copy_1 21 rfl rfl)
theorem dX2_copy_46 : decode cX2_copy 46 = .ok (.return_, 1) := dk_177 (dk_at dksX2_copy_2 0 rfl rfl)
abbrev cX2_times : ByteArray := prog_10_method_6_code
def yX2_times : MethodName := ⟨RX2, "times", "([I)I"⟩
def dkwX2_times_1 : List UInt8 := [42, 180, 0, 15, 29, 46, 108, 184, 0, 31, 167, 0, 4, 28, 61, 132, 3, 1, 167, 255, 219, 28, 172]
abbrev dktX2_times_1 : List UInt8 := dkwX2_times_1 ++ []
def dkwX2_times_0 : List UInt8 := [16, 12, 61, 3, 62, 29, 16, 8, 162, 0, 37, 42, 180, 0, 15, 29, 46, 158, 0, 20, 28, 43, 29, 46]
abbrev dktX2_times_0 : List UInt8 := dkwX2_times_0 ++ dktX2_times_1
theorem dksX2_times_0 : cX2_times.data.toList.drop 0 = dktX2_times_0 := by decide +kernel
theorem dksX2_times_1 : cX2_times.data.toList.drop 24 = dktX2_times_1 := dk_seg dksX2_times_0 24 rfl rfl
theorem dX2_times_0 : decode cX2_times 0 = .ok (.bipush 12, 2) := dk_16 12 (dk_at dksX2_times_0 0 rfl rfl)
theorem dX2_times_2 : decode cX2_times 2 = .ok (.istore_n 2, 1) := dk_61 (dk_at dksX2_times_0 2 rfl rfl)
theorem dX2_times_3 : decode cX2_times 3 = .ok (.iconst 0, 1) := dk_3 (dk_at dksX2_times_0 3 rfl rfl)
theorem dX2_times_4 : decode cX2_times 4 = .ok (.istore_n 3, 1) := dk_62 (dk_at dksX2_times_0 4 rfl rfl)
theorem dX2_times_5 : decode cX2_times 5 = .ok (.iload_n 3, 1) := dk_29 (dk_at dksX2_times_0 5 rfl rfl)
theorem dX2_times_6 : decode cX2_times 6 = .ok (.bipush 8, 2) := dk_16 8 (dk_at dksX2_times_0 6 rfl rfl)
theorem dX2_times_8 : decode cX2_times 8 = .ok (.if_icmp .ge 37, 3) := dk_162 0 37 (dk_at dksX2_times_0 8 rfl rfl)
theorem dX2_times_11 : decode cX2_times 11 = .ok (.aload_n 0, 1) := dk_42 (dk_at dksX2_times_0 11 rfl rfl)
theorem dX2_times_12 : decode cX2_times 12 = .ok (.getfield 15, 3) := dk_180 0 15 (dk_at dksX2_times_0 12 rfl rfl)
theorem dX2_times_15 : decode cX2_times 15 = .ok (.iload_n 3, 1) := dk_29 (dk_at dksX2_times_0 15 rfl rfl)
theorem dX2_times_16 : decode cX2_times 16 = .ok (.iaload, 1) := dk_46 (dk_at dksX2_times_0 16 rfl rfl)
theorem dX2_times_17 : decode cX2_times 17 = .ok (.ifCond .le 20, 3) := dk_158 0 20 (dk_at dksX2_times_0 17 rfl rfl)
theorem dX2_times_20 : decode cX2_times 20 = .ok (.iload_n 2, 1) := dk_28 (dk_at dksX2_times_0 20 rfl rfl)
theorem dX2_times_21 : decode cX2_times 21 = .ok (.aload_n 1, 1) := dk_43 (dk_at dksX2_times_0 21 rfl rfl)
theorem dX2_times_22 : decode cX2_times 22 = .ok (.iload_n 3, 1) := dk_29 (dk_at dksX2_times_0 22 rfl rfl)
theorem dX2_times_23 : decode cX2_times 23 = .ok (.iaload, 1) := dk_46 (dk_at dksX2_times_0 23 rfl rfl)
theorem dX2_times_24 : decode cX2_times 24 = .ok (.aload_n 0, 1) := dk_42 (dk_at dksX2_times_1 0 rfl rfl)
theorem dX2_times_25 : decode cX2_times 25 = .ok (.getfield 15, 3) := dk_180 0 15 (dk_at dksX2_times_1 1 rfl rfl)
theorem dX2_times_28 : decode cX2_times 28 = .ok (.iload_n 3, 1) := dk_29 (dk_at dksX2_times_1 4 rfl rfl)
theorem dX2_times_29 : decode cX2_times 29 = .ok (.iaload, 1) := dk_46 (dk_at dksX2_times_1 5 rfl rfl)
theorem dX2_times_30 : decode cX2_times 30 = .ok (.idiv, 1) := dk_108 (dk_at dksX2_times_1 6 rfl rfl)
theorem dX2_times_31 : decode cX2_times 31 = .ok (.invokestatic 31, 3) := dk_184 0 31 (dk_at dksX2_times_1 7 rfl rfl)
theorem dX2_times_34 : decode cX2_times 34 = .ok (.goto 4, 3) := dk_167 0 4 (dk_at dksX2_times_1 10 rfl rfl)
theorem dX2_times_37 : decode cX2_times 37 = .ok (.iload_n 2, 1) := dk_28 (dk_at dksX2_times_1 13 rfl rfl)
theorem dX2_times_38 : decode cX2_times 38 = .ok (.istore_n 2, 1) := dk_61 (dk_at dksX2_times_1 14 rfl rfl)
theorem dX2_times_39 : decode cX2_times 39 = .ok (.iinc 3 1, 3) := dk_132 3 1 (dk_at dksX2_times_1 15 rfl rfl)
theorem dX2_times_42 : decode cX2_times 42 = .ok (.goto (-37), 3) := dk_167 255 219 (dk_at dksX2_times_1 18 rfl rfl)
theorem dX2_times_45 : decode cX2_times 45 = .ok (.iload_n 2, 1) := dk_28 (dk_at dksX2_times_1 21 rfl rfl)
theorem dX2_times_46 : decode cX2_times 46 = .ok (.ireturn, 1) := dk_172 (dk_at dksX2_times_1 22 rfl rfl)
abbrev cX2_isTwin : ByteArray := prog_10_method_5_code
def yX2_isTwin : MethodName := ⟨RX2, "isTwin", "(LBagPhrases$Word;)Z"⟩
def dkwX2_isTwin_1 : List UInt8 := [29, 46, 160, 0, 7, 4, 167, 0, 4, 3, 61, 132, 3, 1, 167, 255, 222, 28, 172]
abbrev dktX2_isTwin_1 : List UInt8 := dkwX2_isTwin_1 ++ []
def dkwX2_isTwin_0 : List UInt8 := [4, 61, 3, 62, 29, 16, 8, 162, 0, 34, 28, 153, 0, 22, 42, 180, 0, 15, 29, 46, 43, 180, 0, 15]
abbrev dktX2_isTwin_0 : List UInt8 := dkwX2_isTwin_0 ++ dktX2_isTwin_1
theorem dksX2_isTwin_0 : cX2_isTwin.data.toList.drop 0 = dktX2_isTwin_0 := by decide +kernel
theorem dksX2_isTwin_1 : cX2_isTwin.data.toList.drop 24 = dktX2_isTwin_1 := dk_seg dksX2_isTwin_0 24 rfl rfl
theorem dX2_isTwin_0 : decode cX2_isTwin 0 = .ok (.iconst 1, 1) := dk_4 (dk_at dksX2_isTwin_0 0 rfl rfl)
theorem dX2_isTwin_1 : decode cX2_isTwin 1 = .ok (.istore_n 2, 1) := dk_61 (dk_at dksX2_isTwin_0 1 rfl rfl)
theorem dX2_isTwin_2 : decode cX2_isTwin 2 = .ok (.iconst 0, 1) := dk_3 (dk_at dksX2_isTwin_0 2 rfl rfl)
theorem dX2_isTwin_3 : decode cX2_isTwin 3 = .ok (.istore_n 3, 1) := dk_62 (dk_at dksX2_isTwin_0 3 rfl rfl)
theorem dX2_isTwin_4 : decode cX2_isTwin 4 = .ok (.iload_n 3, 1) := dk_29 (dk_at dksX2_isTwin_0 4 rfl rfl)
theorem dX2_isTwin_5 : decode cX2_isTwin 5 = .ok (.bipush 8, 2) := dk_16 8 (dk_at dksX2_isTwin_0 5 rfl rfl)
theorem dX2_isTwin_7 : decode cX2_isTwin 7 = .ok (.if_icmp .ge 34, 3) := dk_162 0 34 (dk_at dksX2_isTwin_0 7 rfl rfl)
theorem dX2_isTwin_10 : decode cX2_isTwin 10 = .ok (.iload_n 2, 1) := dk_28 (dk_at dksX2_isTwin_0 10 rfl rfl)
theorem dX2_isTwin_11 : decode cX2_isTwin 11 = .ok (.ifCond .eq 22, 3) := dk_153 0 22 (dk_at dksX2_isTwin_0 11 rfl rfl)
theorem dX2_isTwin_14 : decode cX2_isTwin 14 = .ok (.aload_n 0, 1) := dk_42 (dk_at dksX2_isTwin_0 14 rfl rfl)
theorem dX2_isTwin_15 : decode cX2_isTwin 15 = .ok (.getfield 15, 3) := dk_180 0 15 (dk_at dksX2_isTwin_0 15 rfl rfl)
theorem dX2_isTwin_18 : decode cX2_isTwin 18 = .ok (.iload_n 3, 1) := dk_29 (dk_at dksX2_isTwin_0 18 rfl rfl)
theorem dX2_isTwin_19 : decode cX2_isTwin 19 = .ok (.iaload, 1) := dk_46 (dk_at dksX2_isTwin_0 19 rfl rfl)
theorem dX2_isTwin_20 : decode cX2_isTwin 20 = .ok (.aload_n 1, 1) := dk_43 (dk_at dksX2_isTwin_0 20 rfl rfl)
theorem dX2_isTwin_21 : decode cX2_isTwin 21 = .ok (.getfield 15, 3) := dk_180 0 15 (dk_at dksX2_isTwin_0 21 rfl rfl)
theorem dX2_isTwin_24 : decode cX2_isTwin 24 = .ok (.iload_n 3, 1) := dk_29 (dk_at dksX2_isTwin_1 0 rfl rfl)
theorem dX2_isTwin_25 : decode cX2_isTwin 25 = .ok (.iaload, 1) := dk_46 (dk_at dksX2_isTwin_1 1 rfl rfl)
theorem dX2_isTwin_26 : decode cX2_isTwin 26 = .ok (.if_icmp .ne 7, 3) := dk_160 0 7 (dk_at dksX2_isTwin_1 2 rfl rfl)
theorem dX2_isTwin_29 : decode cX2_isTwin 29 = .ok (.iconst 1, 1) := dk_4 (dk_at dksX2_isTwin_1 5 rfl rfl)
theorem dX2_isTwin_30 : decode cX2_isTwin 30 = .ok (.goto 4, 3) := dk_167 0 4 (dk_at dksX2_isTwin_1 6 rfl rfl)
theorem dX2_isTwin_33 : decode cX2_isTwin 33 = .ok (.iconst 0, 1) := dk_3 (dk_at dksX2_isTwin_1 9 rfl rfl)
theorem dX2_isTwin_34 : decode cX2_isTwin 34 = .ok (.istore_n 2, 1) := dk_61 (dk_at dksX2_isTwin_1 10 rfl rfl)
theorem dX2_isTwin_35 : decode cX2_isTwin 35 = .ok (.iinc 3 1, 3) := dk_132 3 1 (dk_at dksX2_isTwin_1 11 rfl rfl)
theorem dX2_isTwin_38 : decode cX2_isTwin 38 = .ok (.goto (-34), 3) := dk_167 255 222 (dk_at dksX2_isTwin_1 14 rfl rfl)
theorem dX2_isTwin_41 : decode cX2_isTwin 41 = .ok (.iload_n 2, 1) := dk_28 (dk_at dksX2_isTwin_1 17 rfl rfl)
theorem dX2_isTwin_42 : decode cX2_isTwin 42 = .ok (.ireturn, 1) := dk_172 (dk_at dksX2_isTwin_1 18 rfl rfl)
theorem q87 : (Jvm.Cond.initialized "BagPhrases$Word") ∈ lw_all := lw_g (lw_at lw_m1 3 rfl) rfl
theorem q148 : (Jvm.Cond.instantiable "BagPhrases$Word" (4 : Nat)) ∈ lw_all := lw_g (lw_at lw_m1 64 rfl) rfl
theorem q150 : (Jvm.Cond.instanceMethod ({ cls := "BagPhrases$Word", name := "<init>", desc := "()V" } : Jvm.MethodName)) ∈ lw_all := lw_g (lw_at lw_m1 66 rfl) rfl
theorem q151 : (Jvm.Cond.code ({ cls := "BagPhrases$Word", name := "<init>", desc := "()V" } : Jvm.MethodName) prog_10_method_1_code (1 : Nat) (Option.none : Option Jvm.ClassFile.FieldType)) ∈ lw_all := lw_g (lw_at lw_m1 67 rfl) rfl
theorem q152 : (Jvm.Cond.methodLink "BagPhrases$Word" (3 : Nat) ({ cls := "java/lang/Object", name := "<init>", desc := "()V" } : Jvm.MethodName)) ∈ lw_all := lw_g (lw_at lw_m1 68 rfl) rfl
theorem q153 : (Jvm.Cond.fieldLink "BagPhrases$Word" (9 : Nat) "BagPhrases$Word" "spelt" "[I") ∈ lw_all := lw_g (lw_at lw_m1 69 rfl) rfl
theorem q155 : (Jvm.Cond.fieldLink "BagPhrases$Word" (18 : Nat) "BagPhrases$Word" "length" "I") ∈ lw_all := lw_g (lw_at lw_m1 71 rfl) rfl
theorem q157 : (Jvm.Cond.fieldLink "BagPhrases$Word" (22 : Nat) "BagPhrases$Word" "kind" "I") ∈ lw_all := lw_g (lw_at lw_m1 73 rfl) rfl
theorem q159 : (Jvm.Cond.fieldLink "BagPhrases$Word" (15 : Nat) "BagPhrases$Word" "has" "[I") ∈ lw_all := lw_g (lw_at lw_m1 75 rfl) rfl
theorem q161 : (Jvm.Cond.laysFinal "BagPhrases$Word" "BagPhrases$Word" "spelt" "[I") ∈ lw_all := lw_g (lw_at lw_m1 77 rfl) rfl
theorem q162 : (Jvm.Cond.soleField "BagPhrases$Word" "spelt") ∈ lw_all := lw_g (lw_at lw_m1 78 rfl) rfl
theorem q163 : (Jvm.Cond.lays "BagPhrases$Word" "BagPhrases$Word" "length" "I") ∈ lw_all := lw_g (lw_at lw_m1 79 rfl) rfl
theorem q164 : (Jvm.Cond.soleField "BagPhrases$Word" "length") ∈ lw_all := lw_g (lw_at lw_m1 80 rfl) rfl
theorem q165 : (Jvm.Cond.lays "BagPhrases$Word" "BagPhrases$Word" "kind" "I") ∈ lw_all := lw_g (lw_at lw_m1 81 rfl) rfl
theorem q166 : (Jvm.Cond.soleField "BagPhrases$Word" "kind") ∈ lw_all := lw_g (lw_at lw_m1 82 rfl) rfl
theorem q167 : (Jvm.Cond.laysFinal "BagPhrases$Word" "BagPhrases$Word" "has" "[I") ∈ lw_all := lw_g (lw_at lw_m1 83 rfl) rfl
theorem q168 : (Jvm.Cond.soleField "BagPhrases$Word" "has") ∈ lw_all := lw_g (lw_at lw_m1 84 rfl) rfl
theorem q169 : (Jvm.Cond.superclass "BagPhrases$Word" "java/lang/Object") ∈ lw_all := lw_g (lw_at lw_m1 85 rfl) rfl
theorem q317 : (Jvm.Cond.instanceMethod ({ cls := "BagPhrases$Word", name := "begin", desc := "()V" } : Jvm.MethodName)) ∈ lw_all := lw_g (lw_at lw_m1 233 rfl) rfl
theorem q318 : (Jvm.Cond.selects "BagPhrases$Word" ({ cls := "BagPhrases$Word", name := "begin", desc := "()V" } : Jvm.MethodName) ({ cls := "BagPhrases$Word", name := "begin", desc := "()V" } : Jvm.MethodName)) ∈ lw_all := lw_g (lw_at lw_m1 234 rfl) rfl
theorem q319 : (Jvm.Cond.code ({ cls := "BagPhrases$Word", name := "begin", desc := "()V" } : Jvm.MethodName) prog_10_method_2_code (2 : Nat) (Option.none : Option Jvm.ClassFile.FieldType)) ∈ lw_all := lw_g (lw_at lw_m1 235 rfl) rfl
theorem q325 : (Jvm.Cond.instanceMethod ({ cls := "BagPhrases$Word", name := "add", desc := "(I)V" } : Jvm.MethodName)) ∈ lw_all := lw_g (lw_at lw_m2 1 rfl) rfl
theorem q326 : (Jvm.Cond.selects "BagPhrases$Word" ({ cls := "BagPhrases$Word", name := "add", desc := "(I)V" } : Jvm.MethodName) ({ cls := "BagPhrases$Word", name := "add", desc := "(I)V" } : Jvm.MethodName)) ∈ lw_all := lw_g (lw_at lw_m2 2 rfl) rfl
theorem q327 : (Jvm.Cond.code ({ cls := "BagPhrases$Word", name := "add", desc := "(I)V" } : Jvm.MethodName) prog_10_method_3_code (2 : Nat) (Option.none : Option Jvm.ClassFile.FieldType)) ∈ lw_all := lw_g (lw_at lw_m2 3 rfl) rfl
theorem q360 : (Jvm.Cond.instanceMethod ({ cls := "BagPhrases$Word", name := "copy", desc := "(LBagPhrases$Word;)V" } : Jvm.MethodName)) ∈ lw_all := lw_g (lw_at lw_m2 36 rfl) rfl
theorem q361 : (Jvm.Cond.selects "BagPhrases$Word" ({ cls := "BagPhrases$Word", name := "copy", desc := "(LBagPhrases$Word;)V" } : Jvm.MethodName) ({ cls := "BagPhrases$Word", name := "copy", desc := "(LBagPhrases$Word;)V" } : Jvm.MethodName)) ∈ lw_all := lw_g (lw_at lw_m2 37 rfl) rfl
theorem q362 : (Jvm.Cond.code ({ cls := "BagPhrases$Word", name := "copy", desc := "(LBagPhrases$Word;)V" } : Jvm.MethodName) prog_10_method_4_code (2 : Nat) (Option.none : Option Jvm.ClassFile.FieldType)) ∈ lw_all := lw_g (lw_at lw_m2 38 rfl) rfl
theorem q363 : (Jvm.Cond.methodLink "BagPhrases$Word" (25 : Nat) ({ cls := "java/lang/System", name := "arraycopy", desc := "(Ljava/lang/Object;ILjava/lang/Object;II)V" } : Jvm.MethodName)) ∈ lw_all := lw_g (lw_at lw_m2 39 rfl) rfl
theorem q390 : (Jvm.Cond.instanceMethod ({ cls := "BagPhrases$Word", name := "times", desc := "([I)I" } : Jvm.MethodName)) ∈ lw_all := lw_g (lw_at lw_m2 66 rfl) rfl
theorem q391 : (Jvm.Cond.selects "BagPhrases$Word" ({ cls := "BagPhrases$Word", name := "times", desc := "([I)I" } : Jvm.MethodName) ({ cls := "BagPhrases$Word", name := "times", desc := "([I)I" } : Jvm.MethodName)) ∈ lw_all := lw_g (lw_at lw_m2 67 rfl) rfl
theorem q392 : (Jvm.Cond.code ({ cls := "BagPhrases$Word", name := "times", desc := "([I)I" } : Jvm.MethodName) prog_10_method_6_code (4 : Nat) (Option.some Jvm.ClassFile.FieldType.int)) ∈ lw_all := lw_g (lw_at lw_m2 68 rfl) rfl
theorem q393 : (Jvm.Cond.methodLink "BagPhrases$Word" (31 : Nat) ({ cls := "java/lang/Math", name := "min", desc := "(II)I" } : Jvm.MethodName)) ∈ lw_all := lw_g (lw_at lw_m2 69 rfl) rfl
theorem q457 : (Jvm.Cond.instanceMethod ({ cls := "BagPhrases$Word", name := "isTwin", desc := "(LBagPhrases$Word;)Z" } : Jvm.MethodName)) ∈ lw_all := lw_g (lw_at lw_m2 133 rfl) rfl
theorem q458 : (Jvm.Cond.selects "BagPhrases$Word" ({ cls := "BagPhrases$Word", name := "isTwin", desc := "(LBagPhrases$Word;)Z" } : Jvm.MethodName) ({ cls := "BagPhrases$Word", name := "isTwin", desc := "(LBagPhrases$Word;)Z" } : Jvm.MethodName)) ∈ lw_all := lw_g (lw_at lw_m2 134 rfl) rfl
theorem q459 : (Jvm.Cond.code ({ cls := "BagPhrases$Word", name := "isTwin", desc := "(LBagPhrases$Word;)Z" } : Jvm.MethodName) prog_10_method_5_code (4 : Nat) (Option.some Jvm.ClassFile.FieldType.boolean)) ∈ lw_all := lw_g (lw_at lw_m2 135 rfl) rfl
theorem in_X2 : ∀ w ∈ wsX20, w ∈ lw_all := lw_in wsX20 [161, 163, 165, 167] (by decide +kernel) (by decide +kernel)

/-! java/lang/Math -/
set_option maxRecDepth 100000
def RJ0 : String := "java/lang/Math"
abbrev cJ0_min : ByteArray := prog_16_method_69_code
def yJ0_min : MethodName := ⟨RJ0, "min", "(II)I"⟩
def dkwJ0_min_0 : List UInt8 := [26, 27, 163, 0, 7, 26, 167, 0, 4, 27, 172]
abbrev dktJ0_min_0 : List UInt8 := dkwJ0_min_0 ++ []
theorem dksJ0_min_0 : cJ0_min.data.toList.drop 0 = dktJ0_min_0 := by decide +kernel
theorem dJ0_min_0 : decode cJ0_min 0 = .ok (.iload_n 0, 1) := dk_26 (dk_at dksJ0_min_0 0 rfl rfl)
theorem dJ0_min_1 : decode cJ0_min 1 = .ok (.iload_n 1, 1) := dk_27 (dk_at dksJ0_min_0 1 rfl rfl)
theorem dJ0_min_2 : decode cJ0_min 2 = .ok (.if_icmp .gt 7, 3) := dk_163 0 7 (dk_at dksJ0_min_0 2 rfl rfl)
theorem dJ0_min_5 : decode cJ0_min 5 = .ok (.iload_n 0, 1) := dk_26 (dk_at dksJ0_min_0 5 rfl rfl)
theorem dJ0_min_6 : decode cJ0_min 6 = .ok (.goto 4, 3) := dk_167 0 4 (dk_at dksJ0_min_0 6 rfl rfl)
theorem dJ0_min_9 : decode cJ0_min 9 = .ok (.iload_n 1, 1) := dk_27 (dk_at dksJ0_min_0 9 rfl rfl)
theorem dJ0_min_10 : decode cJ0_min 10 = .ok (.ireturn, 1) := dk_172 (dk_at dksJ0_min_0 10 rfl rfl)
abbrev cJ0_max : ByteArray := prog_16_method_65_code
def yJ0_max : MethodName := ⟨RJ0, "max", "(II)I"⟩
def dkwJ0_max_0 : List UInt8 := [26, 27, 161, 0, 7, 26, 167, 0, 4, 27, 172]
abbrev dktJ0_max_0 : List UInt8 := dkwJ0_max_0 ++ []
theorem dksJ0_max_0 : cJ0_max.data.toList.drop 0 = dktJ0_max_0 := by decide +kernel
theorem dJ0_max_0 : decode cJ0_max 0 = .ok (.iload_n 0, 1) := dk_26 (dk_at dksJ0_max_0 0 rfl rfl)
theorem dJ0_max_1 : decode cJ0_max 1 = .ok (.iload_n 1, 1) := dk_27 (dk_at dksJ0_max_0 1 rfl rfl)
theorem dJ0_max_2 : decode cJ0_max 2 = .ok (.if_icmp .lt 7, 3) := dk_161 0 7 (dk_at dksJ0_max_0 2 rfl rfl)
theorem dJ0_max_5 : decode cJ0_max 5 = .ok (.iload_n 0, 1) := dk_26 (dk_at dksJ0_max_0 5 rfl rfl)
theorem dJ0_max_6 : decode cJ0_max 6 = .ok (.goto 4, 3) := dk_167 0 4 (dk_at dksJ0_max_0 6 rfl rfl)
theorem dJ0_max_9 : decode cJ0_max 9 = .ok (.iload_n 1, 1) := dk_27 (dk_at dksJ0_max_0 9 rfl rfl)
theorem dJ0_max_10 : decode cJ0_max 10 = .ok (.ireturn, 1) := dk_172 (dk_at dksJ0_max_0 10 rfl rfl)
abbrev cJ0_abs : ByteArray := prog_16_method_61_code
def yJ0_abs : MethodName := ⟨RJ0, "abs", "(J)J"⟩
def dkwJ0_abs_0 : List UInt8 := [30, 9, 148, 156, 0, 8, 30, 117, 167, 0, 4, 30, 173]
abbrev dktJ0_abs_0 : List UInt8 := dkwJ0_abs_0 ++ []
theorem dksJ0_abs_0 : cJ0_abs.data.toList.drop 0 = dktJ0_abs_0 := by decide +kernel
theorem dJ0_abs_0 : decode cJ0_abs 0 = .ok (.lload_n 0, 1) := dk_30 (dk_at dksJ0_abs_0 0 rfl rfl)
theorem dJ0_abs_1 : decode cJ0_abs 1 = .ok (.lconst 0, 1) := dk_9 (dk_at dksJ0_abs_0 1 rfl rfl)
theorem dJ0_abs_2 : decode cJ0_abs 2 = .ok (.lcmp, 1) := dk_148 (dk_at dksJ0_abs_0 2 rfl rfl)
theorem dJ0_abs_3 : decode cJ0_abs 3 = .ok (.ifCond .ge 8, 3) := dk_156 0 8 (dk_at dksJ0_abs_0 3 rfl rfl)
theorem dJ0_abs_6 : decode cJ0_abs 6 = .ok (.lload_n 0, 1) := dk_30 (dk_at dksJ0_abs_0 6 rfl rfl)
theorem dJ0_abs_7 : decode cJ0_abs 7 = .ok (.lneg, 1) := dk_117 (dk_at dksJ0_abs_0 7 rfl rfl)
theorem dJ0_abs_8 : decode cJ0_abs 8 = .ok (.goto 4, 3) := dk_167 0 4 (dk_at dksJ0_abs_0 8 rfl rfl)
theorem dJ0_abs_11 : decode cJ0_abs 11 = .ok (.lload_n 0, 1) := dk_30 (dk_at dksJ0_abs_0 11 rfl rfl)
theorem dJ0_abs_12 : decode cJ0_abs 12 = .ok (.lreturn, 1) := dk_173 (dk_at dksJ0_abs_0 12 rfl rfl)
theorem q90 : (Jvm.Cond.initialized "java/lang/Math") ∈ lw_all := lw_g (lw_at lw_m1 6 rfl) rfl
theorem q394 : (Jvm.Cond.static ({ cls := "java/lang/Math", name := "min", desc := "(II)I" } : Jvm.MethodName)) ∈ lw_all := lw_g (lw_at lw_m2 70 rfl) rfl
theorem q395 : (Jvm.Cond.code ({ cls := "java/lang/Math", name := "min", desc := "(II)I" } : Jvm.MethodName) prog_16_method_69_code (2 : Nat) (Option.some Jvm.ClassFile.FieldType.int)) ∈ lw_all := lw_g (lw_at lw_m2 71 rfl) rfl
theorem q535 : (Jvm.Cond.static ({ cls := "java/lang/Math", name := "max", desc := "(II)I" } : Jvm.MethodName)) ∈ lw_all := lw_g (lw_at lw_m2 211 rfl) rfl
theorem q536 : (Jvm.Cond.code ({ cls := "java/lang/Math", name := "max", desc := "(II)I" } : Jvm.MethodName) prog_16_method_65_code (2 : Nat) (Option.some Jvm.ClassFile.FieldType.int)) ∈ lw_all := lw_g (lw_at lw_m2 212 rfl) rfl
theorem q873 : (Jvm.Cond.static ({ cls := "java/lang/Math", name := "abs", desc := "(J)J" } : Jvm.MethodName)) ∈ lw_all := lw_g (lw_at lw_m4 69 rfl) rfl
theorem q874 : (Jvm.Cond.code ({ cls := "java/lang/Math", name := "abs", desc := "(J)J" } : Jvm.MethodName) prog_16_method_61_code (2 : Nat) (Option.some Jvm.ClassFile.FieldType.long)) ∈ lw_all := lw_g (lw_at lw_m4 70 rfl) rfl

/-! java/lang/Integer -/
set_option maxRecDepth 100000
def RJ3 : String := "java/lang/Integer"
abbrev cJ3_bitCount : ByteArray := prog_15_method_49_code
def yJ3_bitCount : MethodName := ⟨RJ3, "bitCount", "(I)I"⟩
def dkwJ3_bitCount_2 : List UInt8 := [26, 16, 63, 126, 172]
abbrev dktJ3_bitCount_2 : List UInt8 := dkwJ3_bitCount_2 ++ []
def dkwJ3_bitCount_1 : List UInt8 := [26, 26, 7, 124, 96, 19, 1, 11, 126, 59, 26, 26, 16, 8, 124, 96, 59, 26, 26, 16, 16, 124, 96, 59]
abbrev dktJ3_bitCount_1 : List UInt8 := dkwJ3_bitCount_1 ++ dktJ3_bitCount_2
def dkwJ3_bitCount_0 : List UInt8 := [26, 26, 4, 124, 19, 1, 9, 126, 100, 59, 26, 19, 1, 10, 126, 26, 5, 124, 19, 1, 10, 126, 96, 59]
abbrev dktJ3_bitCount_0 : List UInt8 := dkwJ3_bitCount_0 ++ dktJ3_bitCount_1
theorem dksJ3_bitCount_0 : cJ3_bitCount.data.toList.drop 0 = dktJ3_bitCount_0 := by decide +kernel
theorem dksJ3_bitCount_1 : cJ3_bitCount.data.toList.drop 24 = dktJ3_bitCount_1 := dk_seg dksJ3_bitCount_0 24 rfl rfl
theorem dksJ3_bitCount_2 : cJ3_bitCount.data.toList.drop 48 = dktJ3_bitCount_2 := dk_seg dksJ3_bitCount_1 24 rfl rfl
theorem dJ3_bitCount_0 : decode cJ3_bitCount 0 = .ok (.iload_n 0, 1) := dk_26 (dk_at dksJ3_bitCount_0 0 rfl rfl)
theorem dJ3_bitCount_1 : decode cJ3_bitCount 1 = .ok (.iload_n 0, 1) := dk_26 (dk_at dksJ3_bitCount_0 1 rfl rfl)
theorem dJ3_bitCount_2 : decode cJ3_bitCount 2 = .ok (.iconst 1, 1) := dk_4 (dk_at dksJ3_bitCount_0 2 rfl rfl)
theorem dJ3_bitCount_3 : decode cJ3_bitCount 3 = .ok (.iushr, 1) := dk_124 (dk_at dksJ3_bitCount_0 3 rfl rfl)
theorem dJ3_bitCount_4 : decode cJ3_bitCount 4 = .ok (.ldc_w 265, 3) := dk_19 1 9 (dk_at dksJ3_bitCount_0 4 rfl rfl)
theorem dJ3_bitCount_7 : decode cJ3_bitCount 7 = .ok (.iand, 1) := dk_126 (dk_at dksJ3_bitCount_0 7 rfl rfl)
theorem dJ3_bitCount_8 : decode cJ3_bitCount 8 = .ok (.isub, 1) := dk_100 (dk_at dksJ3_bitCount_0 8 rfl rfl)
theorem dJ3_bitCount_9 : decode cJ3_bitCount 9 = .ok (.istore_n 0, 1) := dk_59 (dk_at dksJ3_bitCount_0 9 rfl rfl)
theorem dJ3_bitCount_10 : decode cJ3_bitCount 10 = .ok (.iload_n 0, 1) := dk_26 (dk_at dksJ3_bitCount_0 10 rfl rfl)
theorem dJ3_bitCount_11 : decode cJ3_bitCount 11 = .ok (.ldc_w 266, 3) := dk_19 1 10 (dk_at dksJ3_bitCount_0 11 rfl rfl)
theorem dJ3_bitCount_14 : decode cJ3_bitCount 14 = .ok (.iand, 1) := dk_126 (dk_at dksJ3_bitCount_0 14 rfl rfl)
theorem dJ3_bitCount_15 : decode cJ3_bitCount 15 = .ok (.iload_n 0, 1) := dk_26 (dk_at dksJ3_bitCount_0 15 rfl rfl)
theorem dJ3_bitCount_16 : decode cJ3_bitCount 16 = .ok (.iconst 2, 1) := dk_5 (dk_at dksJ3_bitCount_0 16 rfl rfl)
theorem dJ3_bitCount_17 : decode cJ3_bitCount 17 = .ok (.iushr, 1) := dk_124 (dk_at dksJ3_bitCount_0 17 rfl rfl)
theorem dJ3_bitCount_18 : decode cJ3_bitCount 18 = .ok (.ldc_w 266, 3) := dk_19 1 10 (dk_at dksJ3_bitCount_0 18 rfl rfl)
theorem dJ3_bitCount_21 : decode cJ3_bitCount 21 = .ok (.iand, 1) := dk_126 (dk_at dksJ3_bitCount_0 21 rfl rfl)
theorem dJ3_bitCount_22 : decode cJ3_bitCount 22 = .ok (.iadd, 1) := dk_96 (dk_at dksJ3_bitCount_0 22 rfl rfl)
theorem dJ3_bitCount_23 : decode cJ3_bitCount 23 = .ok (.istore_n 0, 1) := dk_59 (dk_at dksJ3_bitCount_0 23 rfl rfl)
theorem dJ3_bitCount_24 : decode cJ3_bitCount 24 = .ok (.iload_n 0, 1) := dk_26 (dk_at dksJ3_bitCount_1 0 rfl rfl)
theorem dJ3_bitCount_25 : decode cJ3_bitCount 25 = .ok (.iload_n 0, 1) := dk_26 (dk_at dksJ3_bitCount_1 1 rfl rfl)
theorem dJ3_bitCount_26 : decode cJ3_bitCount 26 = .ok (.iconst 4, 1) := dk_7 (dk_at dksJ3_bitCount_1 2 rfl rfl)
theorem dJ3_bitCount_27 : decode cJ3_bitCount 27 = .ok (.iushr, 1) := dk_124 (dk_at dksJ3_bitCount_1 3 rfl rfl)
theorem dJ3_bitCount_28 : decode cJ3_bitCount 28 = .ok (.iadd, 1) := dk_96 (dk_at dksJ3_bitCount_1 4 rfl rfl)
theorem dJ3_bitCount_29 : decode cJ3_bitCount 29 = .ok (.ldc_w 267, 3) := dk_19 1 11 (dk_at dksJ3_bitCount_1 5 rfl rfl)
theorem dJ3_bitCount_32 : decode cJ3_bitCount 32 = .ok (.iand, 1) := dk_126 (dk_at dksJ3_bitCount_1 8 rfl rfl)
theorem dJ3_bitCount_33 : decode cJ3_bitCount 33 = .ok (.istore_n 0, 1) := dk_59 (dk_at dksJ3_bitCount_1 9 rfl rfl)
theorem dJ3_bitCount_34 : decode cJ3_bitCount 34 = .ok (.iload_n 0, 1) := dk_26 (dk_at dksJ3_bitCount_1 10 rfl rfl)
theorem dJ3_bitCount_35 : decode cJ3_bitCount 35 = .ok (.iload_n 0, 1) := dk_26 (dk_at dksJ3_bitCount_1 11 rfl rfl)
theorem dJ3_bitCount_36 : decode cJ3_bitCount 36 = .ok (.bipush 8, 2) := dk_16 8 (dk_at dksJ3_bitCount_1 12 rfl rfl)
theorem dJ3_bitCount_38 : decode cJ3_bitCount 38 = .ok (.iushr, 1) := dk_124 (dk_at dksJ3_bitCount_1 14 rfl rfl)
theorem dJ3_bitCount_39 : decode cJ3_bitCount 39 = .ok (.iadd, 1) := dk_96 (dk_at dksJ3_bitCount_1 15 rfl rfl)
theorem dJ3_bitCount_40 : decode cJ3_bitCount 40 = .ok (.istore_n 0, 1) := dk_59 (dk_at dksJ3_bitCount_1 16 rfl rfl)
theorem dJ3_bitCount_41 : decode cJ3_bitCount 41 = .ok (.iload_n 0, 1) := dk_26 (dk_at dksJ3_bitCount_1 17 rfl rfl)
theorem dJ3_bitCount_42 : decode cJ3_bitCount 42 = .ok (.iload_n 0, 1) := dk_26 (dk_at dksJ3_bitCount_1 18 rfl rfl)
theorem dJ3_bitCount_43 : decode cJ3_bitCount 43 = .ok (.bipush 16, 2) := dk_16 16 (dk_at dksJ3_bitCount_1 19 rfl rfl)
theorem dJ3_bitCount_45 : decode cJ3_bitCount 45 = .ok (.iushr, 1) := dk_124 (dk_at dksJ3_bitCount_1 21 rfl rfl)
theorem dJ3_bitCount_46 : decode cJ3_bitCount 46 = .ok (.iadd, 1) := dk_96 (dk_at dksJ3_bitCount_1 22 rfl rfl)
theorem dJ3_bitCount_47 : decode cJ3_bitCount 47 = .ok (.istore_n 0, 1) := dk_59 (dk_at dksJ3_bitCount_1 23 rfl rfl)
theorem dJ3_bitCount_48 : decode cJ3_bitCount 48 = .ok (.iload_n 0, 1) := dk_26 (dk_at dksJ3_bitCount_2 0 rfl rfl)
theorem dJ3_bitCount_49 : decode cJ3_bitCount 49 = .ok (.bipush 63, 2) := dk_16 63 (dk_at dksJ3_bitCount_2 1 rfl rfl)
theorem dJ3_bitCount_51 : decode cJ3_bitCount 51 = .ok (.iand, 1) := dk_126 (dk_at dksJ3_bitCount_2 3 rfl rfl)
theorem dJ3_bitCount_52 : decode cJ3_bitCount 52 = .ok (.ireturn, 1) := dk_172 (dk_at dksJ3_bitCount_2 4 rfl rfl)
theorem q101 : (Jvm.Cond.initialized "java/lang/Integer") ∈ lw_all := lw_g (lw_at lw_m1 17 rfl) rfl
theorem q856 : (Jvm.Cond.static ({ cls := "java/lang/Integer", name := "bitCount", desc := "(I)I" } : Jvm.MethodName)) ∈ lw_all := lw_g (lw_at lw_m4 52 rfl) rfl
theorem q857 : (Jvm.Cond.code ({ cls := "java/lang/Integer", name := "bitCount", desc := "(I)I" } : Jvm.MethodName) prog_15_method_49_code (1 : Nat) (Option.some Jvm.ClassFile.FieldType.int)) ∈ lw_all := lw_g (lw_at lw_m4 53 rfl) rfl
theorem q858 : (Jvm.Cond.constant "java/lang/Integer" (265 : Nat) (1431655765 : Int32)) ∈ lw_all := lw_g (lw_at lw_m4 54 rfl) rfl
theorem q859 : (Jvm.Cond.constant "java/lang/Integer" (266 : Nat) (858993459 : Int32)) ∈ lw_all := lw_g (lw_at lw_m4 55 rfl) rfl
theorem q860 : (Jvm.Cond.constant "java/lang/Integer" (267 : Nat) (252645135 : Int32)) ∈ lw_all := lw_g (lw_at lw_m4 56 rfl) rfl

/-! java/lang/Object -/
set_option maxRecDepth 100000
def RJ4 : String := "java/lang/Object"
abbrev cJ4_init : ByteArray := object_method_1_code
def yJ4_init : MethodName := ⟨RJ4, "<init>", "()V"⟩
theorem dJ4_init_0 : decode cJ4_init 0 = .ok (.return_, 1) := by decide +kernel
theorem q108 : (Jvm.Cond.instanceMethod ({ cls := "java/lang/Object", name := "<init>", desc := "()V" } : Jvm.MethodName)) ∈ lw_all := lw_g (lw_at lw_m1 24 rfl) rfl
theorem q109 : (Jvm.Cond.code ({ cls := "java/lang/Object", name := "<init>", desc := "()V" } : Jvm.MethodName) object_method_1_code (1 : Nat) (Option.none : Option Jvm.ClassFile.FieldType)) ∈ lw_all := lw_g (lw_at lw_m1 25 rfl) rfl

/-! java/lang/Throwable -/
set_option maxRecDepth 100000
def RJ1 : String := "java/lang/Throwable"
def TJ1 : u_T := fun k => match k with
  | 0 => ("java/lang/Throwable", "cause", "Ljava/lang/Throwable;", false)
  | 1 => ("java/lang/Throwable", "stackTrace", "[Ljava/lang/StackTraceElement;", false)
  | 2 => ("java/lang/Throwable", "suppressedExceptions", "Ljava/util/List;", false)
  | 3 => ("java/lang/Throwable", "detailMessage", "Ljava/lang/String;", false)
  | _ => ("java/lang/Throwable", "backtrace", "Ljava/lang/Object;", false)
def tyJ1 : Nat → FieldType := fun k => match k with
  | 0 => .object "java/lang/Throwable"
  | 1 => .array (.object "java/lang/StackTraceElement")
  | 2 => .object "java/util/List"
  | 3 => .object "java/lang/String"
  | _ => .object "java/lang/Object"
abbrev wsJ10 : List Cond := u_ws RJ1 TJ1 5
theorem nmJ1 : ∀ a, a < 5 → ∀ b, b < 5 → a ≠ b → (TJ1 a).2.1 ≠ (TJ1 b).2.1 := by decide +kernel
theorem tyJ1_ok : ∀ k, k < 5 → parseFieldDescriptor (TJ1 k).2.2.1 = some (tyJ1 k) := by decide +kernel
abbrev cJ1_init : ByteArray := prog_18_method_1_code
def yJ1_init : MethodName := ⟨RJ1, "<init>", "()V"⟩
def dkwJ1_init_1 : List UInt8 := [182, 0, 27, 87, 177]
abbrev dktJ1_init_1 : List UInt8 := dkwJ1_init_1 ++ []
def dkwJ1_init_0 : List UInt8 := [42, 183, 0, 1, 42, 42, 181, 0, 7, 42, 178, 0, 13, 181, 0, 17, 42, 178, 0, 20, 181, 0, 24, 42]
abbrev dktJ1_init_0 : List UInt8 := dkwJ1_init_0 ++ dktJ1_init_1
theorem dksJ1_init_0 : cJ1_init.data.toList.drop 0 = dktJ1_init_0 := by decide +kernel
theorem dksJ1_init_1 : cJ1_init.data.toList.drop 24 = dktJ1_init_1 := dk_seg dksJ1_init_0 24 rfl rfl
theorem dJ1_init_0 : decode cJ1_init 0 = .ok (.aload_n 0, 1) := dk_42 (dk_at dksJ1_init_0 0 rfl rfl)
theorem dJ1_init_1 : decode cJ1_init 1 = .ok (.invokespecial 1, 3) := dk_183 0 1 (dk_at dksJ1_init_0 1 rfl rfl)
theorem dJ1_init_4 : decode cJ1_init 4 = .ok (.aload_n 0, 1) := dk_42 (dk_at dksJ1_init_0 4 rfl rfl)
theorem dJ1_init_5 : decode cJ1_init 5 = .ok (.aload_n 0, 1) := dk_42 (dk_at dksJ1_init_0 5 rfl rfl)
theorem dJ1_init_6 : decode cJ1_init 6 = .ok (.putfield 7, 3) := dk_181 0 7 (dk_at dksJ1_init_0 6 rfl rfl)
theorem dJ1_init_9 : decode cJ1_init 9 = .ok (.aload_n 0, 1) := dk_42 (dk_at dksJ1_init_0 9 rfl rfl)
theorem dJ1_init_10 : decode cJ1_init 10 = .ok (.getstatic 13, 3) := dk_178 0 13 (dk_at dksJ1_init_0 10 rfl rfl)
theorem dJ1_init_13 : decode cJ1_init 13 = .ok (.putfield 17, 3) := dk_181 0 17 (dk_at dksJ1_init_0 13 rfl rfl)
theorem dJ1_init_16 : decode cJ1_init 16 = .ok (.aload_n 0, 1) := dk_42 (dk_at dksJ1_init_0 16 rfl rfl)
theorem dJ1_init_17 : decode cJ1_init 17 = .ok (.getstatic 20, 3) := dk_178 0 20 (dk_at dksJ1_init_0 17 rfl rfl)
theorem dJ1_init_20 : decode cJ1_init 20 = .ok (.putfield 24, 3) := dk_181 0 24 (dk_at dksJ1_init_0 20 rfl rfl)
theorem dJ1_init_23 : decode cJ1_init 23 = .ok (.aload_n 0, 1) := dk_42 (dk_at dksJ1_init_0 23 rfl rfl)
theorem dJ1_init_24 : decode cJ1_init 24 = .ok (.invokevirtual 27, 3) := dk_182 0 27 (dk_at dksJ1_init_1 0 rfl rfl)
theorem dJ1_init_27 : decode cJ1_init 27 = .ok (.pop, 1) := dk_87 (dk_at dksJ1_init_1 3 rfl rfl)
theorem dJ1_init_28 : decode cJ1_init 28 = .ok (.return_, 1) := dk_177 (dk_at dksJ1_init_1 4 rfl rfl)
abbrev cJ1_init_2 : ByteArray := prog_18_method_3_code
def yJ1_init_2 : MethodName := ⟨RJ1, "<init>", "(Ljava/lang/String;Ljava/lang/Throwable;)V"⟩
def dkwJ1_init_2_1 : List UInt8 := [182, 0, 27, 87, 42, 43, 181, 0, 31, 42, 44, 181, 0, 7, 177]
abbrev dktJ1_init_2_1 : List UInt8 := dkwJ1_init_2_1 ++ []
def dkwJ1_init_2_0 : List UInt8 := [42, 183, 0, 1, 42, 42, 181, 0, 7, 42, 178, 0, 13, 181, 0, 17, 42, 178, 0, 20, 181, 0, 24, 42]
abbrev dktJ1_init_2_0 : List UInt8 := dkwJ1_init_2_0 ++ dktJ1_init_2_1
theorem dksJ1_init_2_0 : cJ1_init_2.data.toList.drop 0 = dktJ1_init_2_0 := by decide +kernel
theorem dksJ1_init_2_1 : cJ1_init_2.data.toList.drop 24 = dktJ1_init_2_1 := dk_seg dksJ1_init_2_0 24 rfl rfl
theorem dJ1_init_2_0 : decode cJ1_init_2 0 = .ok (.aload_n 0, 1) := dk_42 (dk_at dksJ1_init_2_0 0 rfl rfl)
theorem dJ1_init_2_1 : decode cJ1_init_2 1 = .ok (.invokespecial 1, 3) := dk_183 0 1 (dk_at dksJ1_init_2_0 1 rfl rfl)
theorem dJ1_init_2_4 : decode cJ1_init_2 4 = .ok (.aload_n 0, 1) := dk_42 (dk_at dksJ1_init_2_0 4 rfl rfl)
theorem dJ1_init_2_5 : decode cJ1_init_2 5 = .ok (.aload_n 0, 1) := dk_42 (dk_at dksJ1_init_2_0 5 rfl rfl)
theorem dJ1_init_2_6 : decode cJ1_init_2 6 = .ok (.putfield 7, 3) := dk_181 0 7 (dk_at dksJ1_init_2_0 6 rfl rfl)
theorem dJ1_init_2_9 : decode cJ1_init_2 9 = .ok (.aload_n 0, 1) := dk_42 (dk_at dksJ1_init_2_0 9 rfl rfl)
theorem dJ1_init_2_10 : decode cJ1_init_2 10 = .ok (.getstatic 13, 3) := dk_178 0 13 (dk_at dksJ1_init_2_0 10 rfl rfl)
theorem dJ1_init_2_13 : decode cJ1_init_2 13 = .ok (.putfield 17, 3) := dk_181 0 17 (dk_at dksJ1_init_2_0 13 rfl rfl)
theorem dJ1_init_2_16 : decode cJ1_init_2 16 = .ok (.aload_n 0, 1) := dk_42 (dk_at dksJ1_init_2_0 16 rfl rfl)
theorem dJ1_init_2_17 : decode cJ1_init_2 17 = .ok (.getstatic 20, 3) := dk_178 0 20 (dk_at dksJ1_init_2_0 17 rfl rfl)
theorem dJ1_init_2_20 : decode cJ1_init_2 20 = .ok (.putfield 24, 3) := dk_181 0 24 (dk_at dksJ1_init_2_0 20 rfl rfl)
theorem dJ1_init_2_23 : decode cJ1_init_2 23 = .ok (.aload_n 0, 1) := dk_42 (dk_at dksJ1_init_2_0 23 rfl rfl)
theorem dJ1_init_2_24 : decode cJ1_init_2 24 = .ok (.invokevirtual 27, 3) := dk_182 0 27 (dk_at dksJ1_init_2_1 0 rfl rfl)
theorem dJ1_init_2_27 : decode cJ1_init_2 27 = .ok (.pop, 1) := dk_87 (dk_at dksJ1_init_2_1 3 rfl rfl)
theorem dJ1_init_2_28 : decode cJ1_init_2 28 = .ok (.aload_n 0, 1) := dk_42 (dk_at dksJ1_init_2_1 4 rfl rfl)
theorem dJ1_init_2_29 : decode cJ1_init_2 29 = .ok (.aload_n 1, 1) := dk_43 (dk_at dksJ1_init_2_1 5 rfl rfl)
theorem dJ1_init_2_30 : decode cJ1_init_2 30 = .ok (.putfield 31, 3) := dk_181 0 31 (dk_at dksJ1_init_2_1 6 rfl rfl)
theorem dJ1_init_2_33 : decode cJ1_init_2 33 = .ok (.aload_n 0, 1) := dk_42 (dk_at dksJ1_init_2_1 9 rfl rfl)
theorem dJ1_init_2_34 : decode cJ1_init_2 34 = .ok (.aload_n 2, 1) := dk_44 (dk_at dksJ1_init_2_1 10 rfl rfl)
theorem dJ1_init_2_35 : decode cJ1_init_2 35 = .ok (.putfield 7, 3) := dk_181 0 7 (dk_at dksJ1_init_2_1 11 rfl rfl)
theorem dJ1_init_2_38 : decode cJ1_init_2 38 = .ok (.return_, 1) := dk_177 (dk_at dksJ1_init_2_1 14 rfl rfl)
theorem q91 : (Jvm.Cond.initialized "java/lang/Throwable") ∈ lw_all := lw_g (lw_at lw_m1 7 rfl) rfl
theorem q579 : (Jvm.Cond.declares ({ cls := "java/lang/Throwable", name := "<init>", desc := "()V" } : Jvm.MethodName)) ∈ lw_tbl := lw_at lw_m3 15 rfl
theorem q580 : (Jvm.Cond.declares ({ cls := "java/lang/Throwable", name := "<init>", desc := "(Ljava/lang/String;)V" } : Jvm.MethodName)) ∈ lw_tbl := lw_at lw_m3 16 rfl
theorem q584 : (Jvm.Cond.lays "java/lang/Throwable" "java/lang/Throwable" "cause" "Ljava/lang/Throwable;") ∈ lw_all := lw_g (lw_at lw_m3 20 rfl) rfl
theorem q586 : (Jvm.Cond.lays "java/lang/Throwable" "java/lang/Throwable" "stackTrace" "[Ljava/lang/StackTraceElement;") ∈ lw_all := lw_g (lw_at lw_m3 22 rfl) rfl
theorem q588 : (Jvm.Cond.lays "java/lang/Throwable" "java/lang/Throwable" "suppressedExceptions" "Ljava/util/List;") ∈ lw_all := lw_g (lw_at lw_m3 24 rfl) rfl
theorem q590 : (Jvm.Cond.lays "java/lang/Throwable" "java/lang/Throwable" "detailMessage" "Ljava/lang/String;") ∈ lw_all := lw_g (lw_at lw_m3 26 rfl) rfl
theorem q592 : (Jvm.Cond.lays "java/lang/Throwable" "java/lang/Throwable" "backtrace" "Ljava/lang/Object;") ∈ lw_all := lw_g (lw_at lw_m3 28 rfl) rfl
theorem q593 : (Jvm.Cond.fieldLink "java/lang/Throwable" (198 : Nat) "java/lang/Throwable" "backtrace" "Ljava/lang/Object;") ∈ lw_all := lw_g (lw_at lw_m3 29 rfl) rfl
theorem q594 : (Jvm.Cond.superclass "java/lang/Throwable" "java/lang/Object") ∈ lw_all := lw_g (lw_at lw_m3 30 rfl) rfl
theorem q595 : (Jvm.Cond.instanceMethod ({ cls := "java/lang/Throwable", name := "<init>", desc := "()V" } : Jvm.MethodName)) ∈ lw_all := lw_g (lw_at lw_m3 31 rfl) rfl
theorem q596 : (Jvm.Cond.code ({ cls := "java/lang/Throwable", name := "<init>", desc := "()V" } : Jvm.MethodName) prog_18_method_1_code (1 : Nat) (Option.none : Option Jvm.ClassFile.FieldType)) ∈ lw_all := lw_g (lw_at lw_m3 32 rfl) rfl
theorem q597 : (Jvm.Cond.methodLink "java/lang/Throwable" (1 : Nat) ({ cls := "java/lang/Object", name := "<init>", desc := "()V" } : Jvm.MethodName)) ∈ lw_all := lw_g (lw_at lw_m3 33 rfl) rfl
theorem q598 : (Jvm.Cond.fieldLink "java/lang/Throwable" (13 : Nat) "java/lang/Throwable" "UNASSIGNED_STACK" "[Ljava/lang/StackTraceElement;") ∈ lw_all := lw_g (lw_at lw_m3 34 rfl) rfl
theorem q599 : (Jvm.Cond.laysStatic "java/lang/Throwable" "UNASSIGNED_STACK" "[Ljava/lang/StackTraceElement;") ∈ lw_tbl := lw_at lw_m3 35 rfl
theorem q600 : (Jvm.Cond.fieldLink "java/lang/Throwable" (20 : Nat) "java/lang/Throwable" "SUPPRESSED_SENTINEL" "Ljava/util/List;") ∈ lw_all := lw_g (lw_at lw_m3 36 rfl) rfl
theorem q601 : (Jvm.Cond.laysStatic "java/lang/Throwable" "SUPPRESSED_SENTINEL" "Ljava/util/List;") ∈ lw_tbl := lw_at lw_m3 37 rfl
theorem q602 : (Jvm.Cond.methodLink "java/lang/Throwable" (27 : Nat) ({ cls := "java/lang/Throwable", name := "fillInStackTrace", desc := "()Ljava/lang/Throwable;" } : Jvm.MethodName)) ∈ lw_all := lw_g (lw_at lw_m3 38 rfl) rfl
theorem q603 : (Jvm.Cond.instanceMethod ({ cls := "java/lang/Throwable", name := "fillInStackTrace", desc := "()Ljava/lang/Throwable;" } : Jvm.MethodName)) ∈ lw_all := lw_g (lw_at lw_m3 39 rfl) rfl
theorem q604 : (Jvm.Cond.sameMethod "java/lang/Throwable" "java/lang/Throwable" "fillInStackTrace" "()Ljava/lang/Throwable;") ∈ lw_all := lw_g (lw_at lw_m3 40 rfl) rfl
theorem q611 : (Jvm.Cond.codeSync ({ cls := "java/lang/Throwable", name := "fillInStackTrace", desc := "()Ljava/lang/Throwable;" } : Jvm.MethodName) prog_18_method_18_code (1 : Nat) (Option.some (Jvm.ClassFile.FieldType.object "java/lang/Throwable"))) ∈ lw_all := lw_g (lw_at lw_m3 47 rfl) rfl
theorem q612 : (Jvm.Cond.methodLink "java/lang/Throwable" (202 : Nat) ({ cls := "java/lang/Throwable", name := "fillInStackTrace", desc := "(I)Ljava/lang/Throwable;" } : Jvm.MethodName)) ∈ lw_all := lw_g (lw_at lw_m3 48 rfl) rfl
theorem q613 : (Jvm.Cond.privateMethod ({ cls := "java/lang/Throwable", name := "fillInStackTrace", desc := "(I)Ljava/lang/Throwable;" } : Jvm.MethodName)) ∈ lw_tbl := lw_at lw_m3 49 rfl
theorem q614 : (Jvm.Cond.instanceMethod ({ cls := "java/lang/Throwable", name := "fillInStackTrace", desc := "(I)Ljava/lang/Throwable;" } : Jvm.MethodName)) ∈ lw_all := lw_g (lw_at lw_m3 50 rfl) rfl
theorem q615 : (Jvm.Cond.instantiable "java/lang/Throwable" (6 : Nat)) ∈ lw_all := lw_g (lw_at lw_m3 51 rfl) rfl
theorem q616 : (Jvm.Cond.native ({ cls := "java/lang/Throwable", name := "fillInStackTrace", desc := "(I)Ljava/lang/Throwable;" } : Jvm.MethodName)) ∈ lw_all := lw_g (lw_at lw_m3 52 rfl) rfl
theorem q627 : (Jvm.Cond.instanceMethod ({ cls := "java/lang/Throwable", name := "<init>", desc := "(Ljava/lang/String;Ljava/lang/Throwable;)V" } : Jvm.MethodName)) ∈ lw_all := lw_g (lw_at lw_m3 63 rfl) rfl
theorem q628 : (Jvm.Cond.code ({ cls := "java/lang/Throwable", name := "<init>", desc := "(Ljava/lang/String;Ljava/lang/Throwable;)V" } : Jvm.MethodName) prog_18_method_3_code (3 : Nat) (Option.none : Option Jvm.ClassFile.FieldType)) ∈ lw_all := lw_g (lw_at lw_m3 64 rfl) rfl
theorem q630 : (Jvm.Cond.fieldLink "java/lang/Throwable" (198 : Nat) "java/lang/Throwable" "backtrace" "Ljava/lang/Object;") ∈ lw_all := lw_g (lw_at lw_m3 66 rfl) rfl
theorem q631 : (Jvm.Cond.fieldLink "java/lang/Throwable" (31 : Nat) "java/lang/Throwable" "detailMessage" "Ljava/lang/String;") ∈ lw_all := lw_g (lw_at lw_m3 67 rfl) rfl
theorem q632 : (Jvm.Cond.fieldLink "java/lang/Throwable" (7 : Nat) "java/lang/Throwable" "cause" "Ljava/lang/Throwable;") ∈ lw_all := lw_g (lw_at lw_m3 68 rfl) rfl
theorem q633 : (Jvm.Cond.fieldLink "java/lang/Throwable" (17 : Nat) "java/lang/Throwable" "stackTrace" "[Ljava/lang/StackTraceElement;") ∈ lw_all := lw_g (lw_at lw_m3 69 rfl) rfl
theorem q634 : (Jvm.Cond.fieldLink "java/lang/Throwable" (24 : Nat) "java/lang/Throwable" "suppressedExceptions" "Ljava/util/List;") ∈ lw_all := lw_g (lw_at lw_m3 70 rfl) rfl
theorem q637 : (Jvm.Cond.soleField "java/lang/Throwable" "backtrace") ∈ lw_all := lw_g (lw_at lw_m3 73 rfl) rfl
theorem q638 : (Jvm.Cond.soleField "java/lang/Throwable" "detailMessage") ∈ lw_all := lw_g (lw_at lw_m3 74 rfl) rfl
theorem q639 : (Jvm.Cond.soleField "java/lang/Throwable" "cause") ∈ lw_all := lw_g (lw_at lw_m3 75 rfl) rfl
theorem q640 : (Jvm.Cond.soleField "java/lang/Throwable" "stackTrace") ∈ lw_all := lw_g (lw_at lw_m3 76 rfl) rfl
theorem q642 : (Jvm.Cond.soleField "java/lang/Throwable" "depth") ∈ lw_all := lw_g (lw_at lw_m3 78 rfl) rfl
theorem q643 : (Jvm.Cond.soleField "java/lang/Throwable" "suppressedExceptions") ∈ lw_all := lw_g (lw_at lw_m3 79 rfl) rfl
theorem q792 : (Jvm.Cond.declares ({ cls := "java/lang/Throwable", name := "getCause", desc := "()Ljava/lang/Throwable;" } : Jvm.MethodName)) ∈ lw_tbl := lw_at lw_m3 228 rfl
theorem q799 : (Jvm.Cond.instanceMethod ({ cls := "java/lang/Throwable", name := "getCause", desc := "()Ljava/lang/Throwable;" } : Jvm.MethodName)) ∈ lw_all := lw_g (lw_at lw_m3 235 rfl) rfl
theorem q800 : (Jvm.Cond.codeSync ({ cls := "java/lang/Throwable", name := "getCause", desc := "()Ljava/lang/Throwable;" } : Jvm.MethodName) prog_18_method_8_code (1 : Nat) (Option.some (Jvm.ClassFile.FieldType.object "java/lang/Throwable"))) ∈ lw_all := lw_g (lw_at lw_m3 236 rfl) rfl
theorem q1389 : (Jvm.Cond.sameMethod "java/lang/Throwable" "java/lang/Throwable" "fillInStackTrace" "(I)Ljava/lang/Throwable;") ∈ lw_all := lw_g (lw_at lw_m6 105 rfl) rfl
theorem in_J1 : ∀ w ∈ wsJ10, w ∈ lw_all := lw_in wsJ10 [584, 586, 588, 590, 592] (by decide +kernel) (by decide +kernel)

/-! java/lang/Exception -/
set_option maxRecDepth 100000
def RJ2 : String := "java/lang/Exception"
abbrev cJ2_init : ByteArray := prog_14_method_3_code
def yJ2_init : MethodName := ⟨RJ2, "<init>", "(Ljava/lang/String;Ljava/lang/Throwable;)V"⟩
def dkwJ2_init_0 : List UInt8 := [42, 43, 44, 183, 0, 10, 177]
abbrev dktJ2_init_0 : List UInt8 := dkwJ2_init_0 ++ []
theorem dksJ2_init_0 : cJ2_init.data.toList.drop 0 = dktJ2_init_0 := by decide +kernel
theorem dJ2_init_0 : decode cJ2_init 0 = .ok (.aload_n 0, 1) := dk_42 (dk_at dksJ2_init_0 0 rfl rfl)
theorem dJ2_init_1 : decode cJ2_init 1 = .ok (.aload_n 1, 1) := dk_43 (dk_at dksJ2_init_0 1 rfl rfl)
theorem dJ2_init_2 : decode cJ2_init 2 = .ok (.aload_n 2, 1) := dk_44 (dk_at dksJ2_init_0 2 rfl rfl)
theorem dJ2_init_3 : decode cJ2_init 3 = .ok (.invokespecial 10, 3) := dk_183 0 10 (dk_at dksJ2_init_0 3 rfl rfl)
theorem dJ2_init_6 : decode cJ2_init 6 = .ok (.return_, 1) := dk_177 (dk_at dksJ2_init_0 6 rfl rfl)
abbrev cJ2_init_2 : ByteArray := prog_14_method_1_code
def yJ2_init_2 : MethodName := ⟨RJ2, "<init>", "()V"⟩
theorem dJ2_init_2_0 : decode cJ2_init_2 0 = .ok (.aload_n 0, 1) := by decide +kernel
theorem dJ2_init_2_1 : decode cJ2_init_2 1 = .ok (.invokespecial 1, 3) := by decide +kernel
theorem dJ2_init_2_4 : decode cJ2_init_2 4 = .ok (.return_, 1) := by decide +kernel
theorem q92 : (Jvm.Cond.initialized "java/lang/Exception") ∈ lw_all := lw_g (lw_at lw_m1 8 rfl) rfl
theorem q577 : (Jvm.Cond.declares ({ cls := "java/lang/Exception", name := "<init>", desc := "()V" } : Jvm.MethodName)) ∈ lw_tbl := lw_at lw_m3 13 rfl
theorem q578 : (Jvm.Cond.declares ({ cls := "java/lang/Exception", name := "<init>", desc := "(Ljava/lang/String;)V" } : Jvm.MethodName)) ∈ lw_tbl := lw_at lw_m3 14 rfl
theorem q624 : (Jvm.Cond.instanceMethod ({ cls := "java/lang/Exception", name := "<init>", desc := "(Ljava/lang/String;Ljava/lang/Throwable;)V" } : Jvm.MethodName)) ∈ lw_all := lw_g (lw_at lw_m3 60 rfl) rfl
theorem q625 : (Jvm.Cond.code ({ cls := "java/lang/Exception", name := "<init>", desc := "(Ljava/lang/String;Ljava/lang/Throwable;)V" } : Jvm.MethodName) prog_14_method_3_code (3 : Nat) (Option.none : Option Jvm.ClassFile.FieldType)) ∈ lw_all := lw_g (lw_at lw_m3 61 rfl) rfl
theorem q626 : (Jvm.Cond.methodLink "java/lang/Exception" (10 : Nat) ({ cls := "java/lang/Throwable", name := "<init>", desc := "(Ljava/lang/String;Ljava/lang/Throwable;)V" } : Jvm.MethodName)) ∈ lw_all := lw_g (lw_at lw_m3 62 rfl) rfl
theorem q676 : (Jvm.Cond.instanceMethod ({ cls := "java/lang/Exception", name := "<init>", desc := "()V" } : Jvm.MethodName)) ∈ lw_all := lw_g (lw_at lw_m3 112 rfl) rfl
theorem q677 : (Jvm.Cond.code ({ cls := "java/lang/Exception", name := "<init>", desc := "()V" } : Jvm.MethodName) prog_14_method_1_code (1 : Nat) (Option.none : Option Jvm.ClassFile.FieldType)) ∈ lw_all := lw_g (lw_at lw_m3 113 rfl) rfl
theorem q678 : (Jvm.Cond.methodLink "java/lang/Exception" (1 : Nat) ({ cls := "java/lang/Throwable", name := "<init>", desc := "()V" } : Jvm.MethodName)) ∈ lw_all := lw_g (lw_at lw_m3 114 rfl) rfl

/-! BagPhrases$Misfit -/
set_option maxRecDepth 100000
def RX4 : String := "BagPhrases$Misfit"
abbrev cX4_init : ByteArray := prog_4_method_1_code
def yX4_init : MethodName := ⟨RX4, "<init>", "(ILjava/lang/Throwable;)V"⟩
def dkwX4_init_0 : List UInt8 := [42, 1, 44, 183, 0, 1, 42, 27, 181, 0, 7, 177]
abbrev dktX4_init_0 : List UInt8 := dkwX4_init_0 ++ []
theorem dksX4_init_0 : cX4_init.data.toList.drop 0 = dktX4_init_0 := by decide +kernel
theorem dX4_init_0 : decode cX4_init 0 = .ok (.aload_n 0, 1) := dk_42 (dk_at dksX4_init_0 0 rfl rfl)
theorem dX4_init_1 : decode cX4_init 1 = .ok (.aconst_null, 1) := dk_1 (dk_at dksX4_init_0 1 rfl rfl)
theorem dX4_init_2 : decode cX4_init 2 = .ok (.aload_n 2, 1) := dk_44 (dk_at dksX4_init_0 2 rfl rfl)
theorem dX4_init_3 : decode cX4_init 3 = .ok (.invokespecial 1, 3) := dk_183 0 1 (dk_at dksX4_init_0 3 rfl rfl)
theorem dX4_init_6 : decode cX4_init 6 = .ok (.aload_n 0, 1) := dk_42 (dk_at dksX4_init_0 6 rfl rfl)
theorem dX4_init_7 : decode cX4_init 7 = .ok (.iload_n 1, 1) := dk_27 (dk_at dksX4_init_0 7 rfl rfl)
theorem dX4_init_8 : decode cX4_init 8 = .ok (.putfield 7, 3) := dk_181 0 7 (dk_at dksX4_init_0 8 rfl rfl)
theorem dX4_init_11 : decode cX4_init 11 = .ok (.return_, 1) := dk_177 (dk_at dksX4_init_0 11 rfl rfl)
abbrev cX4_place : ByteArray := prog_4_method_2_code
def yX4_place : MethodName := ⟨RX4, "place", "()I"⟩
theorem dX4_place_0 : decode cX4_place 0 = .ok (.aload_n 0, 1) := by decide +kernel
theorem dX4_place_1 : decode cX4_place 1 = .ok (.getfield 7, 3) := by decide +kernel
theorem dX4_place_4 : decode cX4_place 4 = .ok (.ireturn, 1) := by decide +kernel
theorem q93 : (Jvm.Cond.initialized "BagPhrases$Misfit") ∈ lw_all := lw_g (lw_at lw_m1 9 rfl) rfl
theorem q621 : (Jvm.Cond.instanceMethod ({ cls := "BagPhrases$Misfit", name := "<init>", desc := "(ILjava/lang/Throwable;)V" } : Jvm.MethodName)) ∈ lw_all := lw_g (lw_at lw_m3 57 rfl) rfl
theorem q622 : (Jvm.Cond.code ({ cls := "BagPhrases$Misfit", name := "<init>", desc := "(ILjava/lang/Throwable;)V" } : Jvm.MethodName) prog_4_method_1_code (3 : Nat) (Option.none : Option Jvm.ClassFile.FieldType)) ∈ lw_all := lw_g (lw_at lw_m3 58 rfl) rfl
theorem q623 : (Jvm.Cond.methodLink "BagPhrases$Misfit" (1 : Nat) ({ cls := "java/lang/Exception", name := "<init>", desc := "(Ljava/lang/String;Ljava/lang/Throwable;)V" } : Jvm.MethodName)) ∈ lw_all := lw_g (lw_at lw_m3 59 rfl) rfl
theorem q629 : (Jvm.Cond.fieldLink "BagPhrases$Misfit" (7 : Nat) "BagPhrases$Misfit" "place" "I") ∈ lw_all := lw_g (lw_at lw_m3 65 rfl) rfl
theorem q636 : (Jvm.Cond.soleField "BagPhrases$Misfit" "place") ∈ lw_all := lw_g (lw_at lw_m3 72 rfl) rfl
theorem q760 : (Jvm.Cond.declares ({ cls := "BagPhrases$Misfit", name := "reason", desc := "()I" } : Jvm.MethodName)) ∈ lw_tbl := lw_at lw_m3 196 rfl
theorem q761 : (Jvm.Cond.sameMethod "BagPhrases$Misfit" "BagPhrases$Misfit" "reason" "()I") ∈ lw_all := lw_g (lw_at lw_m3 197 rfl) rfl
theorem q781 : (Jvm.Cond.instanceMethod ({ cls := "BagPhrases$Misfit", name := "place", desc := "()I" } : Jvm.MethodName)) ∈ lw_all := lw_g (lw_at lw_m3 217 rfl) rfl
theorem q782 : (Jvm.Cond.sameMethod "BagPhrases$Misfit" "BagPhrases$Misfit" "place" "()I") ∈ lw_all := lw_g (lw_at lw_m3 218 rfl) rfl
theorem q789 : (Jvm.Cond.code ({ cls := "BagPhrases$Misfit", name := "place", desc := "()I" } : Jvm.MethodName) prog_4_method_2_code (1 : Nat) (Option.some Jvm.ClassFile.FieldType.int)) ∈ lw_all := lw_g (lw_at lw_m3 225 rfl) rfl
theorem q791 : (Jvm.Cond.sameMethod "BagPhrases$Misfit" "java/lang/Throwable" "getCause" "()Ljava/lang/Throwable;") ∈ lw_all := lw_g (lw_at lw_m3 227 rfl) rfl

/-! BagPhrases$Banned -/
set_option maxRecDepth 100000
def RX5 : String := "BagPhrases$Banned"
def TX5 : u_T := fun k => match k with
  | 0 => ("BagPhrases$Misfit", "place", "I", true)
  | 1 => ("java/lang/Throwable", "cause", "Ljava/lang/Throwable;", false)
  | 2 => ("java/lang/Throwable", "stackTrace", "[Ljava/lang/StackTraceElement;", false)
  | 3 => ("java/lang/Throwable", "suppressedExceptions", "Ljava/util/List;", false)
  | 4 => ("java/lang/Throwable", "detailMessage", "Ljava/lang/String;", false)
  | 5 => ("java/lang/Throwable", "backtrace", "Ljava/lang/Object;", false)
  | _ => ("java/lang/Throwable", "depth", "I", false)
def tyX5 : Nat → FieldType := fun k => match k with
  | 0 => .int
  | 1 => .object "java/lang/Throwable"
  | 2 => .array (.object "java/lang/StackTraceElement")
  | 3 => .object "java/util/List"
  | 4 => .object "java/lang/String"
  | 5 => .object "java/lang/Object"
  | _ => .int
abbrev wsX50 : List Cond := u_ws RX5 TX5 7
theorem nmX5 : ∀ a, a < 7 → ∀ b, b < 7 → a ≠ b → (TX5 a).2.1 ≠ (TX5 b).2.1 := by decide +kernel
theorem tyX5_ok : ∀ k, k < 7 → parseFieldDescriptor (TX5 k).2.2.1 = some (tyX5 k) := by decide +kernel
abbrev cX5_init : ByteArray := prog_3_method_1_code
def yX5_init : MethodName := ⟨RX5, "<init>", "(I)V"⟩
def dkwX5_init_0 : List UInt8 := [42, 27, 1, 183, 0, 1, 177]
abbrev dktX5_init_0 : List UInt8 := dkwX5_init_0 ++ []
theorem dksX5_init_0 : cX5_init.data.toList.drop 0 = dktX5_init_0 := by decide +kernel
theorem dX5_init_0 : decode cX5_init 0 = .ok (.aload_n 0, 1) := dk_42 (dk_at dksX5_init_0 0 rfl rfl)
theorem dX5_init_1 : decode cX5_init 1 = .ok (.iload_n 1, 1) := dk_27 (dk_at dksX5_init_0 1 rfl rfl)
theorem dX5_init_2 : decode cX5_init 2 = .ok (.aconst_null, 1) := dk_1 (dk_at dksX5_init_0 2 rfl rfl)
theorem dX5_init_3 : decode cX5_init 3 = .ok (.invokespecial 1, 3) := dk_183 0 1 (dk_at dksX5_init_0 3 rfl rfl)
theorem dX5_init_6 : decode cX5_init 6 = .ok (.return_, 1) := dk_177 (dk_at dksX5_init_0 6 rfl rfl)
abbrev cX5_reason : ByteArray := prog_3_method_2_code
def yX5_reason : MethodName := ⟨RX5, "reason", "()I"⟩
theorem dX5_reason_0 : decode cX5_reason 0 = .ok (.iconst 1, 1) := by decide +kernel
theorem dX5_reason_1 : decode cX5_reason 1 = .ok (.ireturn, 1) := by decide +kernel
theorem q94 : (Jvm.Cond.initialized "BagPhrases$Banned") ∈ lw_all := lw_g (lw_at lw_m1 10 rfl) rfl
theorem q575 : (Jvm.Cond.instantiable "BagPhrases$Banned" (7 : Nat)) ∈ lw_all := lw_g (lw_at lw_m3 11 rfl) rfl
theorem q576 : (Jvm.Cond.castable "BagPhrases$Banned" "BagPhrases$Banned") ∈ lw_tbl := lw_at lw_m3 12 rfl
theorem q581 : (Jvm.Cond.selects "BagPhrases$Banned" ({ cls := "java/lang/Throwable", name := "fillInStackTrace", desc := "(I)Ljava/lang/Throwable;" } : Jvm.MethodName) ({ cls := "java/lang/Throwable", name := "fillInStackTrace", desc := "(I)Ljava/lang/Throwable;" } : Jvm.MethodName)) ∈ lw_all := lw_g (lw_at lw_m3 17 rfl) rfl
theorem q582 : (Jvm.Cond.selects "BagPhrases$Banned" ({ cls := "java/lang/Throwable", name := "fillInStackTrace", desc := "()Ljava/lang/Throwable;" } : Jvm.MethodName) ({ cls := "java/lang/Throwable", name := "fillInStackTrace", desc := "()Ljava/lang/Throwable;" } : Jvm.MethodName)) ∈ lw_all := lw_g (lw_at lw_m3 18 rfl) rfl
theorem q583 : (Jvm.Cond.lays "BagPhrases$Banned" "java/lang/Throwable" "cause" "Ljava/lang/Throwable;") ∈ lw_all := lw_g (lw_at lw_m3 19 rfl) rfl
theorem q585 : (Jvm.Cond.lays "BagPhrases$Banned" "java/lang/Throwable" "stackTrace" "[Ljava/lang/StackTraceElement;") ∈ lw_all := lw_g (lw_at lw_m3 21 rfl) rfl
theorem q587 : (Jvm.Cond.lays "BagPhrases$Banned" "java/lang/Throwable" "suppressedExceptions" "Ljava/util/List;") ∈ lw_all := lw_g (lw_at lw_m3 23 rfl) rfl
theorem q589 : (Jvm.Cond.lays "BagPhrases$Banned" "java/lang/Throwable" "detailMessage" "Ljava/lang/String;") ∈ lw_all := lw_g (lw_at lw_m3 25 rfl) rfl
theorem q591 : (Jvm.Cond.lays "BagPhrases$Banned" "java/lang/Throwable" "backtrace" "Ljava/lang/Object;") ∈ lw_all := lw_g (lw_at lw_m3 27 rfl) rfl
theorem q618 : (Jvm.Cond.instanceMethod ({ cls := "BagPhrases$Banned", name := "<init>", desc := "(I)V" } : Jvm.MethodName)) ∈ lw_all := lw_g (lw_at lw_m3 54 rfl) rfl
theorem q619 : (Jvm.Cond.code ({ cls := "BagPhrases$Banned", name := "<init>", desc := "(I)V" } : Jvm.MethodName) prog_3_method_1_code (2 : Nat) (Option.none : Option Jvm.ClassFile.FieldType)) ∈ lw_all := lw_g (lw_at lw_m3 55 rfl) rfl
theorem q620 : (Jvm.Cond.methodLink "BagPhrases$Banned" (1 : Nat) ({ cls := "BagPhrases$Misfit", name := "<init>", desc := "(ILjava/lang/Throwable;)V" } : Jvm.MethodName)) ∈ lw_all := lw_g (lw_at lw_m3 56 rfl) rfl
theorem q635 : (Jvm.Cond.laysFinal "BagPhrases$Banned" "BagPhrases$Misfit" "place" "I") ∈ lw_all := lw_g (lw_at lw_m3 71 rfl) rfl
theorem q641 : (Jvm.Cond.lays "BagPhrases$Banned" "java/lang/Throwable" "depth" "I") ∈ lw_all := lw_g (lw_at lw_m3 77 rfl) rfl
theorem q644 : (Jvm.Cond.superclass "BagPhrases$Banned" "BagPhrases$Misfit") ∈ lw_all := lw_g (lw_at lw_m3 80 rfl) rfl
theorem q762 : (Jvm.Cond.selects "BagPhrases$Banned" ({ cls := "BagPhrases$Misfit", name := "reason", desc := "()I" } : Jvm.MethodName) ({ cls := "BagPhrases$Banned", name := "reason", desc := "()I" } : Jvm.MethodName)) ∈ lw_all := lw_g (lw_at lw_m3 198 rfl) rfl
theorem q763 : (Jvm.Cond.instanceMethod ({ cls := "BagPhrases$Banned", name := "reason", desc := "()I" } : Jvm.MethodName)) ∈ lw_all := lw_g (lw_at lw_m3 199 rfl) rfl
theorem q764 : (Jvm.Cond.code ({ cls := "BagPhrases$Banned", name := "reason", desc := "()I" } : Jvm.MethodName) prog_3_method_2_code (1 : Nat) (Option.some Jvm.ClassFile.FieldType.int)) ∈ lw_all := lw_g (lw_at lw_m3 200 rfl) rfl
theorem q783 : (Jvm.Cond.selects "BagPhrases$Banned" ({ cls := "BagPhrases$Misfit", name := "place", desc := "()I" } : Jvm.MethodName) ({ cls := "BagPhrases$Misfit", name := "place", desc := "()I" } : Jvm.MethodName)) ∈ lw_all := lw_g (lw_at lw_m3 219 rfl) rfl
theorem q793 : (Jvm.Cond.selects "BagPhrases$Banned" ({ cls := "BagPhrases$Misfit", name := "getCause", desc := "()Ljava/lang/Throwable;" } : Jvm.MethodName) ({ cls := "java/lang/Throwable", name := "getCause", desc := "()Ljava/lang/Throwable;" } : Jvm.MethodName)) ∈ lw_all := lw_g (lw_at lw_m3 229 rfl) rfl
theorem q1390 : (Jvm.Cond.castable "BagPhrases$Banned" "BagPhrases$Misfit") ∈ lw_tbl := lw_at lw_m6 106 rfl
theorem in_X5 : ∀ w ∈ wsX50, w ∈ lw_all := lw_in wsX50 [635, 583, 585, 587, 589, 591, 641] (by decide +kernel) (by decide +kernel)

/-! BagPhrases$Unlet -/
set_option maxRecDepth 100000
def RX6 : String := "BagPhrases$Unlet"
def TX6 : u_T := fun k => match k with
  | 0 => ("BagPhrases$Misfit", "place", "I", true)
  | 1 => ("java/lang/Throwable", "cause", "Ljava/lang/Throwable;", false)
  | 2 => ("java/lang/Throwable", "stackTrace", "[Ljava/lang/StackTraceElement;", false)
  | 3 => ("java/lang/Throwable", "suppressedExceptions", "Ljava/util/List;", false)
  | 4 => ("java/lang/Throwable", "detailMessage", "Ljava/lang/String;", false)
  | 5 => ("java/lang/Throwable", "backtrace", "Ljava/lang/Object;", false)
  | _ => ("java/lang/Throwable", "depth", "I", false)
def tyX6 : Nat → FieldType := fun k => match k with
  | 0 => .int
  | 1 => .object "java/lang/Throwable"
  | 2 => .array (.object "java/lang/StackTraceElement")
  | 3 => .object "java/util/List"
  | 4 => .object "java/lang/String"
  | 5 => .object "java/lang/Object"
  | _ => .int
abbrev wsX60 : List Cond := u_ws RX6 TX6 7
theorem nmX6 : ∀ a, a < 7 → ∀ b, b < 7 → a ≠ b → (TX6 a).2.1 ≠ (TX6 b).2.1 := by decide +kernel
theorem tyX6_ok : ∀ k, k < 7 → parseFieldDescriptor (TX6 k).2.2.1 = some (tyX6 k) := by decide +kernel
abbrev cX6_init : ByteArray := prog_9_method_1_code
def yX6_init : MethodName := ⟨RX6, "<init>", "(I)V"⟩
def dkwX6_init_0 : List UInt8 := [42, 27, 1, 183, 0, 1, 177]
abbrev dktX6_init_0 : List UInt8 := dkwX6_init_0 ++ []
theorem dksX6_init_0 : cX6_init.data.toList.drop 0 = dktX6_init_0 := by decide +kernel
theorem dX6_init_0 : decode cX6_init 0 = .ok (.aload_n 0, 1) := dk_42 (dk_at dksX6_init_0 0 rfl rfl)
theorem dX6_init_1 : decode cX6_init 1 = .ok (.iload_n 1, 1) := dk_27 (dk_at dksX6_init_0 1 rfl rfl)
theorem dX6_init_2 : decode cX6_init 2 = .ok (.aconst_null, 1) := dk_1 (dk_at dksX6_init_0 2 rfl rfl)
theorem dX6_init_3 : decode cX6_init 3 = .ok (.invokespecial 1, 3) := dk_183 0 1 (dk_at dksX6_init_0 3 rfl rfl)
theorem dX6_init_6 : decode cX6_init 6 = .ok (.return_, 1) := dk_177 (dk_at dksX6_init_0 6 rfl rfl)
abbrev cX6_reason : ByteArray := prog_9_method_2_code
def yX6_reason : MethodName := ⟨RX6, "reason", "()I"⟩
theorem dX6_reason_0 : decode cX6_reason 0 = .ok (.iconst 2, 1) := by decide +kernel
theorem dX6_reason_1 : decode cX6_reason 1 = .ok (.ireturn, 1) := by decide +kernel
theorem q95 : (Jvm.Cond.initialized "BagPhrases$Unlet") ∈ lw_all := lw_g (lw_at lw_m1 11 rfl) rfl
theorem q609 : (Jvm.Cond.selects "BagPhrases$Unlet" ({ cls := "java/lang/Throwable", name := "fillInStackTrace", desc := "()Ljava/lang/Throwable;" } : Jvm.MethodName) ({ cls := "java/lang/Throwable", name := "fillInStackTrace", desc := "()Ljava/lang/Throwable;" } : Jvm.MethodName)) ∈ lw_all := lw_g (lw_at lw_m3 45 rfl) rfl
theorem q645 : (Jvm.Cond.instantiable "BagPhrases$Unlet" (7 : Nat)) ∈ lw_all := lw_g (lw_at lw_m3 81 rfl) rfl
theorem q646 : (Jvm.Cond.castable "BagPhrases$Unlet" "BagPhrases$Unlet") ∈ lw_tbl := lw_at lw_m3 82 rfl
theorem q647 : (Jvm.Cond.selects "BagPhrases$Unlet" ({ cls := "java/lang/Throwable", name := "fillInStackTrace", desc := "(I)Ljava/lang/Throwable;" } : Jvm.MethodName) ({ cls := "java/lang/Throwable", name := "fillInStackTrace", desc := "(I)Ljava/lang/Throwable;" } : Jvm.MethodName)) ∈ lw_all := lw_g (lw_at lw_m3 83 rfl) rfl
theorem q648 : (Jvm.Cond.lays "BagPhrases$Unlet" "java/lang/Throwable" "cause" "Ljava/lang/Throwable;") ∈ lw_all := lw_g (lw_at lw_m3 84 rfl) rfl
theorem q649 : (Jvm.Cond.lays "BagPhrases$Unlet" "java/lang/Throwable" "stackTrace" "[Ljava/lang/StackTraceElement;") ∈ lw_all := lw_g (lw_at lw_m3 85 rfl) rfl
theorem q650 : (Jvm.Cond.lays "BagPhrases$Unlet" "java/lang/Throwable" "suppressedExceptions" "Ljava/util/List;") ∈ lw_all := lw_g (lw_at lw_m3 86 rfl) rfl
theorem q651 : (Jvm.Cond.lays "BagPhrases$Unlet" "java/lang/Throwable" "detailMessage" "Ljava/lang/String;") ∈ lw_all := lw_g (lw_at lw_m3 87 rfl) rfl
theorem q652 : (Jvm.Cond.lays "BagPhrases$Unlet" "java/lang/Throwable" "backtrace" "Ljava/lang/Object;") ∈ lw_all := lw_g (lw_at lw_m3 88 rfl) rfl
theorem q654 : (Jvm.Cond.instanceMethod ({ cls := "BagPhrases$Unlet", name := "<init>", desc := "(I)V" } : Jvm.MethodName)) ∈ lw_all := lw_g (lw_at lw_m3 90 rfl) rfl
theorem q655 : (Jvm.Cond.code ({ cls := "BagPhrases$Unlet", name := "<init>", desc := "(I)V" } : Jvm.MethodName) prog_9_method_1_code (2 : Nat) (Option.none : Option Jvm.ClassFile.FieldType)) ∈ lw_all := lw_g (lw_at lw_m3 91 rfl) rfl
theorem q656 : (Jvm.Cond.methodLink "BagPhrases$Unlet" (1 : Nat) ({ cls := "BagPhrases$Misfit", name := "<init>", desc := "(ILjava/lang/Throwable;)V" } : Jvm.MethodName)) ∈ lw_all := lw_g (lw_at lw_m3 92 rfl) rfl
theorem q657 : (Jvm.Cond.laysFinal "BagPhrases$Unlet" "BagPhrases$Misfit" "place" "I") ∈ lw_all := lw_g (lw_at lw_m3 93 rfl) rfl
theorem q658 : (Jvm.Cond.lays "BagPhrases$Unlet" "java/lang/Throwable" "depth" "I") ∈ lw_all := lw_g (lw_at lw_m3 94 rfl) rfl
theorem q659 : (Jvm.Cond.superclass "BagPhrases$Unlet" "BagPhrases$Misfit") ∈ lw_all := lw_g (lw_at lw_m3 95 rfl) rfl
theorem q774 : (Jvm.Cond.selects "BagPhrases$Unlet" ({ cls := "BagPhrases$Misfit", name := "reason", desc := "()I" } : Jvm.MethodName) ({ cls := "BagPhrases$Unlet", name := "reason", desc := "()I" } : Jvm.MethodName)) ∈ lw_all := lw_g (lw_at lw_m3 210 rfl) rfl
theorem q775 : (Jvm.Cond.instanceMethod ({ cls := "BagPhrases$Unlet", name := "reason", desc := "()I" } : Jvm.MethodName)) ∈ lw_all := lw_g (lw_at lw_m3 211 rfl) rfl
theorem q776 : (Jvm.Cond.code ({ cls := "BagPhrases$Unlet", name := "reason", desc := "()I" } : Jvm.MethodName) prog_9_method_2_code (1 : Nat) (Option.some Jvm.ClassFile.FieldType.int)) ∈ lw_all := lw_g (lw_at lw_m3 212 rfl) rfl
theorem q787 : (Jvm.Cond.selects "BagPhrases$Unlet" ({ cls := "BagPhrases$Misfit", name := "place", desc := "()I" } : Jvm.MethodName) ({ cls := "BagPhrases$Misfit", name := "place", desc := "()I" } : Jvm.MethodName)) ∈ lw_all := lw_g (lw_at lw_m3 223 rfl) rfl
theorem q797 : (Jvm.Cond.selects "BagPhrases$Unlet" ({ cls := "BagPhrases$Misfit", name := "getCause", desc := "()Ljava/lang/Throwable;" } : Jvm.MethodName) ({ cls := "java/lang/Throwable", name := "getCause", desc := "()Ljava/lang/Throwable;" } : Jvm.MethodName)) ∈ lw_all := lw_g (lw_at lw_m3 233 rfl) rfl
theorem q1394 : (Jvm.Cond.castable "BagPhrases$Unlet" "BagPhrases$Misfit") ∈ lw_tbl := lw_at lw_m6 110 rfl
theorem in_X6 : ∀ w ∈ wsX60, w ∈ lw_all := lw_in wsX60 [657, 648, 649, 650, 651, 652, 658] (by decide +kernel) (by decide +kernel)

/-! BagPhrases$Amiss -/
set_option maxRecDepth 100000
def RX7 : String := "BagPhrases$Amiss"
def TX7 : u_T := fun k => match k with
  | 0 => ("java/lang/Throwable", "cause", "Ljava/lang/Throwable;", false)
  | 1 => ("java/lang/Throwable", "stackTrace", "[Ljava/lang/StackTraceElement;", false)
  | 2 => ("java/lang/Throwable", "suppressedExceptions", "Ljava/util/List;", false)
  | 3 => ("java/lang/Throwable", "detailMessage", "Ljava/lang/String;", false)
  | 4 => ("java/lang/Throwable", "backtrace", "Ljava/lang/Object;", false)
  | 5 => ("java/lang/Throwable", "depth", "I", false)
  | 6 => ("BagPhrases$Amiss", "letter", "I", true)
  | _ => ("BagPhrases$Amiss", "many", "I", true)
def tyX7 : Nat → FieldType := fun k => match k with
  | 0 => .object "java/lang/Throwable"
  | 1 => .array (.object "java/lang/StackTraceElement")
  | 2 => .object "java/util/List"
  | 3 => .object "java/lang/String"
  | 4 => .object "java/lang/Object"
  | 5 => .int
  | 6 => .int
  | _ => .int
abbrev wsX70 : List Cond := u_ws RX7 TX7 8
theorem nmX7 : ∀ a, a < 8 → ∀ b, b < 8 → a ≠ b → (TX7 a).2.1 ≠ (TX7 b).2.1 := by decide +kernel
theorem tyX7_ok : ∀ k, k < 8 → parseFieldDescriptor (TX7 k).2.2.1 = some (tyX7 k) := by decide +kernel
abbrev cX7_init : ByteArray := prog_2_method_1_code
def yX7_init : MethodName := ⟨RX7, "<init>", "(II)V"⟩
def dkwX7_init_0 : List UInt8 := [42, 183, 0, 1, 42, 27, 181, 0, 7, 42, 28, 181, 0, 13, 177]
abbrev dktX7_init_0 : List UInt8 := dkwX7_init_0 ++ []
theorem dksX7_init_0 : cX7_init.data.toList.drop 0 = dktX7_init_0 := by decide +kernel
theorem dX7_init_0 : decode cX7_init 0 = .ok (.aload_n 0, 1) := dk_42 (dk_at dksX7_init_0 0 rfl rfl)
theorem dX7_init_1 : decode cX7_init 1 = .ok (.invokespecial 1, 3) := dk_183 0 1 (dk_at dksX7_init_0 1 rfl rfl)
theorem dX7_init_4 : decode cX7_init 4 = .ok (.aload_n 0, 1) := dk_42 (dk_at dksX7_init_0 4 rfl rfl)
theorem dX7_init_5 : decode cX7_init 5 = .ok (.iload_n 1, 1) := dk_27 (dk_at dksX7_init_0 5 rfl rfl)
theorem dX7_init_6 : decode cX7_init 6 = .ok (.putfield 7, 3) := dk_181 0 7 (dk_at dksX7_init_0 6 rfl rfl)
theorem dX7_init_9 : decode cX7_init 9 = .ok (.aload_n 0, 1) := dk_42 (dk_at dksX7_init_0 9 rfl rfl)
theorem dX7_init_10 : decode cX7_init 10 = .ok (.iload_n 2, 1) := dk_28 (dk_at dksX7_init_0 10 rfl rfl)
theorem dX7_init_11 : decode cX7_init 11 = .ok (.putfield 13, 3) := dk_181 0 13 (dk_at dksX7_init_0 11 rfl rfl)
theorem dX7_init_14 : decode cX7_init 14 = .ok (.return_, 1) := dk_177 (dk_at dksX7_init_0 14 rfl rfl)
theorem q96 : (Jvm.Cond.initialized "BagPhrases$Amiss") ∈ lw_all := lw_g (lw_at lw_m1 12 rfl) rfl
theorem q605 : (Jvm.Cond.selects "BagPhrases$Amiss" ({ cls := "java/lang/Throwable", name := "fillInStackTrace", desc := "()Ljava/lang/Throwable;" } : Jvm.MethodName) ({ cls := "java/lang/Throwable", name := "fillInStackTrace", desc := "()Ljava/lang/Throwable;" } : Jvm.MethodName)) ∈ lw_all := lw_g (lw_at lw_m3 41 rfl) rfl
theorem q664 : (Jvm.Cond.instantiable "BagPhrases$Amiss" (8 : Nat)) ∈ lw_all := lw_g (lw_at lw_m3 100 rfl) rfl
theorem q665 : (Jvm.Cond.castable "BagPhrases$Amiss" "BagPhrases$Amiss") ∈ lw_tbl := lw_at lw_m3 101 rfl
theorem q666 : (Jvm.Cond.selects "BagPhrases$Amiss" ({ cls := "java/lang/Throwable", name := "fillInStackTrace", desc := "(I)Ljava/lang/Throwable;" } : Jvm.MethodName) ({ cls := "java/lang/Throwable", name := "fillInStackTrace", desc := "(I)Ljava/lang/Throwable;" } : Jvm.MethodName)) ∈ lw_all := lw_g (lw_at lw_m3 102 rfl) rfl
theorem q667 : (Jvm.Cond.lays "BagPhrases$Amiss" "java/lang/Throwable" "cause" "Ljava/lang/Throwable;") ∈ lw_all := lw_g (lw_at lw_m3 103 rfl) rfl
theorem q668 : (Jvm.Cond.lays "BagPhrases$Amiss" "java/lang/Throwable" "stackTrace" "[Ljava/lang/StackTraceElement;") ∈ lw_all := lw_g (lw_at lw_m3 104 rfl) rfl
theorem q669 : (Jvm.Cond.lays "BagPhrases$Amiss" "java/lang/Throwable" "suppressedExceptions" "Ljava/util/List;") ∈ lw_all := lw_g (lw_at lw_m3 105 rfl) rfl
theorem q670 : (Jvm.Cond.lays "BagPhrases$Amiss" "java/lang/Throwable" "detailMessage" "Ljava/lang/String;") ∈ lw_all := lw_g (lw_at lw_m3 106 rfl) rfl
theorem q671 : (Jvm.Cond.lays "BagPhrases$Amiss" "java/lang/Throwable" "backtrace" "Ljava/lang/Object;") ∈ lw_all := lw_g (lw_at lw_m3 107 rfl) rfl
theorem q673 : (Jvm.Cond.instanceMethod ({ cls := "BagPhrases$Amiss", name := "<init>", desc := "(II)V" } : Jvm.MethodName)) ∈ lw_all := lw_g (lw_at lw_m3 109 rfl) rfl
theorem q674 : (Jvm.Cond.code ({ cls := "BagPhrases$Amiss", name := "<init>", desc := "(II)V" } : Jvm.MethodName) prog_2_method_1_code (3 : Nat) (Option.none : Option Jvm.ClassFile.FieldType)) ∈ lw_all := lw_g (lw_at lw_m3 110 rfl) rfl
theorem q675 : (Jvm.Cond.methodLink "BagPhrases$Amiss" (1 : Nat) ({ cls := "java/lang/Exception", name := "<init>", desc := "()V" } : Jvm.MethodName)) ∈ lw_all := lw_g (lw_at lw_m3 111 rfl) rfl
theorem q679 : (Jvm.Cond.fieldLink "BagPhrases$Amiss" (7 : Nat) "BagPhrases$Amiss" "letter" "I") ∈ lw_all := lw_g (lw_at lw_m3 115 rfl) rfl
theorem q681 : (Jvm.Cond.fieldLink "BagPhrases$Amiss" (13 : Nat) "BagPhrases$Amiss" "many" "I") ∈ lw_all := lw_g (lw_at lw_m3 117 rfl) rfl
theorem q683 : (Jvm.Cond.laysFinal "BagPhrases$Amiss" "BagPhrases$Amiss" "letter" "I") ∈ lw_all := lw_g (lw_at lw_m3 119 rfl) rfl
theorem q684 : (Jvm.Cond.soleField "BagPhrases$Amiss" "letter") ∈ lw_all := lw_g (lw_at lw_m3 120 rfl) rfl
theorem q685 : (Jvm.Cond.laysFinal "BagPhrases$Amiss" "BagPhrases$Amiss" "many" "I") ∈ lw_all := lw_g (lw_at lw_m3 121 rfl) rfl
theorem q686 : (Jvm.Cond.soleField "BagPhrases$Amiss" "many") ∈ lw_all := lw_g (lw_at lw_m3 122 rfl) rfl
theorem q687 : (Jvm.Cond.lays "BagPhrases$Amiss" "java/lang/Throwable" "depth" "I") ∈ lw_all := lw_g (lw_at lw_m3 123 rfl) rfl
theorem q688 : (Jvm.Cond.superclass "BagPhrases$Amiss" "java/lang/Exception") ∈ lw_all := lw_g (lw_at lw_m3 124 rfl) rfl
theorem in_X7 : ∀ w ∈ wsX70, w ∈ lw_all := lw_in wsX70 [667, 668, 669, 670, 671, 687, 683, 685] (by decide +kernel) (by decide +kernel)

/-! BagPhrases$Short -/
set_option maxRecDepth 100000
def RX8 : String := "BagPhrases$Short"
def TX8 : u_T := fun k => match k with
  | 0 => ("BagPhrases$Misfit", "place", "I", true)
  | 1 => ("java/lang/Throwable", "cause", "Ljava/lang/Throwable;", false)
  | 2 => ("java/lang/Throwable", "stackTrace", "[Ljava/lang/StackTraceElement;", false)
  | 3 => ("java/lang/Throwable", "suppressedExceptions", "Ljava/util/List;", false)
  | 4 => ("java/lang/Throwable", "detailMessage", "Ljava/lang/String;", false)
  | 5 => ("java/lang/Throwable", "backtrace", "Ljava/lang/Object;", false)
  | _ => ("java/lang/Throwable", "depth", "I", false)
def tyX8 : Nat → FieldType := fun k => match k with
  | 0 => .int
  | 1 => .object "java/lang/Throwable"
  | 2 => .array (.object "java/lang/StackTraceElement")
  | 3 => .object "java/util/List"
  | 4 => .object "java/lang/String"
  | 5 => .object "java/lang/Object"
  | _ => .int
abbrev wsX80 : List Cond := u_ws RX8 TX8 7
theorem nmX8 : ∀ a, a < 7 → ∀ b, b < 7 → a ≠ b → (TX8 a).2.1 ≠ (TX8 b).2.1 := by decide +kernel
theorem tyX8_ok : ∀ k, k < 7 → parseFieldDescriptor (TX8 k).2.2.1 = some (tyX8 k) := by decide +kernel
abbrev cX8_init : ByteArray := prog_7_method_1_code
def yX8_init : MethodName := ⟨RX8, "<init>", "(ILBagPhrases$Amiss;)V"⟩
def dkwX8_init_0 : List UInt8 := [42, 27, 44, 183, 0, 1, 177]
abbrev dktX8_init_0 : List UInt8 := dkwX8_init_0 ++ []
theorem dksX8_init_0 : cX8_init.data.toList.drop 0 = dktX8_init_0 := by decide +kernel
theorem dX8_init_0 : decode cX8_init 0 = .ok (.aload_n 0, 1) := dk_42 (dk_at dksX8_init_0 0 rfl rfl)
theorem dX8_init_1 : decode cX8_init 1 = .ok (.iload_n 1, 1) := dk_27 (dk_at dksX8_init_0 1 rfl rfl)
theorem dX8_init_2 : decode cX8_init 2 = .ok (.aload_n 2, 1) := dk_44 (dk_at dksX8_init_0 2 rfl rfl)
theorem dX8_init_3 : decode cX8_init 3 = .ok (.invokespecial 1, 3) := dk_183 0 1 (dk_at dksX8_init_0 3 rfl rfl)
theorem dX8_init_6 : decode cX8_init 6 = .ok (.return_, 1) := dk_177 (dk_at dksX8_init_0 6 rfl rfl)
abbrev cX8_reason : ByteArray := prog_7_method_2_code
def yX8_reason : MethodName := ⟨RX8, "reason", "()I"⟩
theorem dX8_reason_0 : decode cX8_reason 0 = .ok (.iconst 3, 1) := by decide +kernel
theorem dX8_reason_1 : decode cX8_reason 1 = .ok (.ireturn, 1) := by decide +kernel
theorem q97 : (Jvm.Cond.initialized "BagPhrases$Short") ∈ lw_all := lw_g (lw_at lw_m1 13 rfl) rfl
theorem q607 : (Jvm.Cond.selects "BagPhrases$Short" ({ cls := "java/lang/Throwable", name := "fillInStackTrace", desc := "()Ljava/lang/Throwable;" } : Jvm.MethodName) ({ cls := "java/lang/Throwable", name := "fillInStackTrace", desc := "()Ljava/lang/Throwable;" } : Jvm.MethodName)) ∈ lw_all := lw_g (lw_at lw_m3 43 rfl) rfl
theorem q690 : (Jvm.Cond.instantiable "BagPhrases$Short" (7 : Nat)) ∈ lw_all := lw_g (lw_at lw_m3 126 rfl) rfl
theorem q691 : (Jvm.Cond.castable "BagPhrases$Short" "BagPhrases$Short") ∈ lw_tbl := lw_at lw_m3 127 rfl
theorem q692 : (Jvm.Cond.selects "BagPhrases$Short" ({ cls := "java/lang/Throwable", name := "fillInStackTrace", desc := "(I)Ljava/lang/Throwable;" } : Jvm.MethodName) ({ cls := "java/lang/Throwable", name := "fillInStackTrace", desc := "(I)Ljava/lang/Throwable;" } : Jvm.MethodName)) ∈ lw_all := lw_g (lw_at lw_m3 128 rfl) rfl
theorem q693 : (Jvm.Cond.lays "BagPhrases$Short" "java/lang/Throwable" "cause" "Ljava/lang/Throwable;") ∈ lw_all := lw_g (lw_at lw_m3 129 rfl) rfl
theorem q694 : (Jvm.Cond.lays "BagPhrases$Short" "java/lang/Throwable" "stackTrace" "[Ljava/lang/StackTraceElement;") ∈ lw_all := lw_g (lw_at lw_m3 130 rfl) rfl
theorem q695 : (Jvm.Cond.lays "BagPhrases$Short" "java/lang/Throwable" "suppressedExceptions" "Ljava/util/List;") ∈ lw_all := lw_g (lw_at lw_m3 131 rfl) rfl
theorem q696 : (Jvm.Cond.lays "BagPhrases$Short" "java/lang/Throwable" "detailMessage" "Ljava/lang/String;") ∈ lw_all := lw_g (lw_at lw_m3 132 rfl) rfl
theorem q697 : (Jvm.Cond.lays "BagPhrases$Short" "java/lang/Throwable" "backtrace" "Ljava/lang/Object;") ∈ lw_all := lw_g (lw_at lw_m3 133 rfl) rfl
theorem q699 : (Jvm.Cond.instanceMethod ({ cls := "BagPhrases$Short", name := "<init>", desc := "(ILBagPhrases$Amiss;)V" } : Jvm.MethodName)) ∈ lw_all := lw_g (lw_at lw_m3 135 rfl) rfl
theorem q700 : (Jvm.Cond.code ({ cls := "BagPhrases$Short", name := "<init>", desc := "(ILBagPhrases$Amiss;)V" } : Jvm.MethodName) prog_7_method_1_code (3 : Nat) (Option.none : Option Jvm.ClassFile.FieldType)) ∈ lw_all := lw_g (lw_at lw_m3 136 rfl) rfl
theorem q701 : (Jvm.Cond.methodLink "BagPhrases$Short" (1 : Nat) ({ cls := "BagPhrases$Misfit", name := "<init>", desc := "(ILjava/lang/Throwable;)V" } : Jvm.MethodName)) ∈ lw_all := lw_g (lw_at lw_m3 137 rfl) rfl
theorem q702 : (Jvm.Cond.laysFinal "BagPhrases$Short" "BagPhrases$Misfit" "place" "I") ∈ lw_all := lw_g (lw_at lw_m3 138 rfl) rfl
theorem q703 : (Jvm.Cond.lays "BagPhrases$Short" "java/lang/Throwable" "depth" "I") ∈ lw_all := lw_g (lw_at lw_m3 139 rfl) rfl
theorem q704 : (Jvm.Cond.superclass "BagPhrases$Short" "BagPhrases$Misfit") ∈ lw_all := lw_g (lw_at lw_m3 140 rfl) rfl
theorem q768 : (Jvm.Cond.selects "BagPhrases$Short" ({ cls := "BagPhrases$Misfit", name := "reason", desc := "()I" } : Jvm.MethodName) ({ cls := "BagPhrases$Short", name := "reason", desc := "()I" } : Jvm.MethodName)) ∈ lw_all := lw_g (lw_at lw_m3 204 rfl) rfl
theorem q769 : (Jvm.Cond.instanceMethod ({ cls := "BagPhrases$Short", name := "reason", desc := "()I" } : Jvm.MethodName)) ∈ lw_all := lw_g (lw_at lw_m3 205 rfl) rfl
theorem q770 : (Jvm.Cond.code ({ cls := "BagPhrases$Short", name := "reason", desc := "()I" } : Jvm.MethodName) prog_7_method_2_code (1 : Nat) (Option.some Jvm.ClassFile.FieldType.int)) ∈ lw_all := lw_g (lw_at lw_m3 206 rfl) rfl
theorem q785 : (Jvm.Cond.selects "BagPhrases$Short" ({ cls := "BagPhrases$Misfit", name := "place", desc := "()I" } : Jvm.MethodName) ({ cls := "BagPhrases$Misfit", name := "place", desc := "()I" } : Jvm.MethodName)) ∈ lw_all := lw_g (lw_at lw_m3 221 rfl) rfl
theorem q795 : (Jvm.Cond.selects "BagPhrases$Short" ({ cls := "BagPhrases$Misfit", name := "getCause", desc := "()Ljava/lang/Throwable;" } : Jvm.MethodName) ({ cls := "java/lang/Throwable", name := "getCause", desc := "()Ljava/lang/Throwable;" } : Jvm.MethodName)) ∈ lw_all := lw_g (lw_at lw_m3 231 rfl) rfl
theorem q1392 : (Jvm.Cond.castable "BagPhrases$Short" "BagPhrases$Misfit") ∈ lw_tbl := lw_at lw_m6 108 rfl
theorem in_X8 : ∀ w ∈ wsX80, w ∈ lw_all := lw_in wsX80 [702, 693, 694, 695, 696, 697, 703] (by decide +kernel) (by decide +kernel)

/-! BagPhrases$Wordless -/
set_option maxRecDepth 100000
def RX9 : String := "BagPhrases$Wordless"
def TX9 : u_T := fun k => match k with
  | 0 => ("BagPhrases$Misfit", "place", "I", true)
  | 1 => ("java/lang/Throwable", "cause", "Ljava/lang/Throwable;", false)
  | 2 => ("java/lang/Throwable", "stackTrace", "[Ljava/lang/StackTraceElement;", false)
  | 3 => ("java/lang/Throwable", "suppressedExceptions", "Ljava/util/List;", false)
  | 4 => ("java/lang/Throwable", "detailMessage", "Ljava/lang/String;", false)
  | 5 => ("java/lang/Throwable", "backtrace", "Ljava/lang/Object;", false)
  | _ => ("java/lang/Throwable", "depth", "I", false)
def tyX9 : Nat → FieldType := fun k => match k with
  | 0 => .int
  | 1 => .object "java/lang/Throwable"
  | 2 => .array (.object "java/lang/StackTraceElement")
  | 3 => .object "java/util/List"
  | 4 => .object "java/lang/String"
  | 5 => .object "java/lang/Object"
  | _ => .int
abbrev wsX90 : List Cond := u_ws RX9 TX9 7
theorem nmX9 : ∀ a, a < 7 → ∀ b, b < 7 → a ≠ b → (TX9 a).2.1 ≠ (TX9 b).2.1 := by decide +kernel
theorem tyX9_ok : ∀ k, k < 7 → parseFieldDescriptor (TX9 k).2.2.1 = some (tyX9 k) := by decide +kernel
abbrev cX9_init : ByteArray := prog_11_method_1_code
def yX9_init : MethodName := ⟨RX9, "<init>", "()V"⟩
def dkwX9_init_0 : List UInt8 := [42, 3, 1, 183, 0, 1, 177]
abbrev dktX9_init_0 : List UInt8 := dkwX9_init_0 ++ []
theorem dksX9_init_0 : cX9_init.data.toList.drop 0 = dktX9_init_0 := by decide +kernel
theorem dX9_init_0 : decode cX9_init 0 = .ok (.aload_n 0, 1) := dk_42 (dk_at dksX9_init_0 0 rfl rfl)
theorem dX9_init_1 : decode cX9_init 1 = .ok (.iconst 0, 1) := dk_3 (dk_at dksX9_init_0 1 rfl rfl)
theorem dX9_init_2 : decode cX9_init 2 = .ok (.aconst_null, 1) := dk_1 (dk_at dksX9_init_0 2 rfl rfl)
theorem dX9_init_3 : decode cX9_init 3 = .ok (.invokespecial 1, 3) := dk_183 0 1 (dk_at dksX9_init_0 3 rfl rfl)
theorem dX9_init_6 : decode cX9_init 6 = .ok (.return_, 1) := dk_177 (dk_at dksX9_init_0 6 rfl rfl)
abbrev cX9_reason : ByteArray := prog_11_method_2_code
def yX9_reason : MethodName := ⟨RX9, "reason", "()I"⟩
theorem dX9_reason_0 : decode cX9_reason 0 = .ok (.bipush 6, 2) := by decide +kernel
theorem dX9_reason_2 : decode cX9_reason 2 = .ok (.ireturn, 1) := by decide +kernel
theorem q98 : (Jvm.Cond.initialized "BagPhrases$Wordless") ∈ lw_all := lw_g (lw_at lw_m1 14 rfl) rfl
theorem q610 : (Jvm.Cond.selects "BagPhrases$Wordless" ({ cls := "java/lang/Throwable", name := "fillInStackTrace", desc := "()Ljava/lang/Throwable;" } : Jvm.MethodName) ({ cls := "java/lang/Throwable", name := "fillInStackTrace", desc := "()Ljava/lang/Throwable;" } : Jvm.MethodName)) ∈ lw_all := lw_g (lw_at lw_m3 46 rfl) rfl
theorem q705 : (Jvm.Cond.instantiable "BagPhrases$Wordless" (7 : Nat)) ∈ lw_all := lw_g (lw_at lw_m3 141 rfl) rfl
theorem q706 : (Jvm.Cond.castable "BagPhrases$Wordless" "BagPhrases$Wordless") ∈ lw_tbl := lw_at lw_m3 142 rfl
theorem q707 : (Jvm.Cond.selects "BagPhrases$Wordless" ({ cls := "java/lang/Throwable", name := "fillInStackTrace", desc := "(I)Ljava/lang/Throwable;" } : Jvm.MethodName) ({ cls := "java/lang/Throwable", name := "fillInStackTrace", desc := "(I)Ljava/lang/Throwable;" } : Jvm.MethodName)) ∈ lw_all := lw_g (lw_at lw_m3 143 rfl) rfl
theorem q708 : (Jvm.Cond.lays "BagPhrases$Wordless" "java/lang/Throwable" "cause" "Ljava/lang/Throwable;") ∈ lw_all := lw_g (lw_at lw_m3 144 rfl) rfl
theorem q709 : (Jvm.Cond.lays "BagPhrases$Wordless" "java/lang/Throwable" "stackTrace" "[Ljava/lang/StackTraceElement;") ∈ lw_all := lw_g (lw_at lw_m3 145 rfl) rfl
theorem q710 : (Jvm.Cond.lays "BagPhrases$Wordless" "java/lang/Throwable" "suppressedExceptions" "Ljava/util/List;") ∈ lw_all := lw_g (lw_at lw_m3 146 rfl) rfl
theorem q711 : (Jvm.Cond.lays "BagPhrases$Wordless" "java/lang/Throwable" "detailMessage" "Ljava/lang/String;") ∈ lw_all := lw_g (lw_at lw_m3 147 rfl) rfl
theorem q712 : (Jvm.Cond.lays "BagPhrases$Wordless" "java/lang/Throwable" "backtrace" "Ljava/lang/Object;") ∈ lw_all := lw_g (lw_at lw_m3 148 rfl) rfl
theorem q714 : (Jvm.Cond.instanceMethod ({ cls := "BagPhrases$Wordless", name := "<init>", desc := "()V" } : Jvm.MethodName)) ∈ lw_all := lw_g (lw_at lw_m3 150 rfl) rfl
theorem q715 : (Jvm.Cond.code ({ cls := "BagPhrases$Wordless", name := "<init>", desc := "()V" } : Jvm.MethodName) prog_11_method_1_code (1 : Nat) (Option.none : Option Jvm.ClassFile.FieldType)) ∈ lw_all := lw_g (lw_at lw_m3 151 rfl) rfl
theorem q716 : (Jvm.Cond.methodLink "BagPhrases$Wordless" (1 : Nat) ({ cls := "BagPhrases$Misfit", name := "<init>", desc := "(ILjava/lang/Throwable;)V" } : Jvm.MethodName)) ∈ lw_all := lw_g (lw_at lw_m3 152 rfl) rfl
theorem q717 : (Jvm.Cond.laysFinal "BagPhrases$Wordless" "BagPhrases$Misfit" "place" "I") ∈ lw_all := lw_g (lw_at lw_m3 153 rfl) rfl
theorem q718 : (Jvm.Cond.lays "BagPhrases$Wordless" "java/lang/Throwable" "depth" "I") ∈ lw_all := lw_g (lw_at lw_m3 154 rfl) rfl
theorem q719 : (Jvm.Cond.superclass "BagPhrases$Wordless" "BagPhrases$Misfit") ∈ lw_all := lw_g (lw_at lw_m3 155 rfl) rfl
theorem q777 : (Jvm.Cond.selects "BagPhrases$Wordless" ({ cls := "BagPhrases$Misfit", name := "reason", desc := "()I" } : Jvm.MethodName) ({ cls := "BagPhrases$Wordless", name := "reason", desc := "()I" } : Jvm.MethodName)) ∈ lw_all := lw_g (lw_at lw_m3 213 rfl) rfl
theorem q778 : (Jvm.Cond.instanceMethod ({ cls := "BagPhrases$Wordless", name := "reason", desc := "()I" } : Jvm.MethodName)) ∈ lw_all := lw_g (lw_at lw_m3 214 rfl) rfl
theorem q779 : (Jvm.Cond.code ({ cls := "BagPhrases$Wordless", name := "reason", desc := "()I" } : Jvm.MethodName) prog_11_method_2_code (1 : Nat) (Option.some Jvm.ClassFile.FieldType.int)) ∈ lw_all := lw_g (lw_at lw_m3 215 rfl) rfl
theorem q788 : (Jvm.Cond.selects "BagPhrases$Wordless" ({ cls := "BagPhrases$Misfit", name := "place", desc := "()I" } : Jvm.MethodName) ({ cls := "BagPhrases$Misfit", name := "place", desc := "()I" } : Jvm.MethodName)) ∈ lw_all := lw_g (lw_at lw_m3 224 rfl) rfl
theorem q798 : (Jvm.Cond.selects "BagPhrases$Wordless" ({ cls := "BagPhrases$Misfit", name := "getCause", desc := "()Ljava/lang/Throwable;" } : Jvm.MethodName) ({ cls := "java/lang/Throwable", name := "getCause", desc := "()Ljava/lang/Throwable;" } : Jvm.MethodName)) ∈ lw_all := lw_g (lw_at lw_m3 234 rfl) rfl
theorem q1395 : (Jvm.Cond.castable "BagPhrases$Wordless" "BagPhrases$Misfit") ∈ lw_tbl := lw_at lw_m6 111 rfl
theorem in_X9 : ∀ w ∈ wsX90, w ∈ lw_all := lw_in wsX90 [717, 708, 709, 710, 711, 712, 718] (by decide +kernel) (by decide +kernel)

/-! BagPhrases$Over -/
set_option maxRecDepth 100000
def RX10 : String := "BagPhrases$Over"
def TX10 : u_T := fun k => match k with
  | 0 => ("BagPhrases$Misfit", "place", "I", true)
  | 1 => ("java/lang/Throwable", "cause", "Ljava/lang/Throwable;", false)
  | 2 => ("java/lang/Throwable", "stackTrace", "[Ljava/lang/StackTraceElement;", false)
  | 3 => ("java/lang/Throwable", "suppressedExceptions", "Ljava/util/List;", false)
  | 4 => ("java/lang/Throwable", "detailMessage", "Ljava/lang/String;", false)
  | 5 => ("java/lang/Throwable", "backtrace", "Ljava/lang/Object;", false)
  | _ => ("java/lang/Throwable", "depth", "I", false)
def tyX10 : Nat → FieldType := fun k => match k with
  | 0 => .int
  | 1 => .object "java/lang/Throwable"
  | 2 => .array (.object "java/lang/StackTraceElement")
  | 3 => .object "java/util/List"
  | 4 => .object "java/lang/String"
  | 5 => .object "java/lang/Object"
  | _ => .int
abbrev wsX100 : List Cond := u_ws RX10 TX10 7
theorem nmX10 : ∀ a, a < 7 → ∀ b, b < 7 → a ≠ b → (TX10 a).2.1 ≠ (TX10 b).2.1 := by decide +kernel
theorem tyX10_ok : ∀ k, k < 7 → parseFieldDescriptor (TX10 k).2.2.1 = some (tyX10 k) := by decide +kernel
abbrev cX10_init : ByteArray := prog_5_method_1_code
def yX10_init : MethodName := ⟨RX10, "<init>", "(ILBagPhrases$Amiss;)V"⟩
def dkwX10_init_0 : List UInt8 := [42, 27, 44, 183, 0, 1, 177]
abbrev dktX10_init_0 : List UInt8 := dkwX10_init_0 ++ []
theorem dksX10_init_0 : cX10_init.data.toList.drop 0 = dktX10_init_0 := by decide +kernel
theorem dX10_init_0 : decode cX10_init 0 = .ok (.aload_n 0, 1) := dk_42 (dk_at dksX10_init_0 0 rfl rfl)
theorem dX10_init_1 : decode cX10_init 1 = .ok (.iload_n 1, 1) := dk_27 (dk_at dksX10_init_0 1 rfl rfl)
theorem dX10_init_2 : decode cX10_init 2 = .ok (.aload_n 2, 1) := dk_44 (dk_at dksX10_init_0 2 rfl rfl)
theorem dX10_init_3 : decode cX10_init 3 = .ok (.invokespecial 1, 3) := dk_183 0 1 (dk_at dksX10_init_0 3 rfl rfl)
theorem dX10_init_6 : decode cX10_init 6 = .ok (.return_, 1) := dk_177 (dk_at dksX10_init_0 6 rfl rfl)
abbrev cX10_reason : ByteArray := prog_5_method_2_code
def yX10_reason : MethodName := ⟨RX10, "reason", "()I"⟩
theorem dX10_reason_0 : decode cX10_reason 0 = .ok (.iconst 4, 1) := by decide +kernel
theorem dX10_reason_1 : decode cX10_reason 1 = .ok (.ireturn, 1) := by decide +kernel
theorem q99 : (Jvm.Cond.initialized "BagPhrases$Over") ∈ lw_all := lw_g (lw_at lw_m1 15 rfl) rfl
theorem q606 : (Jvm.Cond.selects "BagPhrases$Over" ({ cls := "java/lang/Throwable", name := "fillInStackTrace", desc := "()Ljava/lang/Throwable;" } : Jvm.MethodName) ({ cls := "java/lang/Throwable", name := "fillInStackTrace", desc := "()Ljava/lang/Throwable;" } : Jvm.MethodName)) ∈ lw_all := lw_g (lw_at lw_m3 42 rfl) rfl
theorem q725 : (Jvm.Cond.instantiable "BagPhrases$Over" (7 : Nat)) ∈ lw_all := lw_g (lw_at lw_m3 161 rfl) rfl
theorem q726 : (Jvm.Cond.castable "BagPhrases$Over" "BagPhrases$Over") ∈ lw_tbl := lw_at lw_m3 162 rfl
theorem q727 : (Jvm.Cond.selects "BagPhrases$Over" ({ cls := "java/lang/Throwable", name := "fillInStackTrace", desc := "(I)Ljava/lang/Throwable;" } : Jvm.MethodName) ({ cls := "java/lang/Throwable", name := "fillInStackTrace", desc := "(I)Ljava/lang/Throwable;" } : Jvm.MethodName)) ∈ lw_all := lw_g (lw_at lw_m3 163 rfl) rfl
theorem q728 : (Jvm.Cond.lays "BagPhrases$Over" "java/lang/Throwable" "cause" "Ljava/lang/Throwable;") ∈ lw_all := lw_g (lw_at lw_m3 164 rfl) rfl
theorem q729 : (Jvm.Cond.lays "BagPhrases$Over" "java/lang/Throwable" "stackTrace" "[Ljava/lang/StackTraceElement;") ∈ lw_all := lw_g (lw_at lw_m3 165 rfl) rfl
theorem q730 : (Jvm.Cond.lays "BagPhrases$Over" "java/lang/Throwable" "suppressedExceptions" "Ljava/util/List;") ∈ lw_all := lw_g (lw_at lw_m3 166 rfl) rfl
theorem q731 : (Jvm.Cond.lays "BagPhrases$Over" "java/lang/Throwable" "detailMessage" "Ljava/lang/String;") ∈ lw_all := lw_g (lw_at lw_m3 167 rfl) rfl
theorem q732 : (Jvm.Cond.lays "BagPhrases$Over" "java/lang/Throwable" "backtrace" "Ljava/lang/Object;") ∈ lw_all := lw_g (lw_at lw_m3 168 rfl) rfl
theorem q734 : (Jvm.Cond.instanceMethod ({ cls := "BagPhrases$Over", name := "<init>", desc := "(ILBagPhrases$Amiss;)V" } : Jvm.MethodName)) ∈ lw_all := lw_g (lw_at lw_m3 170 rfl) rfl
theorem q735 : (Jvm.Cond.code ({ cls := "BagPhrases$Over", name := "<init>", desc := "(ILBagPhrases$Amiss;)V" } : Jvm.MethodName) prog_5_method_1_code (3 : Nat) (Option.none : Option Jvm.ClassFile.FieldType)) ∈ lw_all := lw_g (lw_at lw_m3 171 rfl) rfl
theorem q736 : (Jvm.Cond.methodLink "BagPhrases$Over" (1 : Nat) ({ cls := "BagPhrases$Misfit", name := "<init>", desc := "(ILjava/lang/Throwable;)V" } : Jvm.MethodName)) ∈ lw_all := lw_g (lw_at lw_m3 172 rfl) rfl
theorem q737 : (Jvm.Cond.laysFinal "BagPhrases$Over" "BagPhrases$Misfit" "place" "I") ∈ lw_all := lw_g (lw_at lw_m3 173 rfl) rfl
theorem q738 : (Jvm.Cond.lays "BagPhrases$Over" "java/lang/Throwable" "depth" "I") ∈ lw_all := lw_g (lw_at lw_m3 174 rfl) rfl
theorem q739 : (Jvm.Cond.superclass "BagPhrases$Over" "BagPhrases$Misfit") ∈ lw_all := lw_g (lw_at lw_m3 175 rfl) rfl
theorem q765 : (Jvm.Cond.selects "BagPhrases$Over" ({ cls := "BagPhrases$Misfit", name := "reason", desc := "()I" } : Jvm.MethodName) ({ cls := "BagPhrases$Over", name := "reason", desc := "()I" } : Jvm.MethodName)) ∈ lw_all := lw_g (lw_at lw_m3 201 rfl) rfl
theorem q766 : (Jvm.Cond.instanceMethod ({ cls := "BagPhrases$Over", name := "reason", desc := "()I" } : Jvm.MethodName)) ∈ lw_all := lw_g (lw_at lw_m3 202 rfl) rfl
theorem q767 : (Jvm.Cond.code ({ cls := "BagPhrases$Over", name := "reason", desc := "()I" } : Jvm.MethodName) prog_5_method_2_code (1 : Nat) (Option.some Jvm.ClassFile.FieldType.int)) ∈ lw_all := lw_g (lw_at lw_m3 203 rfl) rfl
theorem q784 : (Jvm.Cond.selects "BagPhrases$Over" ({ cls := "BagPhrases$Misfit", name := "place", desc := "()I" } : Jvm.MethodName) ({ cls := "BagPhrases$Misfit", name := "place", desc := "()I" } : Jvm.MethodName)) ∈ lw_all := lw_g (lw_at lw_m3 220 rfl) rfl
theorem q794 : (Jvm.Cond.selects "BagPhrases$Over" ({ cls := "BagPhrases$Misfit", name := "getCause", desc := "()Ljava/lang/Throwable;" } : Jvm.MethodName) ({ cls := "java/lang/Throwable", name := "getCause", desc := "()Ljava/lang/Throwable;" } : Jvm.MethodName)) ∈ lw_all := lw_g (lw_at lw_m3 230 rfl) rfl
theorem q1391 : (Jvm.Cond.castable "BagPhrases$Over" "BagPhrases$Misfit") ∈ lw_tbl := lw_at lw_m6 107 rfl
theorem in_X10 : ∀ w ∈ wsX100, w ∈ lw_all := lw_in wsX100 [737, 728, 729, 730, 731, 732, 738] (by decide +kernel) (by decide +kernel)

/-! BagPhrases$Unended -/
set_option maxRecDepth 100000
def RX11 : String := "BagPhrases$Unended"
def TX11 : u_T := fun k => match k with
  | 0 => ("BagPhrases$Misfit", "place", "I", true)
  | 1 => ("java/lang/Throwable", "cause", "Ljava/lang/Throwable;", false)
  | 2 => ("java/lang/Throwable", "stackTrace", "[Ljava/lang/StackTraceElement;", false)
  | 3 => ("java/lang/Throwable", "suppressedExceptions", "Ljava/util/List;", false)
  | 4 => ("java/lang/Throwable", "detailMessage", "Ljava/lang/String;", false)
  | 5 => ("java/lang/Throwable", "backtrace", "Ljava/lang/Object;", false)
  | _ => ("java/lang/Throwable", "depth", "I", false)
def tyX11 : Nat → FieldType := fun k => match k with
  | 0 => .int
  | 1 => .object "java/lang/Throwable"
  | 2 => .array (.object "java/lang/StackTraceElement")
  | 3 => .object "java/util/List"
  | 4 => .object "java/lang/String"
  | 5 => .object "java/lang/Object"
  | _ => .int
abbrev wsX110 : List Cond := u_ws RX11 TX11 7
theorem nmX11 : ∀ a, a < 7 → ∀ b, b < 7 → a ≠ b → (TX11 a).2.1 ≠ (TX11 b).2.1 := by decide +kernel
theorem tyX11_ok : ∀ k, k < 7 → parseFieldDescriptor (TX11 k).2.2.1 = some (tyX11 k) := by decide +kernel
abbrev cX11_init : ByteArray := prog_8_method_1_code
def yX11_init : MethodName := ⟨RX11, "<init>", "(I)V"⟩
def dkwX11_init_0 : List UInt8 := [42, 27, 1, 183, 0, 1, 177]
abbrev dktX11_init_0 : List UInt8 := dkwX11_init_0 ++ []
theorem dksX11_init_0 : cX11_init.data.toList.drop 0 = dktX11_init_0 := by decide +kernel
theorem dX11_init_0 : decode cX11_init 0 = .ok (.aload_n 0, 1) := dk_42 (dk_at dksX11_init_0 0 rfl rfl)
theorem dX11_init_1 : decode cX11_init 1 = .ok (.iload_n 1, 1) := dk_27 (dk_at dksX11_init_0 1 rfl rfl)
theorem dX11_init_2 : decode cX11_init 2 = .ok (.aconst_null, 1) := dk_1 (dk_at dksX11_init_0 2 rfl rfl)
theorem dX11_init_3 : decode cX11_init 3 = .ok (.invokespecial 1, 3) := dk_183 0 1 (dk_at dksX11_init_0 3 rfl rfl)
theorem dX11_init_6 : decode cX11_init 6 = .ok (.return_, 1) := dk_177 (dk_at dksX11_init_0 6 rfl rfl)
abbrev cX11_reason : ByteArray := prog_8_method_2_code
def yX11_reason : MethodName := ⟨RX11, "reason", "()I"⟩
theorem dX11_reason_0 : decode cX11_reason 0 = .ok (.iconst 5, 1) := by decide +kernel
theorem dX11_reason_1 : decode cX11_reason 1 = .ok (.ireturn, 1) := by decide +kernel
theorem q100 : (Jvm.Cond.initialized "BagPhrases$Unended") ∈ lw_all := lw_g (lw_at lw_m1 16 rfl) rfl
theorem q608 : (Jvm.Cond.selects "BagPhrases$Unended" ({ cls := "java/lang/Throwable", name := "fillInStackTrace", desc := "()Ljava/lang/Throwable;" } : Jvm.MethodName) ({ cls := "java/lang/Throwable", name := "fillInStackTrace", desc := "()Ljava/lang/Throwable;" } : Jvm.MethodName)) ∈ lw_all := lw_g (lw_at lw_m3 44 rfl) rfl
theorem q741 : (Jvm.Cond.instantiable "BagPhrases$Unended" (7 : Nat)) ∈ lw_all := lw_g (lw_at lw_m3 177 rfl) rfl
theorem q742 : (Jvm.Cond.castable "BagPhrases$Unended" "BagPhrases$Unended") ∈ lw_tbl := lw_at lw_m3 178 rfl
theorem q743 : (Jvm.Cond.selects "BagPhrases$Unended" ({ cls := "java/lang/Throwable", name := "fillInStackTrace", desc := "(I)Ljava/lang/Throwable;" } : Jvm.MethodName) ({ cls := "java/lang/Throwable", name := "fillInStackTrace", desc := "(I)Ljava/lang/Throwable;" } : Jvm.MethodName)) ∈ lw_all := lw_g (lw_at lw_m3 179 rfl) rfl
theorem q744 : (Jvm.Cond.lays "BagPhrases$Unended" "java/lang/Throwable" "cause" "Ljava/lang/Throwable;") ∈ lw_all := lw_g (lw_at lw_m3 180 rfl) rfl
theorem q745 : (Jvm.Cond.lays "BagPhrases$Unended" "java/lang/Throwable" "stackTrace" "[Ljava/lang/StackTraceElement;") ∈ lw_all := lw_g (lw_at lw_m3 181 rfl) rfl
theorem q746 : (Jvm.Cond.lays "BagPhrases$Unended" "java/lang/Throwable" "suppressedExceptions" "Ljava/util/List;") ∈ lw_all := lw_g (lw_at lw_m3 182 rfl) rfl
theorem q747 : (Jvm.Cond.lays "BagPhrases$Unended" "java/lang/Throwable" "detailMessage" "Ljava/lang/String;") ∈ lw_all := lw_g (lw_at lw_m3 183 rfl) rfl
theorem q748 : (Jvm.Cond.lays "BagPhrases$Unended" "java/lang/Throwable" "backtrace" "Ljava/lang/Object;") ∈ lw_all := lw_g (lw_at lw_m3 184 rfl) rfl
theorem q750 : (Jvm.Cond.instanceMethod ({ cls := "BagPhrases$Unended", name := "<init>", desc := "(I)V" } : Jvm.MethodName)) ∈ lw_all := lw_g (lw_at lw_m3 186 rfl) rfl
theorem q751 : (Jvm.Cond.code ({ cls := "BagPhrases$Unended", name := "<init>", desc := "(I)V" } : Jvm.MethodName) prog_8_method_1_code (2 : Nat) (Option.none : Option Jvm.ClassFile.FieldType)) ∈ lw_all := lw_g (lw_at lw_m3 187 rfl) rfl
theorem q752 : (Jvm.Cond.methodLink "BagPhrases$Unended" (1 : Nat) ({ cls := "BagPhrases$Misfit", name := "<init>", desc := "(ILjava/lang/Throwable;)V" } : Jvm.MethodName)) ∈ lw_all := lw_g (lw_at lw_m3 188 rfl) rfl
theorem q753 : (Jvm.Cond.laysFinal "BagPhrases$Unended" "BagPhrases$Misfit" "place" "I") ∈ lw_all := lw_g (lw_at lw_m3 189 rfl) rfl
theorem q754 : (Jvm.Cond.lays "BagPhrases$Unended" "java/lang/Throwable" "depth" "I") ∈ lw_all := lw_g (lw_at lw_m3 190 rfl) rfl
theorem q755 : (Jvm.Cond.superclass "BagPhrases$Unended" "BagPhrases$Misfit") ∈ lw_all := lw_g (lw_at lw_m3 191 rfl) rfl
theorem q771 : (Jvm.Cond.selects "BagPhrases$Unended" ({ cls := "BagPhrases$Misfit", name := "reason", desc := "()I" } : Jvm.MethodName) ({ cls := "BagPhrases$Unended", name := "reason", desc := "()I" } : Jvm.MethodName)) ∈ lw_all := lw_g (lw_at lw_m3 207 rfl) rfl
theorem q772 : (Jvm.Cond.instanceMethod ({ cls := "BagPhrases$Unended", name := "reason", desc := "()I" } : Jvm.MethodName)) ∈ lw_all := lw_g (lw_at lw_m3 208 rfl) rfl
theorem q773 : (Jvm.Cond.code ({ cls := "BagPhrases$Unended", name := "reason", desc := "()I" } : Jvm.MethodName) prog_8_method_2_code (1 : Nat) (Option.some Jvm.ClassFile.FieldType.int)) ∈ lw_all := lw_g (lw_at lw_m3 209 rfl) rfl
theorem q786 : (Jvm.Cond.selects "BagPhrases$Unended" ({ cls := "BagPhrases$Misfit", name := "place", desc := "()I" } : Jvm.MethodName) ({ cls := "BagPhrases$Misfit", name := "place", desc := "()I" } : Jvm.MethodName)) ∈ lw_all := lw_g (lw_at lw_m3 222 rfl) rfl
theorem q796 : (Jvm.Cond.selects "BagPhrases$Unended" ({ cls := "BagPhrases$Misfit", name := "getCause", desc := "()Ljava/lang/Throwable;" } : Jvm.MethodName) ({ cls := "java/lang/Throwable", name := "getCause", desc := "()Ljava/lang/Throwable;" } : Jvm.MethodName)) ∈ lw_all := lw_g (lw_at lw_m3 232 rfl) rfl
theorem q1393 : (Jvm.Cond.castable "BagPhrases$Unended" "BagPhrases$Misfit") ∈ lw_tbl := lw_at lw_m6 109 rfl
theorem in_X11 : ∀ w ∈ wsX110, w ∈ lw_all := lw_in wsX110 [753, 744, 745, 746, 747, 748, 754] (by decide +kernel) (by decide +kernel)

theorem q111 : (Jvm.Cond.arrayOver (Jvm.ClassFile.FieldType.object "BagPhrases$Word")) ∈ lw_tbl := lw_at lw_m1 27 rfl
set_option maxRecDepth 100000
theorem q143 : (Jvm.Cond.arrayClass Jvm.ClassFile.FieldType.int) ∈ lw_all := lw_g (lw_at lw_m1 59 rfl) rfl
theorem q147 : (Jvm.Cond.arrayOver (Jvm.ClassFile.FieldType.object "BagPhrases$Setting")) ∈ lw_tbl := lw_at lw_m1 63 rfl
theorem q170 : (Jvm.Cond.arrayClass Jvm.ClassFile.FieldType.long) ∈ lw_all := lw_g (lw_at lw_m1 86 rfl) rfl
theorem q171 : (Jvm.Cond.arrayClass Jvm.ClassFile.FieldType.boolean) ∈ lw_all := lw_g (lw_at lw_m1 87 rfl) rfl

theorem q84 : (Jvm.Cond.initialized "BagPhrasesLaw") ∈ lw_all := lw_g (lw_at lw_m1 0 rfl) rfl
set_option maxRecDepth 100000
theorem q102 : (Jvm.Cond.classLink "BagPhrasesLaw" (7 : Nat) "BagPhrases") ∈ lw_all := lw_g (lw_at lw_m1 18 rfl) rfl
theorem q104 : (Jvm.Cond.methodLink "BagPhrasesLaw" (9 : Nat) ({ cls := "BagPhrases", name := "<init>", desc := "()V" } : Jvm.MethodName)) ∈ lw_all := lw_g (lw_at lw_m1 20 rfl) rfl
theorem q281 : (Jvm.Cond.methodLink "BagPhrasesLaw" (13 : Nat) ({ cls := "BagPhrases", name := "write", desc := "(I)I" } : Jvm.MethodName)) ∈ lw_all := lw_g (lw_at lw_m1 197 rfl) rfl
theorem q289 : (Jvm.Cond.methodLink "BagPhrasesLaw" (18 : Nat) ({ cls := "BagPhrases", name := "wipe", desc := "()I" } : Jvm.MethodName)) ∈ lw_all := lw_g (lw_at lw_m1 205 rfl) rfl
theorem q293 : (Jvm.Cond.methodLink "BagPhrasesLaw" (23 : Nat) ({ cls := "BagPhrases", name := "fault", desc := "()I" } : Jvm.MethodName)) ∈ lw_all := lw_g (lw_at lw_m1 209 rfl) rfl
theorem q355 : (Jvm.Cond.methodLink "BagPhrasesLaw" (27 : Nat) ({ cls := "BagPhrases", name := "house", desc := "()I" } : Jvm.MethodName)) ∈ lw_all := lw_g (lw_at lw_m2 31 rfl) rfl
theorem q364 : (Jvm.Cond.methodLink "BagPhrasesLaw" (31 : Nat) ({ cls := "BagPhrases", name := "about", desc := "(I)I" } : Jvm.MethodName)) ∈ lw_all := lw_g (lw_at lw_m2 40 rfl) rfl
theorem q436 : (Jvm.Cond.methodLink "BagPhrasesLaw" (35 : Nat) ({ cls := "BagPhrases", name := "word", desc := "(II)I" } : Jvm.MethodName)) ∈ lw_all := lw_g (lw_at lw_m2 112 rfl) rfl
theorem q463 : (Jvm.Cond.methodLink "BagPhrasesLaw" (40 : Nat) ({ cls := "BagPhrases", name := "letter", desc := "(II)I" } : Jvm.MethodName)) ∈ lw_all := lw_g (lw_at lw_m2 139 rfl) rfl
theorem q475 : (Jvm.Cond.methodLink "BagPhrasesLaw" (44 : Nat) ({ cls := "BagPhrases", name := "put", desc := "(I)I" } : Jvm.MethodName)) ∈ lw_all := lw_g (lw_at lw_m2 151 rfl) rfl
theorem q484 : (Jvm.Cond.methodLink "BagPhrasesLaw" (48 : Nat) ({ cls := "BagPhrases", name := "take", desc := "(I)I" } : Jvm.MethodName)) ∈ lw_all := lw_g (lw_at lw_m2 160 rfl) rfl
theorem q488 : (Jvm.Cond.methodLink "BagPhrasesLaw" (52 : Nat) ({ cls := "BagPhrases", name := "bar", desc := "(I)I" } : Jvm.MethodName)) ∈ lw_all := lw_g (lw_at lw_m2 164 rfl) rfl
theorem q492 : (Jvm.Cond.methodLink "BagPhrasesLaw" (56 : Nat) ({ cls := "BagPhrases", name := "rank", desc := "(II)I" } : Jvm.MethodName)) ∈ lw_all := lw_g (lw_at lw_m2 168 rfl) rfl
theorem q497 : (Jvm.Cond.methodLink "BagPhrasesLaw" (60 : Nat) ({ cls := "BagPhrases", name := "allow", desc := "(III)I" } : Jvm.MethodName)) ∈ lw_all := lw_g (lw_at lw_m2 173 rfl) rfl
theorem q502 : (Jvm.Cond.methodLink "BagPhrasesLaw" (65 : Nat) ({ cls := "BagPhrases", name := "undo", desc := "()I" } : Jvm.MethodName)) ∈ lw_all := lw_g (lw_at lw_m2 178 rfl) rfl
theorem q506 : (Jvm.Cond.methodLink "BagPhrasesLaw" (69 : Nat) ({ cls := "BagPhrases", name := "many", desc := "(I)J" } : Jvm.MethodName)) ∈ lw_all := lw_g (lw_at lw_m2 182 rfl) rfl
theorem q516 : (Jvm.Cond.methodLink "BagPhrasesLaw" (74 : Nat) ({ cls := "BagPhrases", name := "having", desc := "(I)J" } : Jvm.MethodName)) ∈ lw_all := lw_g (lw_at lw_m2 192 rfl) rfl
theorem q521 : (Jvm.Cond.methodLink "BagPhrasesLaw" (78 : Nat) ({ cls := "BagPhrases", name := "best", desc := "(I)I" } : Jvm.MethodName)) ∈ lw_all := lw_g (lw_at lw_m2 197 rfl) rfl
theorem q541 : (Jvm.Cond.methodLink "BagPhrasesLaw" (84 : Nat) ({ cls := "BagPhrases", name := "phrase", desc := "(JI)I" } : Jvm.MethodName)) ∈ lw_all := lw_g (lw_at lw_m2 217 rfl) rfl
theorem q549 : (Jvm.Cond.methodLink "BagPhrasesLaw" (89 : Nat) ({ cls := "BagPhrases", name := "tell", desc := "(I)I" } : Jvm.MethodName)) ∈ lw_all := lw_g (lw_at lw_m2 225 rfl) rfl
theorem q553 : (Jvm.Cond.methodLink "BagPhrasesLaw" (93 : Nat) ({ cls := "BagPhrases", name := "clear", desc := "()I" } : Jvm.MethodName)) ∈ lw_all := lw_g (lw_at lw_m2 229 rfl) rfl
theorem q557 : (Jvm.Cond.methodLink "BagPhrasesLaw" (97 : Nat) ({ cls := "BagPhrases", name := "why", desc := "(I)I" } : Jvm.MethodName)) ∈ lw_all := lw_g (lw_at lw_m2 233 rfl) rfl
theorem q801 : (Jvm.Cond.methodLink "BagPhrasesLaw" (101 : Nat) ({ cls := "BagPhrases", name := "number", desc := "()J" } : Jvm.MethodName)) ∈ lw_all := lw_g (lw_at lw_m3 237 rfl) rfl
theorem q809 : (Jvm.Cond.methodLink "BagPhrasesLaw" (106 : Nat) ({ cls := "BagPhrases", name := "nearly", desc := "(I)I" } : Jvm.MethodName)) ∈ lw_all := lw_g (lw_at lw_m4 5 rfl) rfl
theorem q813 : (Jvm.Cond.methodLink "BagPhrasesLaw" (110 : Nat) ({ cls := "BagPhrases", name := "judge", desc := "(IJ)I" } : Jvm.MethodName)) ∈ lw_all := lw_g (lw_at lw_m4 9 rfl) rfl
theorem q830 : (Jvm.Cond.methodLink "BagPhrasesLaw" (115 : Nat) ({ cls := "BagPhrases", name := "see", desc := "(III)I" } : Jvm.MethodName)) ∈ lw_all := lw_g (lw_at lw_m4 26 rfl) rfl
theorem q834 : (Jvm.Cond.methodLink "BagPhrasesLaw" (119 : Nat) ({ cls := "BagPhrases", name := "unsee", desc := "()I" } : Jvm.MethodName)) ∈ lw_all := lw_g (lw_at lw_m4 30 rfl) rfl
theorem q838 : (Jvm.Cond.methodLink "BagPhrasesLaw" (123 : Nat) ({ cls := "BagPhrases", name := "left", desc := "(I)I" } : Jvm.MethodName)) ∈ lw_all := lw_g (lw_at lw_m4 34 rfl) rfl
theorem q851 : (Jvm.Cond.methodLink "BagPhrasesLaw" (127 : Nat) ({ cls := "BagPhrases", name := "share", desc := "(IZ)J" } : Jvm.MethodName)) ∈ lw_all := lw_g (lw_at lw_m4 47 rfl) rfl
theorem q875 : (Jvm.Cond.methodLink "BagPhrasesLaw" (132 : Nat) ({ cls := "BagPhrases", name := "hope", desc := "(IZ)I" } : Jvm.MethodName)) ∈ lw_all := lw_g (lw_at lw_m4 71 rfl) rfl
theorem q883 : (Jvm.Cond.methodLink "BagPhrasesLaw" (137 : Nat) ({ cls := "BagPhrases", name := "seed", desc := "(J)J" } : Jvm.MethodName)) ∈ lw_all := lw_g (lw_at lw_m4 79 rfl) rfl
theorem q887 : (Jvm.Cond.methodLink "BagPhrasesLaw" (142 : Nat) ({ cls := "BagPhrases", name := "drawn", desc := "(I)I" } : Jvm.MethodName)) ∈ lw_all := lw_g (lw_at lw_m4 83 rfl) rfl
theorem q894 : (Jvm.Cond.methodLink "BagPhrasesLaw" (146 : Nat) ({ cls := "BagPhrases", name := "keep", desc := "(I)I" } : Jvm.MethodName)) ∈ lw_all := lw_g (lw_at lw_m4 90 rfl) rfl
theorem q898 : (Jvm.Cond.methodLink "BagPhrasesLaw" (150 : Nat) ({ cls := "BagPhrases", name := "again", desc := "(I)I" } : Jvm.MethodName)) ∈ lw_all := lw_g (lw_at lw_m4 94 rfl) rfl
theorem q902 : (Jvm.Cond.classLink "BagPhrasesLaw" (10 : Nat) "BagPhrasesModel") ∈ lw_all := lw_g (lw_at lw_m4 98 rfl) rfl
theorem q904 : (Jvm.Cond.methodLink "BagPhrasesLaw" (12 : Nat) ({ cls := "BagPhrasesModel", name := "<init>", desc := "()V" } : Jvm.MethodName)) ∈ lw_all := lw_g (lw_at lw_m4 100 rfl) rfl
theorem q1047 : (Jvm.Cond.methodLink "BagPhrasesLaw" (17 : Nat) ({ cls := "BagPhrasesModel", name := "write", desc := "(I)I" } : Jvm.MethodName)) ∈ lw_all := lw_g (lw_at lw_m5 3 rfl) rfl
theorem q1055 : (Jvm.Cond.methodLink "BagPhrasesLaw" (22 : Nat) ({ cls := "BagPhrasesModel", name := "wipe", desc := "()I" } : Jvm.MethodName)) ∈ lw_all := lw_g (lw_at lw_m5 11 rfl) rfl
theorem q1059 : (Jvm.Cond.methodLink "BagPhrasesLaw" (26 : Nat) ({ cls := "BagPhrasesModel", name := "fault", desc := "()I" } : Jvm.MethodName)) ∈ lw_all := lw_g (lw_at lw_m5 15 rfl) rfl
theorem q1107 : (Jvm.Cond.methodLink "BagPhrasesLaw" (30 : Nat) ({ cls := "BagPhrasesModel", name := "house", desc := "()I" } : Jvm.MethodName)) ∈ lw_all := lw_g (lw_at lw_m5 63 rfl) rfl
theorem q1114 : (Jvm.Cond.methodLink "BagPhrasesLaw" (34 : Nat) ({ cls := "BagPhrasesModel", name := "about", desc := "(I)I" } : Jvm.MethodName)) ∈ lw_all := lw_g (lw_at lw_m5 70 rfl) rfl
theorem q1170 : (Jvm.Cond.methodLink "BagPhrasesLaw" (39 : Nat) ({ cls := "BagPhrasesModel", name := "word", desc := "(II)I" } : Jvm.MethodName)) ∈ lw_all := lw_g (lw_at lw_m5 126 rfl) rfl
theorem q1194 : (Jvm.Cond.methodLink "BagPhrasesLaw" (43 : Nat) ({ cls := "BagPhrasesModel", name := "letter", desc := "(II)I" } : Jvm.MethodName)) ∈ lw_all := lw_g (lw_at lw_m5 150 rfl) rfl
theorem q1202 : (Jvm.Cond.methodLink "BagPhrasesLaw" (47 : Nat) ({ cls := "BagPhrasesModel", name := "put", desc := "(I)I" } : Jvm.MethodName)) ∈ lw_all := lw_g (lw_at lw_m5 158 rfl) rfl
theorem q1210 : (Jvm.Cond.methodLink "BagPhrasesLaw" (51 : Nat) ({ cls := "BagPhrasesModel", name := "take", desc := "(I)I" } : Jvm.MethodName)) ∈ lw_all := lw_g (lw_at lw_m5 166 rfl) rfl
theorem q1214 : (Jvm.Cond.methodLink "BagPhrasesLaw" (55 : Nat) ({ cls := "BagPhrasesModel", name := "bar", desc := "(I)I" } : Jvm.MethodName)) ∈ lw_all := lw_g (lw_at lw_m5 170 rfl) rfl
theorem q1218 : (Jvm.Cond.methodLink "BagPhrasesLaw" (59 : Nat) ({ cls := "BagPhrasesModel", name := "rank", desc := "(II)I" } : Jvm.MethodName)) ∈ lw_all := lw_g (lw_at lw_m5 174 rfl) rfl
theorem q1223 : (Jvm.Cond.methodLink "BagPhrasesLaw" (64 : Nat) ({ cls := "BagPhrasesModel", name := "allow", desc := "(III)I" } : Jvm.MethodName)) ∈ lw_all := lw_g (lw_at lw_m5 179 rfl) rfl
theorem q1228 : (Jvm.Cond.methodLink "BagPhrasesLaw" (68 : Nat) ({ cls := "BagPhrasesModel", name := "undo", desc := "()I" } : Jvm.MethodName)) ∈ lw_all := lw_g (lw_at lw_m5 184 rfl) rfl
theorem q1232 : (Jvm.Cond.methodLink "BagPhrasesLaw" (73 : Nat) ({ cls := "BagPhrasesModel", name := "many", desc := "(I)J" } : Jvm.MethodName)) ∈ lw_all := lw_g (lw_at lw_m5 188 rfl) rfl
theorem q1238 : (Jvm.Cond.methodLink "BagPhrasesLaw" (77 : Nat) ({ cls := "BagPhrasesModel", name := "having", desc := "(I)J" } : Jvm.MethodName)) ∈ lw_all := lw_g (lw_at lw_m5 194 rfl) rfl
theorem q1243 : (Jvm.Cond.methodLink "BagPhrasesLaw" (81 : Nat) ({ cls := "BagPhrasesModel", name := "best", desc := "(I)I" } : Jvm.MethodName)) ∈ lw_all := lw_g (lw_at lw_m5 199 rfl) rfl
theorem q1264 : (Jvm.Cond.methodLink "BagPhrasesLaw" (88 : Nat) ({ cls := "BagPhrasesModel", name := "phrase", desc := "(JI)I" } : Jvm.MethodName)) ∈ lw_all := lw_g (lw_at lw_m5 220 rfl) rfl
theorem q1272 : (Jvm.Cond.methodLink "BagPhrasesLaw" (92 : Nat) ({ cls := "BagPhrasesModel", name := "tell", desc := "(I)I" } : Jvm.MethodName)) ∈ lw_all := lw_g (lw_at lw_m5 228 rfl) rfl
theorem q1276 : (Jvm.Cond.methodLink "BagPhrasesLaw" (96 : Nat) ({ cls := "BagPhrasesModel", name := "clear", desc := "()I" } : Jvm.MethodName)) ∈ lw_all := lw_g (lw_at lw_m5 232 rfl) rfl
theorem q1280 : (Jvm.Cond.methodLink "BagPhrasesLaw" (100 : Nat) ({ cls := "BagPhrasesModel", name := "why", desc := "(I)I" } : Jvm.MethodName)) ∈ lw_all := lw_g (lw_at lw_m5 236 rfl) rfl
theorem q1292 : (Jvm.Cond.methodLink "BagPhrasesLaw" (105 : Nat) ({ cls := "BagPhrasesModel", name := "number", desc := "()J" } : Jvm.MethodName)) ∈ lw_all := lw_g (lw_at lw_m6 8 rfl) rfl
theorem q1297 : (Jvm.Cond.methodLink "BagPhrasesLaw" (109 : Nat) ({ cls := "BagPhrasesModel", name := "nearly", desc := "(I)I" } : Jvm.MethodName)) ∈ lw_all := lw_g (lw_at lw_m6 13 rfl) rfl
theorem q1301 : (Jvm.Cond.methodLink "BagPhrasesLaw" (114 : Nat) ({ cls := "BagPhrasesModel", name := "judge", desc := "(IJ)I" } : Jvm.MethodName)) ∈ lw_all := lw_g (lw_at lw_m6 17 rfl) rfl
theorem q1314 : (Jvm.Cond.methodLink "BagPhrasesLaw" (118 : Nat) ({ cls := "BagPhrasesModel", name := "see", desc := "(III)I" } : Jvm.MethodName)) ∈ lw_all := lw_g (lw_at lw_m6 30 rfl) rfl
theorem q1318 : (Jvm.Cond.methodLink "BagPhrasesLaw" (122 : Nat) ({ cls := "BagPhrasesModel", name := "unsee", desc := "()I" } : Jvm.MethodName)) ∈ lw_all := lw_g (lw_at lw_m6 34 rfl) rfl
theorem q1322 : (Jvm.Cond.methodLink "BagPhrasesLaw" (126 : Nat) ({ cls := "BagPhrasesModel", name := "left", desc := "(I)I" } : Jvm.MethodName)) ∈ lw_all := lw_g (lw_at lw_m6 38 rfl) rfl
theorem q1331 : (Jvm.Cond.methodLink "BagPhrasesLaw" (131 : Nat) ({ cls := "BagPhrasesModel", name := "share", desc := "(IZ)J" } : Jvm.MethodName)) ∈ lw_all := lw_g (lw_at lw_m6 47 rfl) rfl
theorem q1361 : (Jvm.Cond.methodLink "BagPhrasesLaw" (136 : Nat) ({ cls := "BagPhrasesModel", name := "hope", desc := "(IZ)I" } : Jvm.MethodName)) ∈ lw_all := lw_g (lw_at lw_m6 77 rfl) rfl
theorem q1369 : (Jvm.Cond.methodLink "BagPhrasesLaw" (141 : Nat) ({ cls := "BagPhrasesModel", name := "seed", desc := "(J)J" } : Jvm.MethodName)) ∈ lw_all := lw_g (lw_at lw_m6 85 rfl) rfl
theorem q1373 : (Jvm.Cond.methodLink "BagPhrasesLaw" (145 : Nat) ({ cls := "BagPhrasesModel", name := "drawn", desc := "(I)I" } : Jvm.MethodName)) ∈ lw_all := lw_g (lw_at lw_m6 89 rfl) rfl
theorem q1380 : (Jvm.Cond.methodLink "BagPhrasesLaw" (149 : Nat) ({ cls := "BagPhrasesModel", name := "keep", desc := "(I)I" } : Jvm.MethodName)) ∈ lw_all := lw_g (lw_at lw_m6 96 rfl) rfl
theorem q1384 : (Jvm.Cond.methodLink "BagPhrasesLaw" (153 : Nat) ({ cls := "BagPhrasesModel", name := "again", desc := "(I)I" } : Jvm.MethodName)) ∈ lw_all := lw_g (lw_at lw_m6 100 rfl) rfl
theorem q1388 : (Jvm.Cond.constantLong "BagPhrasesLaw" (82 : Nat) (4294967295 : Int64)) ∈ lw_all := lw_g (lw_at lw_m6 104 rfl) rfl

theorem q89 : (Jvm.Cond.initialized "java/lang/System") ∈ lw_all := lw_g (lw_at lw_m1 5 rfl) rfl
set_option maxRecDepth 100000
theorem q306 : (Jvm.Cond.static ({ cls := "java/lang/System", name := "arraycopy", desc := "(Ljava/lang/Object;ILjava/lang/Object;II)V" } : Jvm.MethodName)) ∈ lw_all := lw_g (lw_at lw_m1 222 rfl) rfl
theorem q307 : (Jvm.Cond.native ({ cls := "java/lang/System", name := "arraycopy", desc := "(Ljava/lang/Object;ILjava/lang/Object;II)V" } : Jvm.MethodName)) ∈ lw_all := lw_g (lw_at lw_m1 223 rfl) rfl
