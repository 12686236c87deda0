/-! BagPhrasesModel -/
set_option maxRecDepth 100000
def RX3 : String := "BagPhrasesModel"
def TX3 : u_T := fun k => match k with
  | 0 => ("BagPhrasesModel", "text", "[I", true)
  | 1 => ("BagPhrasesModel", "length", "I", false)
  | 2 => ("BagPhrasesModel", "words", "I", false)
  | 3 => ("BagPhrasesModel", "spelt", "[I", true)
  | 4 => ("BagPhrasesModel", "size", "[I", true)
  | 5 => ("BagPhrasesModel", "kind", "[I", true)
  | 6 => ("BagPhrasesModel", "need", "[I", true)
  | 7 => ("BagPhrasesModel", "now", "[I", true)
  | 8 => ("BagPhrasesModel", "trial", "[I", true)
  | 9 => ("BagPhrasesModel", "diary", "[I", true)
  | 10 => ("BagPhrasesModel", "doings", "I", false)
  | 11 => ("BagPhrasesModel", "next", "I", false)
  | 12 => ("BagPhrasesModel", "kept", "[I", true)
  | 13 => ("BagPhrasesModel", "isKept", "[Z", true)
  | 14 => ("BagPhrasesModel", "told", "[I", true)
  | 15 => ("BagPhrasesModel", "tellings", "I", false)
  | 16 => ("BagPhrasesModel", "seenWhat", "[I", true)
  | 17 => ("BagPhrasesModel", "seenOf", "[I", true)
  | 18 => ("BagPhrasesModel", "seenWas", "[I", true)
  | 19 => ("BagPhrasesModel", "seen", "I", false)
  | 20 => ("BagPhrasesModel", "seed", "J", false)
  | 21 => ("BagPhrasesModel", "readWords", "I", false)
  | 22 => ("BagPhrasesModel", "readSpelt", "[I", true)
  | 23 => ("BagPhrasesModel", "readSize", "[I", true)
  | 24 => ("BagPhrasesModel", "readKind", "[I", true)
  | 25 => ("BagPhrasesModel", "readRow", "[I", true)
  | 26 => ("BagPhrasesModel", "part", "I", false)
  | 27 => ("BagPhrasesModel", "place", "I", false)
  | 28 => ("BagPhrasesModel", "readFirst", "I", false)
  | 29 => ("BagPhrasesModel", "open", "[I", true)
  | 30 => ("BagPhrasesModel", "base", "[I", true)
  | 31 => ("BagPhrasesModel", "whole", "I", false)
  | 32 => ("BagPhrasesModel", "allowed", "I", false)
  | 33 => ("BagPhrasesModel", "price", "[I", true)
  | 34 => ("BagPhrasesModel", "ways", "[J", true)
  | 35 => ("BagPhrasesModel", "layer", "[J", true)
  | 36 => ("BagPhrasesModel", "later", "[J", true)
  | 37 => ("BagPhrasesModel", "best", "[I", true)
  | 38 => ("BagPhrasesModel", "fits", "[Z", true)
  | 39 => ("BagPhrasesModel", "found", "[I", true)
  | 40 => ("BagPhrasesModel", "left", "[I", true)
  | 41 => ("BagPhrasesModel", "whyAt", "I", false)
  | 42 => ("BagPhrasesModel", "whyLetter", "I", false)
  | 43 => ("BagPhrasesModel", "whyMany", "I", false)
  | _ => ("BagPhrasesModel", "worth", "[J", true)
def tyX3 : Nat → FieldType := fun k => match k with
  | 0 => .array .int
  | 1 => .int
  | 2 => .int
  | 3 => .array .int
  | 4 => .array .int
  | 5 => .array .int
  | 6 => .array .int
  | 7 => .array .int
  | 8 => .array .int
  | 9 => .array .int
  | 10 => .int
  | 11 => .int
  | 12 => .array .int
  | 13 => .array .boolean
  | 14 => .array .int
  | 15 => .int
  | 16 => .array .int
  | 17 => .array .int
  | 18 => .array .int
  | 19 => .int
  | 20 => .long
  | 21 => .int
  | 22 => .array .int
  | 23 => .array .int
  | 24 => .array .int
  | 25 => .array .int
  | 26 => .int
  | 27 => .int
  | 28 => .int
  | 29 => .array .int
  | 30 => .array .int
  | 31 => .int
  | 32 => .int
  | 33 => .array .int
  | 34 => .array .long
  | 35 => .array .long
  | 36 => .array .long
  | 37 => .array .int
  | 38 => .array .boolean
  | 39 => .array .int
  | 40 => .array .int
  | 41 => .int
  | 42 => .int
  | 43 => .int
  | _ => .array .long
abbrev wsX30 : List Cond := u_ws RX3 TX3 45
set_option maxRecDepth 100000 in
theorem nmX3 : ∀ a, a < 45 → ∀ b, b < 45 → a ≠ b → (TX3 a).2.1 ≠ (TX3 b).2.1 := by decide +kernel
set_option maxRecDepth 100000 in
theorem tyX3_ok : ∀ k, k < 45 → parseFieldDescriptor (TX3 k).2.2.1 = some (tyX3 k) := by decide +kernel
abbrev cX3_init : ByteArray := prog_13_method_1_code
def yX3_init : MethodName := ⟨RX3, "<init>", "()V"⟩
def dkwX3_init_10 : List UInt8 := [42, 17, 1, 0, 188, 11, 181, 0, 96, 42, 180, 0, 25, 184, 0, 99, 177]
abbrev dktX3_init_10 : List UInt8 := dkwX3_init_10 ++ []
def dkwX3_init_9 : List UInt8 := [17, 75, 240, 188, 4, 181, 0, 87, 42, 16, 12, 188, 10, 181, 0, 90, 42, 16, 8, 188, 10, 181, 0, 93]
abbrev dktX3_init_9 : List UInt8 := dkwX3_init_9 ++ dktX3_init_10
def dkwX3_init_8 : List UInt8 := [181, 0, 78, 42, 17, 37, 248, 188, 11, 181, 0, 81, 42, 17, 37, 248, 188, 10, 181, 0, 84, 42]
abbrev dktX3_init_8 : List UInt8 := dkwX3_init_8 ++ dktX3_init_9
def dkwX3_init_7 : List UInt8 := [16, 10, 188, 10, 181, 0, 71, 42, 17, 37, 248, 188, 11, 181, 0, 74, 42, 17, 37, 248, 188, 11]
abbrev dktX3_init_7 : List UInt8 := dkwX3_init_7 ++ dktX3_init_8
def dkwX3_init_6 : List UInt8 := [16, 25, 188, 10, 181, 0, 62, 42, 16, 25, 188, 10, 181, 0, 65, 42, 16, 9, 188, 10, 181, 0, 68, 42]
abbrev dktX3_init_6 : List UInt8 := dkwX3_init_6 ++ dktX3_init_7
def dkwX3_init_5 : List UInt8 := [16, 60, 188, 10, 181, 0, 53, 42, 16, 10, 188, 10, 181, 0, 56, 42, 16, 10, 188, 10, 181, 0, 59, 42]
abbrev dktX3_init_5 : List UInt8 := dkwX3_init_5 ++ dktX3_init_6
def dkwX3_init_4 : List UInt8 := [16, 6, 188, 10, 181, 0, 44, 42, 16, 6, 188, 10, 181, 0, 47, 42, 16, 6, 188, 10, 181, 0, 50, 42]
abbrev dktX3_init_4 : List UInt8 := dkwX3_init_4 ++ dktX3_init_5
def dkwX3_init_3 : List UInt8 := [16, 50, 188, 10, 181, 0, 34, 42, 5, 188, 4, 181, 0, 37, 42, 16, 12, 188, 10, 181, 0, 41, 42]
abbrev dktX3_init_3 : List UInt8 := dkwX3_init_3 ++ dktX3_init_4
def dkwX3_init_2 : List UInt8 := [188, 10, 181, 0, 25, 42, 16, 25, 188, 10, 181, 0, 28, 42, 17, 1, 94, 188, 10, 181, 0, 31, 42]
abbrev dktX3_init_2 : List UInt8 := dkwX3_init_2 ++ dktX3_init_3
def dkwX3_init_1 : List UInt8 := [188, 10, 181, 0, 16, 42, 16, 10, 188, 10, 181, 0, 19, 42, 16, 80, 188, 10, 181, 0, 22, 42, 16, 25]
abbrev dktX3_init_1 : List UInt8 := dkwX3_init_1 ++ dktX3_init_2
def dkwX3_init_0 : List UInt8 := [42, 183, 0, 1, 42, 17, 0, 180, 188, 10, 181, 0, 7, 42, 16, 60, 188, 10, 181, 0, 13, 42, 16, 10]
abbrev dktX3_init_0 : List UInt8 := dkwX3_init_0 ++ dktX3_init_1
theorem dksX3_init_0 : cX3_init.data.toList.drop 0 = dktX3_init_0 := by decide +kernel
theorem dksX3_init_1 : cX3_init.data.toList.drop 24 = dktX3_init_1 := dk_seg dksX3_init_0 24 rfl rfl
theorem dksX3_init_2 : cX3_init.data.toList.drop 48 = dktX3_init_2 := dk_seg dksX3_init_1 24 rfl rfl
theorem dksX3_init_3 : cX3_init.data.toList.drop 71 = dktX3_init_3 := dk_seg dksX3_init_2 23 rfl rfl
theorem dksX3_init_4 : cX3_init.data.toList.drop 94 = dktX3_init_4 := dk_seg dksX3_init_3 23 rfl rfl
theorem dksX3_init_5 : cX3_init.data.toList.drop 118 = dktX3_init_5 := dk_seg dksX3_init_4 24 rfl rfl
theorem dksX3_init_6 : cX3_init.data.toList.drop 142 = dktX3_init_6 := dk_seg dksX3_init_5 24 rfl rfl
theorem dksX3_init_7 : cX3_init.data.toList.drop 166 = dktX3_init_7 := dk_seg dksX3_init_6 24 rfl rfl
theorem dksX3_init_8 : cX3_init.data.toList.drop 188 = dktX3_init_8 := dk_seg dksX3_init_7 22 rfl rfl
theorem dksX3_init_9 : cX3_init.data.toList.drop 210 = dktX3_init_9 := dk_seg dksX3_init_8 22 rfl rfl
theorem dksX3_init_10 : cX3_init.data.toList.drop 234 = dktX3_init_10 := dk_seg dksX3_init_9 24 rfl rfl
theorem dX3_init_0 : decode cX3_init 0 = .ok (.aload_n 0, 1) := dk_42 (dk_at dksX3_init_0 0 rfl rfl)
theorem dX3_init_1 : decode cX3_init 1 = .ok (.invokespecial 1, 3) := dk_183 0 1 (dk_at dksX3_init_0 1 rfl rfl)
theorem dX3_init_4 : decode cX3_init 4 = .ok (.aload_n 0, 1) := dk_42 (dk_at dksX3_init_0 4 rfl rfl)
theorem dX3_init_5 : decode cX3_init 5 = .ok (.sipush 180, 3) := dk_17 0 180 (dk_at dksX3_init_0 5 rfl rfl)
theorem dX3_init_8 : decode cX3_init 8 = .ok (.newarray .int, 2) := dk_188_10 (dk_at dksX3_init_0 8 rfl rfl)
theorem dX3_init_10 : decode cX3_init 10 = .ok (.putfield 7, 3) := dk_181 0 7 (dk_at dksX3_init_0 10 rfl rfl)
theorem dX3_init_13 : decode cX3_init 13 = .ok (.aload_n 0, 1) := dk_42 (dk_at dksX3_init_0 13 rfl rfl)
theorem dX3_init_14 : decode cX3_init 14 = .ok (.bipush 60, 2) := dk_16 60 (dk_at dksX3_init_0 14 rfl rfl)
theorem dX3_init_16 : decode cX3_init 16 = .ok (.newarray .int, 2) := dk_188_10 (dk_at dksX3_init_0 16 rfl rfl)
theorem dX3_init_18 : decode cX3_init 18 = .ok (.putfield 13, 3) := dk_181 0 13 (dk_at dksX3_init_0 18 rfl rfl)
theorem dX3_init_21 : decode cX3_init 21 = .ok (.aload_n 0, 1) := dk_42 (dk_at dksX3_init_0 21 rfl rfl)
theorem dX3_init_22 : decode cX3_init 22 = .ok (.bipush 10, 2) := dk_16 10 (dk_at dksX3_init_0 22 rfl rfl)
theorem dX3_init_24 : decode cX3_init 24 = .ok (.newarray .int, 2) := dk_188_10 (dk_at dksX3_init_1 0 rfl rfl)
theorem dX3_init_26 : decode cX3_init 26 = .ok (.putfield 16, 3) := dk_181 0 16 (dk_at dksX3_init_1 2 rfl rfl)
theorem dX3_init_29 : decode cX3_init 29 = .ok (.aload_n 0, 1) := dk_42 (dk_at dksX3_init_1 5 rfl rfl)
theorem dX3_init_30 : decode cX3_init 30 = .ok (.bipush 10, 2) := dk_16 10 (dk_at dksX3_init_1 6 rfl rfl)
theorem dX3_init_32 : decode cX3_init 32 = .ok (.newarray .int, 2) := dk_188_10 (dk_at dksX3_init_1 8 rfl rfl)
theorem dX3_init_34 : decode cX3_init 34 = .ok (.putfield 19, 3) := dk_181 0 19 (dk_at dksX3_init_1 10 rfl rfl)
theorem dX3_init_37 : decode cX3_init 37 = .ok (.aload_n 0, 1) := dk_42 (dk_at dksX3_init_1 13 rfl rfl)
theorem dX3_init_38 : decode cX3_init 38 = .ok (.bipush 80, 2) := dk_16 80 (dk_at dksX3_init_1 14 rfl rfl)
theorem dX3_init_40 : decode cX3_init 40 = .ok (.newarray .int, 2) := dk_188_10 (dk_at dksX3_init_1 16 rfl rfl)
theorem dX3_init_42 : decode cX3_init 42 = .ok (.putfield 22, 3) := dk_181 0 22 (dk_at dksX3_init_1 18 rfl rfl)
theorem dX3_init_45 : decode cX3_init 45 = .ok (.aload_n 0, 1) := dk_42 (dk_at dksX3_init_1 21 rfl rfl)
theorem dX3_init_46 : decode cX3_init 46 = .ok (.bipush 25, 2) := dk_16 25 (dk_at dksX3_init_1 22 rfl rfl)
theorem dX3_init_48 : decode cX3_init 48 = .ok (.newarray .int, 2) := dk_188_10 (dk_at dksX3_init_2 0 rfl rfl)
theorem dX3_init_50 : decode cX3_init 50 = .ok (.putfield 25, 3) := dk_181 0 25 (dk_at dksX3_init_2 2 rfl rfl)
theorem dX3_init_53 : decode cX3_init 53 = .ok (.aload_n 0, 1) := dk_42 (dk_at dksX3_init_2 5 rfl rfl)
theorem dX3_init_54 : decode cX3_init 54 = .ok (.bipush 25, 2) := dk_16 25 (dk_at dksX3_init_2 6 rfl rfl)
theorem dX3_init_56 : decode cX3_init 56 = .ok (.newarray .int, 2) := dk_188_10 (dk_at dksX3_init_2 8 rfl rfl)
theorem dX3_init_58 : decode cX3_init 58 = .ok (.putfield 28, 3) := dk_181 0 28 (dk_at dksX3_init_2 10 rfl rfl)
theorem dX3_init_61 : decode cX3_init 61 = .ok (.aload_n 0, 1) := dk_42 (dk_at dksX3_init_2 13 rfl rfl)
theorem dX3_init_62 : decode cX3_init 62 = .ok (.sipush 350, 3) := dk_17 1 94 (dk_at dksX3_init_2 14 rfl rfl)
theorem dX3_init_65 : decode cX3_init 65 = .ok (.newarray .int, 2) := dk_188_10 (dk_at dksX3_init_2 17 rfl rfl)
theorem dX3_init_67 : decode cX3_init 67 = .ok (.putfield 31, 3) := dk_181 0 31 (dk_at dksX3_init_2 19 rfl rfl)
theorem dX3_init_70 : decode cX3_init 70 = .ok (.aload_n 0, 1) := dk_42 (dk_at dksX3_init_2 22 rfl rfl)
theorem dX3_init_71 : decode cX3_init 71 = .ok (.bipush 50, 2) := dk_16 50 (dk_at dksX3_init_3 0 rfl rfl)
theorem dX3_init_73 : decode cX3_init 73 = .ok (.newarray .int, 2) := dk_188_10 (dk_at dksX3_init_3 2 rfl rfl)
theorem dX3_init_75 : decode cX3_init 75 = .ok (.putfield 34, 3) := dk_181 0 34 (dk_at dksX3_init_3 4 rfl rfl)
theorem dX3_init_78 : decode cX3_init 78 = .ok (.aload_n 0, 1) := dk_42 (dk_at dksX3_init_3 7 rfl rfl)
theorem dX3_init_79 : decode cX3_init 79 = .ok (.iconst 2, 1) := dk_5 (dk_at dksX3_init_3 8 rfl rfl)
theorem dX3_init_80 : decode cX3_init 80 = .ok (.newarray .boolean, 2) := dk_188_4 (dk_at dksX3_init_3 9 rfl rfl)
theorem dX3_init_82 : decode cX3_init 82 = .ok (.putfield 37, 3) := dk_181 0 37 (dk_at dksX3_init_3 11 rfl rfl)
theorem dX3_init_85 : decode cX3_init 85 = .ok (.aload_n 0, 1) := dk_42 (dk_at dksX3_init_3 14 rfl rfl)
theorem dX3_init_86 : decode cX3_init 86 = .ok (.bipush 12, 2) := dk_16 12 (dk_at dksX3_init_3 15 rfl rfl)
theorem dX3_init_88 : decode cX3_init 88 = .ok (.newarray .int, 2) := dk_188_10 (dk_at dksX3_init_3 17 rfl rfl)
theorem dX3_init_90 : decode cX3_init 90 = .ok (.putfield 41, 3) := dk_181 0 41 (dk_at dksX3_init_3 19 rfl rfl)
theorem dX3_init_93 : decode cX3_init 93 = .ok (.aload_n 0, 1) := dk_42 (dk_at dksX3_init_3 22 rfl rfl)
theorem dX3_init_94 : decode cX3_init 94 = .ok (.bipush 6, 2) := dk_16 6 (dk_at dksX3_init_4 0 rfl rfl)
theorem dX3_init_96 : decode cX3_init 96 = .ok (.newarray .int, 2) := dk_188_10 (dk_at dksX3_init_4 2 rfl rfl)
theorem dX3_init_98 : decode cX3_init 98 = .ok (.putfield 44, 3) := dk_181 0 44 (dk_at dksX3_init_4 4 rfl rfl)
theorem dX3_init_101 : decode cX3_init 101 = .ok (.aload_n 0, 1) := dk_42 (dk_at dksX3_init_4 7 rfl rfl)
theorem dX3_init_102 : decode cX3_init 102 = .ok (.bipush 6, 2) := dk_16 6 (dk_at dksX3_init_4 8 rfl rfl)
theorem dX3_init_104 : decode cX3_init 104 = .ok (.newarray .int, 2) := dk_188_10 (dk_at dksX3_init_4 10 rfl rfl)
theorem dX3_init_106 : decode cX3_init 106 = .ok (.putfield 47, 3) := dk_181 0 47 (dk_at dksX3_init_4 12 rfl rfl)
theorem dX3_init_109 : decode cX3_init 109 = .ok (.aload_n 0, 1) := dk_42 (dk_at dksX3_init_4 15 rfl rfl)
theorem dX3_init_110 : decode cX3_init 110 = .ok (.bipush 6, 2) := dk_16 6 (dk_at dksX3_init_4 16 rfl rfl)
theorem dX3_init_112 : decode cX3_init 112 = .ok (.newarray .int, 2) := dk_188_10 (dk_at dksX3_init_4 18 rfl rfl)
theorem dX3_init_114 : decode cX3_init 114 = .ok (.putfield 50, 3) := dk_181 0 50 (dk_at dksX3_init_4 20 rfl rfl)
theorem dX3_init_117 : decode cX3_init 117 = .ok (.aload_n 0, 1) := dk_42 (dk_at dksX3_init_4 23 rfl rfl)
theorem dX3_init_118 : decode cX3_init 118 = .ok (.bipush 60, 2) := dk_16 60 (dk_at dksX3_init_5 0 rfl rfl)
theorem dX3_init_120 : decode cX3_init 120 = .ok (.newarray .int, 2) := dk_188_10 (dk_at dksX3_init_5 2 rfl rfl)
theorem dX3_init_122 : decode cX3_init 122 = .ok (.putfield 53, 3) := dk_181 0 53 (dk_at dksX3_init_5 4 rfl rfl)
theorem dX3_init_125 : decode cX3_init 125 = .ok (.aload_n 0, 1) := dk_42 (dk_at dksX3_init_5 7 rfl rfl)
theorem dX3_init_126 : decode cX3_init 126 = .ok (.bipush 10, 2) := dk_16 10 (dk_at dksX3_init_5 8 rfl rfl)
theorem dX3_init_128 : decode cX3_init 128 = .ok (.newarray .int, 2) := dk_188_10 (dk_at dksX3_init_5 10 rfl rfl)
theorem dX3_init_130 : decode cX3_init 130 = .ok (.putfield 56, 3) := dk_181 0 56 (dk_at dksX3_init_5 12 rfl rfl)
theorem dX3_init_133 : decode cX3_init 133 = .ok (.aload_n 0, 1) := dk_42 (dk_at dksX3_init_5 15 rfl rfl)
theorem dX3_init_134 : decode cX3_init 134 = .ok (.bipush 10, 2) := dk_16 10 (dk_at dksX3_init_5 16 rfl rfl)
theorem dX3_init_136 : decode cX3_init 136 = .ok (.newarray .int, 2) := dk_188_10 (dk_at dksX3_init_5 18 rfl rfl)
theorem dX3_init_138 : decode cX3_init 138 = .ok (.putfield 59, 3) := dk_181 0 59 (dk_at dksX3_init_5 20 rfl rfl)
theorem dX3_init_141 : decode cX3_init 141 = .ok (.aload_n 0, 1) := dk_42 (dk_at dksX3_init_5 23 rfl rfl)
theorem dX3_init_142 : decode cX3_init 142 = .ok (.bipush 25, 2) := dk_16 25 (dk_at dksX3_init_6 0 rfl rfl)
theorem dX3_init_144 : decode cX3_init 144 = .ok (.newarray .int, 2) := dk_188_10 (dk_at dksX3_init_6 2 rfl rfl)
theorem dX3_init_146 : decode cX3_init 146 = .ok (.putfield 62, 3) := dk_181 0 62 (dk_at dksX3_init_6 4 rfl rfl)
theorem dX3_init_149 : decode cX3_init 149 = .ok (.aload_n 0, 1) := dk_42 (dk_at dksX3_init_6 7 rfl rfl)
theorem dX3_init_150 : decode cX3_init 150 = .ok (.bipush 25, 2) := dk_16 25 (dk_at dksX3_init_6 8 rfl rfl)
theorem dX3_init_152 : decode cX3_init 152 = .ok (.newarray .int, 2) := dk_188_10 (dk_at dksX3_init_6 10 rfl rfl)
theorem dX3_init_154 : decode cX3_init 154 = .ok (.putfield 65, 3) := dk_181 0 65 (dk_at dksX3_init_6 12 rfl rfl)
theorem dX3_init_157 : decode cX3_init 157 = .ok (.aload_n 0, 1) := dk_42 (dk_at dksX3_init_6 15 rfl rfl)
theorem dX3_init_158 : decode cX3_init 158 = .ok (.bipush 9, 2) := dk_16 9 (dk_at dksX3_init_6 16 rfl rfl)
theorem dX3_init_160 : decode cX3_init 160 = .ok (.newarray .int, 2) := dk_188_10 (dk_at dksX3_init_6 18 rfl rfl)
theorem dX3_init_162 : decode cX3_init 162 = .ok (.putfield 68, 3) := dk_181 0 68 (dk_at dksX3_init_6 20 rfl rfl)
theorem dX3_init_165 : decode cX3_init 165 = .ok (.aload_n 0, 1) := dk_42 (dk_at dksX3_init_6 23 rfl rfl)
theorem dX3_init_166 : decode cX3_init 166 = .ok (.bipush 10, 2) := dk_16 10 (dk_at dksX3_init_7 0 rfl rfl)
theorem dX3_init_168 : decode cX3_init 168 = .ok (.newarray .int, 2) := dk_188_10 (dk_at dksX3_init_7 2 rfl rfl)
theorem dX3_init_170 : decode cX3_init 170 = .ok (.putfield 71, 3) := dk_181 0 71 (dk_at dksX3_init_7 4 rfl rfl)
theorem dX3_init_173 : decode cX3_init 173 = .ok (.aload_n 0, 1) := dk_42 (dk_at dksX3_init_7 7 rfl rfl)
theorem dX3_init_174 : decode cX3_init 174 = .ok (.sipush 9720, 3) := dk_17 37 248 (dk_at dksX3_init_7 8 rfl rfl)
theorem dX3_init_177 : decode cX3_init 177 = .ok (.newarray .long, 2) := dk_188_11 (dk_at dksX3_init_7 11 rfl rfl)
theorem dX3_init_179 : decode cX3_init 179 = .ok (.putfield 74, 3) := dk_181 0 74 (dk_at dksX3_init_7 13 rfl rfl)
theorem dX3_init_182 : decode cX3_init 182 = .ok (.aload_n 0, 1) := dk_42 (dk_at dksX3_init_7 16 rfl rfl)
theorem dX3_init_183 : decode cX3_init 183 = .ok (.sipush 9720, 3) := dk_17 37 248 (dk_at dksX3_init_7 17 rfl rfl)
theorem dX3_init_186 : decode cX3_init 186 = .ok (.newarray .long, 2) := dk_188_11 (dk_at dksX3_init_7 20 rfl rfl)
theorem dX3_init_188 : decode cX3_init 188 = .ok (.putfield 78, 3) := dk_181 0 78 (dk_at dksX3_init_8 0 rfl rfl)
theorem dX3_init_191 : decode cX3_init 191 = .ok (.aload_n 0, 1) := dk_42 (dk_at dksX3_init_8 3 rfl rfl)
theorem dX3_init_192 : decode cX3_init 192 = .ok (.sipush 9720, 3) := dk_17 37 248 (dk_at dksX3_init_8 4 rfl rfl)
theorem dX3_init_195 : decode cX3_init 195 = .ok (.newarray .long, 2) := dk_188_11 (dk_at dksX3_init_8 7 rfl rfl)
theorem dX3_init_197 : decode cX3_init 197 = .ok (.putfield 81, 3) := dk_181 0 81 (dk_at dksX3_init_8 9 rfl rfl)
theorem dX3_init_200 : decode cX3_init 200 = .ok (.aload_n 0, 1) := dk_42 (dk_at dksX3_init_8 12 rfl rfl)
theorem dX3_init_201 : decode cX3_init 201 = .ok (.sipush 9720, 3) := dk_17 37 248 (dk_at dksX3_init_8 13 rfl rfl)
theorem dX3_init_204 : decode cX3_init 204 = .ok (.newarray .int, 2) := dk_188_10 (dk_at dksX3_init_8 16 rfl rfl)
theorem dX3_init_206 : decode cX3_init 206 = .ok (.putfield 84, 3) := dk_181 0 84 (dk_at dksX3_init_8 18 rfl rfl)
theorem dX3_init_209 : decode cX3_init 209 = .ok (.aload_n 0, 1) := dk_42 (dk_at dksX3_init_8 21 rfl rfl)
theorem dX3_init_210 : decode cX3_init 210 = .ok (.sipush 19440, 3) := dk_17 75 240 (dk_at dksX3_init_9 0 rfl rfl)
theorem dX3_init_213 : decode cX3_init 213 = .ok (.newarray .boolean, 2) := dk_188_4 (dk_at dksX3_init_9 3 rfl rfl)
theorem dX3_init_215 : decode cX3_init 215 = .ok (.putfield 87, 3) := dk_181 0 87 (dk_at dksX3_init_9 5 rfl rfl)
theorem dX3_init_218 : decode cX3_init 218 = .ok (.aload_n 0, 1) := dk_42 (dk_at dksX3_init_9 8 rfl rfl)
theorem dX3_init_219 : decode cX3_init 219 = .ok (.bipush 12, 2) := dk_16 12 (dk_at dksX3_init_9 9 rfl rfl)
theorem dX3_init_221 : decode cX3_init 221 = .ok (.newarray .int, 2) := dk_188_10 (dk_at dksX3_init_9 11 rfl rfl)
theorem dX3_init_223 : decode cX3_init 223 = .ok (.putfield 90, 3) := dk_181 0 90 (dk_at dksX3_init_9 13 rfl rfl)
theorem dX3_init_226 : decode cX3_init 226 = .ok (.aload_n 0, 1) := dk_42 (dk_at dksX3_init_9 16 rfl rfl)
theorem dX3_init_227 : decode cX3_init 227 = .ok (.bipush 8, 2) := dk_16 8 (dk_at dksX3_init_9 17 rfl rfl)
theorem dX3_init_229 : decode cX3_init 229 = .ok (.newarray .int, 2) := dk_188_10 (dk_at dksX3_init_9 19 rfl rfl)
theorem dX3_init_231 : decode cX3_init 231 = .ok (.putfield 93, 3) := dk_181 0 93 (dk_at dksX3_init_9 21 rfl rfl)
theorem dX3_init_234 : decode cX3_init 234 = .ok (.aload_n 0, 1) := dk_42 (dk_at dksX3_init_10 0 rfl rfl)
theorem dX3_init_235 : decode cX3_init 235 = .ok (.sipush 256, 3) := dk_17 1 0 (dk_at dksX3_init_10 1 rfl rfl)
theorem dX3_init_238 : decode cX3_init 238 = .ok (.newarray .long, 2) := dk_188_11 (dk_at dksX3_init_10 4 rfl rfl)
theorem dX3_init_240 : decode cX3_init 240 = .ok (.putfield 96, 3) := dk_181 0 96 (dk_at dksX3_init_10 6 rfl rfl)
theorem dX3_init_243 : decode cX3_init 243 = .ok (.aload_n 0, 1) := dk_42 (dk_at dksX3_init_10 9 rfl rfl)
theorem dX3_init_244 : decode cX3_init 244 = .ok (.getfield 25, 3) := dk_180 0 25 (dk_at dksX3_init_10 10 rfl rfl)
theorem dX3_init_247 : decode cX3_init 247 = .ok (.invokestatic 99, 3) := dk_184 0 99 (dk_at dksX3_init_10 13 rfl rfl)
theorem dX3_init_250 : decode cX3_init 250 = .ok (.return_, 1) := dk_177 (dk_at dksX3_init_10 16 rfl rfl)
abbrev cX3_empty : ByteArray := prog_13_method_3_code
def yX3_empty : MethodName := ⟨RX3, "empty", "([I)V"⟩
def dkwX3_empty_0 : List UInt8 := [3, 60, 27, 16, 25, 162, 0, 13, 42, 27, 3, 79, 132, 1, 1, 167, 255, 243, 177]
abbrev dktX3_empty_0 : List UInt8 := dkwX3_empty_0 ++ []
theorem dksX3_empty_0 : cX3_empty.data.toList.drop 0 = dktX3_empty_0 := by decide +kernel
theorem dX3_empty_0 : decode cX3_empty 0 = .ok (.iconst 0, 1) := dk_3 (dk_at dksX3_empty_0 0 rfl rfl)
theorem dX3_empty_1 : decode cX3_empty 1 = .ok (.istore_n 1, 1) := dk_60 (dk_at dksX3_empty_0 1 rfl rfl)
theorem dX3_empty_2 : decode cX3_empty 2 = .ok (.iload_n 1, 1) := dk_27 (dk_at dksX3_empty_0 2 rfl rfl)
theorem dX3_empty_3 : decode cX3_empty 3 = .ok (.bipush 25, 2) := dk_16 25 (dk_at dksX3_empty_0 3 rfl rfl)
theorem dX3_empty_5 : decode cX3_empty 5 = .ok (.if_icmp .ge 13, 3) := dk_162 0 13 (dk_at dksX3_empty_0 5 rfl rfl)
theorem dX3_empty_8 : decode cX3_empty 8 = .ok (.aload_n 0, 1) := dk_42 (dk_at dksX3_empty_0 8 rfl rfl)
theorem dX3_empty_9 : decode cX3_empty 9 = .ok (.iload_n 1, 1) := dk_27 (dk_at dksX3_empty_0 9 rfl rfl)
theorem dX3_empty_10 : decode cX3_empty 10 = .ok (.iconst 0, 1) := dk_3 (dk_at dksX3_empty_0 10 rfl rfl)
theorem dX3_empty_11 : decode cX3_empty 11 = .ok (.iastore, 1) := dk_79 (dk_at dksX3_empty_0 11 rfl rfl)
theorem dX3_empty_12 : decode cX3_empty 12 = .ok (.iinc 1 1, 3) := dk_132 1 1 (dk_at dksX3_empty_0 12 rfl rfl)
theorem dX3_empty_15 : decode cX3_empty 15 = .ok (.goto (-13), 3) := dk_167 255 243 (dk_at dksX3_empty_0 15 rfl rfl)
theorem dX3_empty_18 : decode cX3_empty 18 = .ok (.return_, 1) := dk_177 (dk_at dksX3_empty_0 18 rfl rfl)
abbrev cX3_write : ByteArray := prog_13_method_15_code
def yX3_write : MethodName := ⟨RX3, "write", "(I)I"⟩
def dkwX3_write_2 : List UInt8 := [181, 0, 117, 42, 180, 0, 117, 172]
abbrev dktX3_write_2 : List UInt8 := dkwX3_write_2 ++ []
def dkwX3_write_1 : List UInt8 := [160, 0, 6, 16, 252, 172, 42, 180, 0, 7, 42, 180, 0, 117, 27, 79, 42, 89, 180, 0, 117, 4, 96]
abbrev dktX3_write_1 : List UInt8 := dkwX3_write_1 ++ dktX3_write_2
def dkwX3_write_0 : List UInt8 := [27, 133, 9, 20, 0, 115, 184, 0, 107, 154, 0, 6, 16, 254, 172, 42, 180, 0, 117, 17, 0, 180]
abbrev dktX3_write_0 : List UInt8 := dkwX3_write_0 ++ dktX3_write_1
theorem dksX3_write_0 : cX3_write.data.toList.drop 0 = dktX3_write_0 := by decide +kernel
theorem dksX3_write_1 : cX3_write.data.toList.drop 22 = dktX3_write_1 := dk_seg dksX3_write_0 22 rfl rfl
theorem dksX3_write_2 : cX3_write.data.toList.drop 45 = dktX3_write_2 := dk_seg dksX3_write_1 23 rfl rfl
theorem dX3_write_0 : decode cX3_write 0 = .ok (.iload_n 1, 1) := dk_27 (dk_at dksX3_write_0 0 rfl rfl)
theorem dX3_write_1 : decode cX3_write 1 = .ok (.i2l, 1) := dk_133 (dk_at dksX3_write_0 1 rfl rfl)
theorem dX3_write_2 : decode cX3_write 2 = .ok (.lconst 0, 1) := dk_9 (dk_at dksX3_write_0 2 rfl rfl)
theorem dX3_write_3 : decode cX3_write 3 = .ok (.ldc2_w 115, 3) := dk_20 0 115 (dk_at dksX3_write_0 3 rfl rfl)
theorem dX3_write_6 : decode cX3_write 6 = .ok (.invokestatic 107, 3) := dk_184 0 107 (dk_at dksX3_write_0 6 rfl rfl)
theorem dX3_write_9 : decode cX3_write 9 = .ok (.ifCond .ne 6, 3) := dk_154 0 6 (dk_at dksX3_write_0 9 rfl rfl)
theorem dX3_write_12 : decode cX3_write 12 = .ok (.bipush (-2), 2) := dk_16 254 (dk_at dksX3_write_0 12 rfl rfl)
theorem dX3_write_14 : decode cX3_write 14 = .ok (.ireturn, 1) := dk_172 (dk_at dksX3_write_0 14 rfl rfl)
theorem dX3_write_15 : decode cX3_write 15 = .ok (.aload_n 0, 1) := dk_42 (dk_at dksX3_write_0 15 rfl rfl)
theorem dX3_write_16 : decode cX3_write 16 = .ok (.getfield 117, 3) := dk_180 0 117 (dk_at dksX3_write_0 16 rfl rfl)
theorem dX3_write_19 : decode cX3_write 19 = .ok (.sipush 180, 3) := dk_17 0 180 (dk_at dksX3_write_0 19 rfl rfl)
theorem dX3_write_22 : decode cX3_write 22 = .ok (.if_icmp .ne 6, 3) := dk_160 0 6 (dk_at dksX3_write_1 0 rfl rfl)
theorem dX3_write_25 : decode cX3_write 25 = .ok (.bipush (-4), 2) := dk_16 252 (dk_at dksX3_write_1 3 rfl rfl)
theorem dX3_write_27 : decode cX3_write 27 = .ok (.ireturn, 1) := dk_172 (dk_at dksX3_write_1 5 rfl rfl)
theorem dX3_write_28 : decode cX3_write 28 = .ok (.aload_n 0, 1) := dk_42 (dk_at dksX3_write_1 6 rfl rfl)
theorem dX3_write_29 : decode cX3_write 29 = .ok (.getfield 7, 3) := dk_180 0 7 (dk_at dksX3_write_1 7 rfl rfl)
theorem dX3_write_32 : decode cX3_write 32 = .ok (.aload_n 0, 1) := dk_42 (dk_at dksX3_write_1 10 rfl rfl)
theorem dX3_write_33 : decode cX3_write 33 = .ok (.getfield 117, 3) := dk_180 0 117 (dk_at dksX3_write_1 11 rfl rfl)
theorem dX3_write_36 : decode cX3_write 36 = .ok (.iload_n 1, 1) := dk_27 (dk_at dksX3_write_1 14 rfl rfl)
theorem dX3_write_37 : decode cX3_write 37 = .ok (.iastore, 1) := dk_79 (dk_at dksX3_write_1 15 rfl rfl)
theorem dX3_write_38 : decode cX3_write 38 = .ok (.aload_n 0, 1) := dk_42 (dk_at dksX3_write_1 16 rfl rfl)
theorem dX3_write_39 : decode cX3_write 39 = .ok (.dup, 1) := dk_89 (dk_at dksX3_write_1 17 rfl rfl)
theorem dX3_write_40 : decode cX3_write 40 = .ok (.getfield 117, 3) := dk_180 0 117 (dk_at dksX3_write_1 18 rfl rfl)
theorem dX3_write_43 : decode cX3_write 43 = .ok (.iconst 1, 1) := dk_4 (dk_at dksX3_write_1 21 rfl rfl)
theorem dX3_write_44 : decode cX3_write 44 = .ok (.iadd, 1) := dk_96 (dk_at dksX3_write_1 22 rfl rfl)
theorem dX3_write_45 : decode cX3_write 45 = .ok (.putfield 117, 3) := dk_181 0 117 (dk_at dksX3_write_2 0 rfl rfl)
theorem dX3_write_48 : decode cX3_write 48 = .ok (.aload_n 0, 1) := dk_42 (dk_at dksX3_write_2 3 rfl rfl)
theorem dX3_write_49 : decode cX3_write 49 = .ok (.getfield 117, 3) := dk_180 0 117 (dk_at dksX3_write_2 4 rfl rfl)
theorem dX3_write_52 : decode cX3_write 52 = .ok (.ireturn, 1) := dk_172 (dk_at dksX3_write_2 7 rfl rfl)
abbrev cX3_in : ByteArray := prog_13_method_5_code
def yX3_in : MethodName := ⟨RX3, "in", "(JJJ)Z"⟩
def dkwX3_in_0 : List UInt8 := [30, 32, 148, 155, 0, 14, 30, 22, 4, 148, 157, 0, 7, 4, 167, 0, 4, 3, 172]
abbrev dktX3_in_0 : List UInt8 := dkwX3_in_0 ++ []
theorem dksX3_in_0 : cX3_in.data.toList.drop 0 = dktX3_in_0 := by decide +kernel
theorem dX3_in_0 : decode cX3_in 0 = .ok (.lload_n 0, 1) := dk_30 (dk_at dksX3_in_0 0 rfl rfl)
theorem dX3_in_1 : decode cX3_in 1 = .ok (.lload_n 2, 1) := dk_32 (dk_at dksX3_in_0 1 rfl rfl)
theorem dX3_in_2 : decode cX3_in 2 = .ok (.lcmp, 1) := dk_148 (dk_at dksX3_in_0 2 rfl rfl)
theorem dX3_in_3 : decode cX3_in 3 = .ok (.ifCond .lt 14, 3) := dk_155 0 14 (dk_at dksX3_in_0 3 rfl rfl)
theorem dX3_in_6 : decode cX3_in 6 = .ok (.lload_n 0, 1) := dk_30 (dk_at dksX3_in_0 6 rfl rfl)
theorem dX3_in_7 : decode cX3_in 7 = .ok (.lload 4, 2) := dk_22 4 (dk_at dksX3_in_0 7 rfl rfl)
theorem dX3_in_9 : decode cX3_in 9 = .ok (.lcmp, 1) := dk_148 (dk_at dksX3_in_0 9 rfl rfl)
theorem dX3_in_10 : decode cX3_in 10 = .ok (.ifCond .gt 7, 3) := dk_157 0 7 (dk_at dksX3_in_0 10 rfl rfl)
theorem dX3_in_13 : decode cX3_in 13 = .ok (.iconst 1, 1) := dk_4 (dk_at dksX3_in_0 13 rfl rfl)
theorem dX3_in_14 : decode cX3_in 14 = .ok (.goto 4, 3) := dk_167 0 4 (dk_at dksX3_in_0 14 rfl rfl)
theorem dX3_in_17 : decode cX3_in 17 = .ok (.iconst 0, 1) := dk_3 (dk_at dksX3_in_0 17 rfl rfl)
theorem dX3_in_18 : decode cX3_in 18 = .ok (.ireturn, 1) := dk_172 (dk_at dksX3_in_0 18 rfl rfl)
abbrev cX3_wipe : ByteArray := prog_13_method_16_code
def yX3_wipe : MethodName := ⟨RX3, "wipe", "()I"⟩
def dkwX3_wipe_0 : List UInt8 := [42, 180, 0, 117, 60, 42, 3, 181, 0, 117, 27, 172]
abbrev dktX3_wipe_0 : List UInt8 := dkwX3_wipe_0 ++ []
theorem dksX3_wipe_0 : cX3_wipe.data.toList.drop 0 = dktX3_wipe_0 := by decide +kernel
theorem dX3_wipe_0 : decode cX3_wipe 0 = .ok (.aload_n 0, 1) := dk_42 (dk_at dksX3_wipe_0 0 rfl rfl)
theorem dX3_wipe_1 : decode cX3_wipe 1 = .ok (.getfield 117, 3) := dk_180 0 117 (dk_at dksX3_wipe_0 1 rfl rfl)
theorem dX3_wipe_4 : decode cX3_wipe 4 = .ok (.istore_n 1, 1) := dk_60 (dk_at dksX3_wipe_0 4 rfl rfl)
theorem dX3_wipe_5 : decode cX3_wipe 5 = .ok (.aload_n 0, 1) := dk_42 (dk_at dksX3_wipe_0 5 rfl rfl)
theorem dX3_wipe_6 : decode cX3_wipe 6 = .ok (.iconst 0, 1) := dk_3 (dk_at dksX3_wipe_0 6 rfl rfl)
theorem dX3_wipe_7 : decode cX3_wipe 7 = .ok (.putfield 117, 3) := dk_181 0 117 (dk_at dksX3_wipe_0 7 rfl rfl)
theorem dX3_wipe_10 : decode cX3_wipe 10 = .ok (.iload_n 1, 1) := dk_27 (dk_at dksX3_wipe_0 10 rfl rfl)
theorem dX3_wipe_11 : decode cX3_wipe 11 = .ok (.ireturn, 1) := dk_172 (dk_at dksX3_wipe_0 11 rfl rfl)
abbrev cX3_fault : ByteArray := prog_13_method_24_code
def yX3_fault : MethodName := ⟨RX3, "fault", "()I"⟩
theorem dX3_fault_0 : decode cX3_fault 0 = .ok (.aload_n 0, 1) := by decide +kernel
theorem dX3_fault_1 : decode cX3_fault 1 = .ok (.invokevirtual 174, 3) := by decide +kernel
theorem dX3_fault_4 : decode cX3_fault 4 = .ok (.ireturn, 1) := by decide +kernel
abbrev cX3_readText : ByteArray := prog_13_method_23_code
def yX3_readText : MethodName := ⟨RX3, "readText", "()I"⟩
def dkwX3_readText_3 : List UInt8 := [42, 180, 0, 123, 154, 0, 8, 16, 247, 167, 0, 7, 42, 180, 0, 117, 172]
abbrev dktX3_readText_3 : List UInt8 := dkwX3_readText_3 ++ []
def dkwX3_readText_2 : List UInt8 := [167, 0, 18, 42, 42, 180, 0, 7, 27, 46, 182, 0, 171, 154, 0, 5, 27, 172, 132, 1, 1, 167, 255, 207]
abbrev dktX3_readText_2 : List UInt8 := dkwX3_readText_2 ++ dktX3_readText_3
def dkwX3_readText_1 : List UInt8 := [162, 0, 47, 42, 180, 0, 123, 154, 0, 19, 42, 42, 180, 0, 7, 27, 46, 182, 0, 168, 153, 0, 19]
abbrev dktX3_readText_1 : List UInt8 := dkwX3_readText_1 ++ dktX3_readText_2
def dkwX3_readText_0 : List UInt8 := [42, 3, 181, 0, 126, 42, 180, 0, 62, 184, 0, 99, 42, 3, 181, 0, 123, 3, 60, 27, 42, 180, 0, 117]
abbrev dktX3_readText_0 : List UInt8 := dkwX3_readText_0 ++ dktX3_readText_1
theorem dksX3_readText_0 : cX3_readText.data.toList.drop 0 = dktX3_readText_0 := by decide +kernel
theorem dksX3_readText_1 : cX3_readText.data.toList.drop 24 = dktX3_readText_1 := dk_seg dksX3_readText_0 24 rfl rfl
theorem dksX3_readText_2 : cX3_readText.data.toList.drop 47 = dktX3_readText_2 := dk_seg dksX3_readText_1 23 rfl rfl
theorem dksX3_readText_3 : cX3_readText.data.toList.drop 71 = dktX3_readText_3 := dk_seg dksX3_readText_2 24 rfl rfl
theorem dX3_readText_0 : decode cX3_readText 0 = .ok (.aload_n 0, 1) := dk_42 (dk_at dksX3_readText_0 0 rfl rfl)
theorem dX3_readText_1 : decode cX3_readText 1 = .ok (.iconst 0, 1) := dk_3 (dk_at dksX3_readText_0 1 rfl rfl)
theorem dX3_readText_2 : decode cX3_readText 2 = .ok (.putfield 126, 3) := dk_181 0 126 (dk_at dksX3_readText_0 2 rfl rfl)
theorem dX3_readText_5 : decode cX3_readText 5 = .ok (.aload_n 0, 1) := dk_42 (dk_at dksX3_readText_0 5 rfl rfl)
theorem dX3_readText_6 : decode cX3_readText 6 = .ok (.getfield 62, 3) := dk_180 0 62 (dk_at dksX3_readText_0 6 rfl rfl)
theorem dX3_readText_9 : decode cX3_readText 9 = .ok (.invokestatic 99, 3) := dk_184 0 99 (dk_at dksX3_readText_0 9 rfl rfl)
theorem dX3_readText_12 : decode cX3_readText 12 = .ok (.aload_n 0, 1) := dk_42 (dk_at dksX3_readText_0 12 rfl rfl)
theorem dX3_readText_13 : decode cX3_readText 13 = .ok (.iconst 0, 1) := dk_3 (dk_at dksX3_readText_0 13 rfl rfl)
theorem dX3_readText_14 : decode cX3_readText 14 = .ok (.putfield 123, 3) := dk_181 0 123 (dk_at dksX3_readText_0 14 rfl rfl)
theorem dX3_readText_17 : decode cX3_readText 17 = .ok (.iconst 0, 1) := dk_3 (dk_at dksX3_readText_0 17 rfl rfl)
theorem dX3_readText_18 : decode cX3_readText 18 = .ok (.istore_n 1, 1) := dk_60 (dk_at dksX3_readText_0 18 rfl rfl)
theorem dX3_readText_19 : decode cX3_readText 19 = .ok (.iload_n 1, 1) := dk_27 (dk_at dksX3_readText_0 19 rfl rfl)
theorem dX3_readText_20 : decode cX3_readText 20 = .ok (.aload_n 0, 1) := dk_42 (dk_at dksX3_readText_0 20 rfl rfl)
theorem dX3_readText_21 : decode cX3_readText 21 = .ok (.getfield 117, 3) := dk_180 0 117 (dk_at dksX3_readText_0 21 rfl rfl)
theorem dX3_readText_24 : decode cX3_readText 24 = .ok (.if_icmp .ge 47, 3) := dk_162 0 47 (dk_at dksX3_readText_1 0 rfl rfl)
theorem dX3_readText_27 : decode cX3_readText 27 = .ok (.aload_n 0, 1) := dk_42 (dk_at dksX3_readText_1 3 rfl rfl)
theorem dX3_readText_28 : decode cX3_readText 28 = .ok (.getfield 123, 3) := dk_180 0 123 (dk_at dksX3_readText_1 4 rfl rfl)
theorem dX3_readText_31 : decode cX3_readText 31 = .ok (.ifCond .ne 19, 3) := dk_154 0 19 (dk_at dksX3_readText_1 7 rfl rfl)
theorem dX3_readText_34 : decode cX3_readText 34 = .ok (.aload_n 0, 1) := dk_42 (dk_at dksX3_readText_1 10 rfl rfl)
theorem dX3_readText_35 : decode cX3_readText 35 = .ok (.aload_n 0, 1) := dk_42 (dk_at dksX3_readText_1 11 rfl rfl)
theorem dX3_readText_36 : decode cX3_readText 36 = .ok (.getfield 7, 3) := dk_180 0 7 (dk_at dksX3_readText_1 12 rfl rfl)
theorem dX3_readText_39 : decode cX3_readText 39 = .ok (.iload_n 1, 1) := dk_27 (dk_at dksX3_readText_1 15 rfl rfl)
theorem dX3_readText_40 : decode cX3_readText 40 = .ok (.iaload, 1) := dk_46 (dk_at dksX3_readText_1 16 rfl rfl)
theorem dX3_readText_41 : decode cX3_readText 41 = .ok (.invokevirtual 168, 3) := dk_182 0 168 (dk_at dksX3_readText_1 17 rfl rfl)
theorem dX3_readText_44 : decode cX3_readText 44 = .ok (.ifCond .eq 19, 3) := dk_153 0 19 (dk_at dksX3_readText_1 20 rfl rfl)
theorem dX3_readText_47 : decode cX3_readText 47 = .ok (.goto 18, 3) := dk_167 0 18 (dk_at dksX3_readText_2 0 rfl rfl)
theorem dX3_readText_50 : decode cX3_readText 50 = .ok (.aload_n 0, 1) := dk_42 (dk_at dksX3_readText_2 3 rfl rfl)
theorem dX3_readText_51 : decode cX3_readText 51 = .ok (.aload_n 0, 1) := dk_42 (dk_at dksX3_readText_2 4 rfl rfl)
theorem dX3_readText_52 : decode cX3_readText 52 = .ok (.getfield 7, 3) := dk_180 0 7 (dk_at dksX3_readText_2 5 rfl rfl)
theorem dX3_readText_55 : decode cX3_readText 55 = .ok (.iload_n 1, 1) := dk_27 (dk_at dksX3_readText_2 8 rfl rfl)
theorem dX3_readText_56 : decode cX3_readText 56 = .ok (.iaload, 1) := dk_46 (dk_at dksX3_readText_2 9 rfl rfl)
theorem dX3_readText_57 : decode cX3_readText 57 = .ok (.invokevirtual 171, 3) := dk_182 0 171 (dk_at dksX3_readText_2 10 rfl rfl)
theorem dX3_readText_60 : decode cX3_readText 60 = .ok (.ifCond .ne 5, 3) := dk_154 0 5 (dk_at dksX3_readText_2 13 rfl rfl)
theorem dX3_readText_63 : decode cX3_readText 63 = .ok (.iload_n 1, 1) := dk_27 (dk_at dksX3_readText_2 16 rfl rfl)
theorem dX3_readText_64 : decode cX3_readText 64 = .ok (.ireturn, 1) := dk_172 (dk_at dksX3_readText_2 17 rfl rfl)
theorem dX3_readText_65 : decode cX3_readText 65 = .ok (.iinc 1 1, 3) := dk_132 1 1 (dk_at dksX3_readText_2 18 rfl rfl)
theorem dX3_readText_68 : decode cX3_readText 68 = .ok (.goto (-49), 3) := dk_167 255 207 (dk_at dksX3_readText_2 21 rfl rfl)
theorem dX3_readText_71 : decode cX3_readText 71 = .ok (.aload_n 0, 1) := dk_42 (dk_at dksX3_readText_3 0 rfl rfl)
theorem dX3_readText_72 : decode cX3_readText 72 = .ok (.getfield 123, 3) := dk_180 0 123 (dk_at dksX3_readText_3 1 rfl rfl)
theorem dX3_readText_75 : decode cX3_readText 75 = .ok (.ifCond .ne 8, 3) := dk_154 0 8 (dk_at dksX3_readText_3 4 rfl rfl)
theorem dX3_readText_78 : decode cX3_readText 78 = .ok (.bipush (-9), 2) := dk_16 247 (dk_at dksX3_readText_3 7 rfl rfl)
theorem dX3_readText_80 : decode cX3_readText 80 = .ok (.goto 7, 3) := dk_167 0 7 (dk_at dksX3_readText_3 9 rfl rfl)
theorem dX3_readText_83 : decode cX3_readText 83 = .ok (.aload_n 0, 1) := dk_42 (dk_at dksX3_readText_3 12 rfl rfl)
theorem dX3_readText_84 : decode cX3_readText 84 = .ok (.getfield 117, 3) := dk_180 0 117 (dk_at dksX3_readText_3 13 rfl rfl)
theorem dX3_readText_87 : decode cX3_readText 87 = .ok (.ireturn, 1) := dk_172 (dk_at dksX3_readText_3 16 rfl rfl)
abbrev cX3_takeSign : ByteArray := prog_13_method_17_code
def yX3_takeSign : MethodName := ⟨RX3, "takeSign", "(I)Z"⟩
def dkwX3_takeSign_8 : List UInt8 := [16, 60, 159, 0, 7, 4, 167, 0, 4, 3, 172, 3, 172]
abbrev dktX3_takeSign_8 : List UInt8 := dkwX3_takeSign_8 ++ []
def dkwX3_takeSign_7 : List UInt8 := [42, 180, 0, 62, 16, 22, 46, 96, 42, 180, 0, 62, 16, 23, 46, 96, 42, 180, 0, 62, 16, 24, 46, 96]
abbrev dktX3_takeSign_7 : List UInt8 := dkwX3_takeSign_7 ++ dktX3_takeSign_8
def dkwX3_takeSign_6 : List UInt8 := [180, 0, 62, 16, 20, 46, 16, 15, 159, 0, 7, 4, 167, 0, 4, 3, 172, 42, 180, 0, 62, 16, 21, 46]
abbrev dktX3_takeSign_6 : List UInt8 := dkwX3_takeSign_6 ++ dktX3_takeSign_7
def dkwX3_takeSign_5 : List UInt8 := [167, 0, 4, 3, 172, 42, 180, 0, 62, 16, 19, 46, 16, 15, 159, 0, 7, 4, 167, 0, 4, 3, 172, 42]
abbrev dktX3_takeSign_5 : List UInt8 := dkwX3_takeSign_5 ++ dktX3_takeSign_6
def dkwX3_takeSign_4 : List UInt8 := [16, 10, 162, 0, 7, 4, 167, 0, 4, 3, 172, 42, 180, 0, 62, 184, 0, 129, 16, 12, 162, 0, 7, 4]
abbrev dktX3_takeSign_4 : List UInt8 := dkwX3_takeSign_4 ++ dktX3_takeSign_5
def dkwX3_takeSign_3 : List UInt8 := [180, 0, 126, 16, 10, 162, 0, 7, 3, 167, 0, 9, 42, 180, 0, 56, 3, 46, 79, 42, 180, 0, 126]
abbrev dktX3_takeSign_3 : List UInt8 := dkwX3_takeSign_3 ++ dktX3_takeSign_4
def dkwX3_takeSign_2 : List UInt8 := [42, 180, 0, 56, 42, 180, 0, 126, 16, 10, 162, 0, 10, 42, 180, 0, 126, 167, 0, 4, 3, 42]
abbrev dktX3_takeSign_2 : List UInt8 := dkwX3_takeSign_2 ++ dktX3_takeSign_3
def dkwX3_takeSign_1 : List UInt8 := [171, 0, 0, 0, 201, 0, 0, 0, 5, 0, 0, 0, 43, 0, 0, 0, 105, 0, 0, 0, 46, 0, 0, 0, 141, 0, 0, 0, 58, 0, 0, 0, 159, 0, 0, 0, 94, 0, 0, 0, 123, 0, 0, 0, 119, 0, 0, 0, 49]
abbrev dktX3_takeSign_1 : List UInt8 := dkwX3_takeSign_1 ++ dktX3_takeSign_2
def dkwX3_takeSign_0 : List UInt8 := [42, 27, 181, 0, 120, 42, 4, 181, 0, 123, 27]
abbrev dktX3_takeSign_0 : List UInt8 := dkwX3_takeSign_0 ++ dktX3_takeSign_1
theorem dksX3_takeSign_0 : cX3_takeSign.data.toList.drop 0 = dktX3_takeSign_0 := by decide +kernel
theorem dksX3_takeSign_1 : cX3_takeSign.data.toList.drop 11 = dktX3_takeSign_1 := dk_seg dksX3_takeSign_0 11 rfl rfl
theorem dksX3_takeSign_2 : cX3_takeSign.data.toList.drop 60 = dktX3_takeSign_2 := dk_seg dksX3_takeSign_1 49 rfl rfl
theorem dksX3_takeSign_3 : cX3_takeSign.data.toList.drop 82 = dktX3_takeSign_3 := dk_seg dksX3_takeSign_2 22 rfl rfl
theorem dksX3_takeSign_4 : cX3_takeSign.data.toList.drop 105 = dktX3_takeSign_4 := dk_seg dksX3_takeSign_3 23 rfl rfl
theorem dksX3_takeSign_5 : cX3_takeSign.data.toList.drop 129 = dktX3_takeSign_5 := dk_seg dksX3_takeSign_4 24 rfl rfl
theorem dksX3_takeSign_6 : cX3_takeSign.data.toList.drop 153 = dktX3_takeSign_6 := dk_seg dksX3_takeSign_5 24 rfl rfl
theorem dksX3_takeSign_7 : cX3_takeSign.data.toList.drop 177 = dktX3_takeSign_7 := dk_seg dksX3_takeSign_6 24 rfl rfl
theorem dksX3_takeSign_8 : cX3_takeSign.data.toList.drop 201 = dktX3_takeSign_8 := dk_seg dksX3_takeSign_7 24 rfl rfl
theorem dX3_takeSign_0 : decode cX3_takeSign 0 = .ok (.aload_n 0, 1) := dk_42 (dk_at dksX3_takeSign_0 0 rfl rfl)
theorem dX3_takeSign_1 : decode cX3_takeSign 1 = .ok (.iload_n 1, 1) := dk_27 (dk_at dksX3_takeSign_0 1 rfl rfl)
theorem dX3_takeSign_2 : decode cX3_takeSign 2 = .ok (.putfield 120, 3) := dk_181 0 120 (dk_at dksX3_takeSign_0 2 rfl rfl)
theorem dX3_takeSign_5 : decode cX3_takeSign 5 = .ok (.aload_n 0, 1) := dk_42 (dk_at dksX3_takeSign_0 5 rfl rfl)
theorem dX3_takeSign_6 : decode cX3_takeSign 6 = .ok (.iconst 1, 1) := dk_4 (dk_at dksX3_takeSign_0 6 rfl rfl)
theorem dX3_takeSign_7 : decode cX3_takeSign 7 = .ok (.putfield 123, 3) := dk_181 0 123 (dk_at dksX3_takeSign_0 7 rfl rfl)
theorem dX3_takeSign_10 : decode cX3_takeSign 10 = .ok (.iload_n 1, 1) := dk_27 (dk_at dksX3_takeSign_0 10 rfl rfl)
theorem dX3_takeSign_11 : decode cX3_takeSign 11 = .ok (.lookupswitch 201 #[(43, 105), (46, 141), (58, 159), (94, 123), (119, 49)], 49) := by decide +kernel
theorem dX3_takeSign_60 : decode cX3_takeSign 60 = .ok (.aload_n 0, 1) := dk_42 (dk_at dksX3_takeSign_2 0 rfl rfl)
theorem dX3_takeSign_61 : decode cX3_takeSign 61 = .ok (.getfield 56, 3) := dk_180 0 56 (dk_at dksX3_takeSign_2 1 rfl rfl)
theorem dX3_takeSign_64 : decode cX3_takeSign 64 = .ok (.aload_n 0, 1) := dk_42 (dk_at dksX3_takeSign_2 4 rfl rfl)
theorem dX3_takeSign_65 : decode cX3_takeSign 65 = .ok (.getfield 126, 3) := dk_180 0 126 (dk_at dksX3_takeSign_2 5 rfl rfl)
theorem dX3_takeSign_68 : decode cX3_takeSign 68 = .ok (.bipush 10, 2) := dk_16 10 (dk_at dksX3_takeSign_2 8 rfl rfl)
theorem dX3_takeSign_70 : decode cX3_takeSign 70 = .ok (.if_icmp .ge 10, 3) := dk_162 0 10 (dk_at dksX3_takeSign_2 10 rfl rfl)
theorem dX3_takeSign_73 : decode cX3_takeSign 73 = .ok (.aload_n 0, 1) := dk_42 (dk_at dksX3_takeSign_2 13 rfl rfl)
theorem dX3_takeSign_74 : decode cX3_takeSign 74 = .ok (.getfield 126, 3) := dk_180 0 126 (dk_at dksX3_takeSign_2 14 rfl rfl)
theorem dX3_takeSign_77 : decode cX3_takeSign 77 = .ok (.goto 4, 3) := dk_167 0 4 (dk_at dksX3_takeSign_2 17 rfl rfl)
theorem dX3_takeSign_80 : decode cX3_takeSign 80 = .ok (.iconst 0, 1) := dk_3 (dk_at dksX3_takeSign_2 20 rfl rfl)
theorem dX3_takeSign_81 : decode cX3_takeSign 81 = .ok (.aload_n 0, 1) := dk_42 (dk_at dksX3_takeSign_2 21 rfl rfl)
theorem dX3_takeSign_82 : decode cX3_takeSign 82 = .ok (.getfield 126, 3) := dk_180 0 126 (dk_at dksX3_takeSign_3 0 rfl rfl)
theorem dX3_takeSign_85 : decode cX3_takeSign 85 = .ok (.bipush 10, 2) := dk_16 10 (dk_at dksX3_takeSign_3 3 rfl rfl)
theorem dX3_takeSign_87 : decode cX3_takeSign 87 = .ok (.if_icmp .ge 7, 3) := dk_162 0 7 (dk_at dksX3_takeSign_3 5 rfl rfl)
theorem dX3_takeSign_90 : decode cX3_takeSign 90 = .ok (.iconst 0, 1) := dk_3 (dk_at dksX3_takeSign_3 8 rfl rfl)
theorem dX3_takeSign_91 : decode cX3_takeSign 91 = .ok (.goto 9, 3) := dk_167 0 9 (dk_at dksX3_takeSign_3 9 rfl rfl)
theorem dX3_takeSign_94 : decode cX3_takeSign 94 = .ok (.aload_n 0, 1) := dk_42 (dk_at dksX3_takeSign_3 12 rfl rfl)
theorem dX3_takeSign_95 : decode cX3_takeSign 95 = .ok (.getfield 56, 3) := dk_180 0 56 (dk_at dksX3_takeSign_3 13 rfl rfl)
theorem dX3_takeSign_98 : decode cX3_takeSign 98 = .ok (.iconst 0, 1) := dk_3 (dk_at dksX3_takeSign_3 16 rfl rfl)
theorem dX3_takeSign_99 : decode cX3_takeSign 99 = .ok (.iaload, 1) := dk_46 (dk_at dksX3_takeSign_3 17 rfl rfl)
theorem dX3_takeSign_100 : decode cX3_takeSign 100 = .ok (.iastore, 1) := dk_79 (dk_at dksX3_takeSign_3 18 rfl rfl)
theorem dX3_takeSign_101 : decode cX3_takeSign 101 = .ok (.aload_n 0, 1) := dk_42 (dk_at dksX3_takeSign_3 19 rfl rfl)
theorem dX3_takeSign_102 : decode cX3_takeSign 102 = .ok (.getfield 126, 3) := dk_180 0 126 (dk_at dksX3_takeSign_3 20 rfl rfl)
theorem dX3_takeSign_105 : decode cX3_takeSign 105 = .ok (.bipush 10, 2) := dk_16 10 (dk_at dksX3_takeSign_4 0 rfl rfl)
theorem dX3_takeSign_107 : decode cX3_takeSign 107 = .ok (.if_icmp .ge 7, 3) := dk_162 0 7 (dk_at dksX3_takeSign_4 2 rfl rfl)
theorem dX3_takeSign_110 : decode cX3_takeSign 110 = .ok (.iconst 1, 1) := dk_4 (dk_at dksX3_takeSign_4 5 rfl rfl)
theorem dX3_takeSign_111 : decode cX3_takeSign 111 = .ok (.goto 4, 3) := dk_167 0 4 (dk_at dksX3_takeSign_4 6 rfl rfl)
theorem dX3_takeSign_114 : decode cX3_takeSign 114 = .ok (.iconst 0, 1) := dk_3 (dk_at dksX3_takeSign_4 9 rfl rfl)
theorem dX3_takeSign_115 : decode cX3_takeSign 115 = .ok (.ireturn, 1) := dk_172 (dk_at dksX3_takeSign_4 10 rfl rfl)
theorem dX3_takeSign_116 : decode cX3_takeSign 116 = .ok (.aload_n 0, 1) := dk_42 (dk_at dksX3_takeSign_4 11 rfl rfl)
theorem dX3_takeSign_117 : decode cX3_takeSign 117 = .ok (.getfield 62, 3) := dk_180 0 62 (dk_at dksX3_takeSign_4 12 rfl rfl)
theorem dX3_takeSign_120 : decode cX3_takeSign 120 = .ok (.invokestatic 129, 3) := dk_184 0 129 (dk_at dksX3_takeSign_4 15 rfl rfl)
theorem dX3_takeSign_123 : decode cX3_takeSign 123 = .ok (.bipush 12, 2) := dk_16 12 (dk_at dksX3_takeSign_4 18 rfl rfl)
theorem dX3_takeSign_125 : decode cX3_takeSign 125 = .ok (.if_icmp .ge 7, 3) := dk_162 0 7 (dk_at dksX3_takeSign_4 20 rfl rfl)
theorem dX3_takeSign_128 : decode cX3_takeSign 128 = .ok (.iconst 1, 1) := dk_4 (dk_at dksX3_takeSign_4 23 rfl rfl)
theorem dX3_takeSign_129 : decode cX3_takeSign 129 = .ok (.goto 4, 3) := dk_167 0 4 (dk_at dksX3_takeSign_5 0 rfl rfl)
theorem dX3_takeSign_132 : decode cX3_takeSign 132 = .ok (.iconst 0, 1) := dk_3 (dk_at dksX3_takeSign_5 3 rfl rfl)
theorem dX3_takeSign_133 : decode cX3_takeSign 133 = .ok (.ireturn, 1) := dk_172 (dk_at dksX3_takeSign_5 4 rfl rfl)
theorem dX3_takeSign_134 : decode cX3_takeSign 134 = .ok (.aload_n 0, 1) := dk_42 (dk_at dksX3_takeSign_5 5 rfl rfl)
theorem dX3_takeSign_135 : decode cX3_takeSign 135 = .ok (.getfield 62, 3) := dk_180 0 62 (dk_at dksX3_takeSign_5 6 rfl rfl)
theorem dX3_takeSign_138 : decode cX3_takeSign 138 = .ok (.bipush 19, 2) := dk_16 19 (dk_at dksX3_takeSign_5 9 rfl rfl)
theorem dX3_takeSign_140 : decode cX3_takeSign 140 = .ok (.iaload, 1) := dk_46 (dk_at dksX3_takeSign_5 11 rfl rfl)
theorem dX3_takeSign_141 : decode cX3_takeSign 141 = .ok (.bipush 15, 2) := dk_16 15 (dk_at dksX3_takeSign_5 12 rfl rfl)
theorem dX3_takeSign_143 : decode cX3_takeSign 143 = .ok (.if_icmp .eq 7, 3) := dk_159 0 7 (dk_at dksX3_takeSign_5 14 rfl rfl)
theorem dX3_takeSign_146 : decode cX3_takeSign 146 = .ok (.iconst 1, 1) := dk_4 (dk_at dksX3_takeSign_5 17 rfl rfl)
theorem dX3_takeSign_147 : decode cX3_takeSign 147 = .ok (.goto 4, 3) := dk_167 0 4 (dk_at dksX3_takeSign_5 18 rfl rfl)
theorem dX3_takeSign_150 : decode cX3_takeSign 150 = .ok (.iconst 0, 1) := dk_3 (dk_at dksX3_takeSign_5 21 rfl rfl)
theorem dX3_takeSign_151 : decode cX3_takeSign 151 = .ok (.ireturn, 1) := dk_172 (dk_at dksX3_takeSign_5 22 rfl rfl)
theorem dX3_takeSign_152 : decode cX3_takeSign 152 = .ok (.aload_n 0, 1) := dk_42 (dk_at dksX3_takeSign_5 23 rfl rfl)
theorem dX3_takeSign_153 : decode cX3_takeSign 153 = .ok (.getfield 62, 3) := dk_180 0 62 (dk_at dksX3_takeSign_6 0 rfl rfl)
theorem dX3_takeSign_156 : decode cX3_takeSign 156 = .ok (.bipush 20, 2) := dk_16 20 (dk_at dksX3_takeSign_6 3 rfl rfl)
theorem dX3_takeSign_158 : decode cX3_takeSign 158 = .ok (.iaload, 1) := dk_46 (dk_at dksX3_takeSign_6 5 rfl rfl)
theorem dX3_takeSign_159 : decode cX3_takeSign 159 = .ok (.bipush 15, 2) := dk_16 15 (dk_at dksX3_takeSign_6 6 rfl rfl)
theorem dX3_takeSign_161 : decode cX3_takeSign 161 = .ok (.if_icmp .eq 7, 3) := dk_159 0 7 (dk_at dksX3_takeSign_6 8 rfl rfl)
theorem dX3_takeSign_164 : decode cX3_takeSign 164 = .ok (.iconst 1, 1) := dk_4 (dk_at dksX3_takeSign_6 11 rfl rfl)
theorem dX3_takeSign_165 : decode cX3_takeSign 165 = .ok (.goto 4, 3) := dk_167 0 4 (dk_at dksX3_takeSign_6 12 rfl rfl)
theorem dX3_takeSign_168 : decode cX3_takeSign 168 = .ok (.iconst 0, 1) := dk_3 (dk_at dksX3_takeSign_6 15 rfl rfl)
theorem dX3_takeSign_169 : decode cX3_takeSign 169 = .ok (.ireturn, 1) := dk_172 (dk_at dksX3_takeSign_6 16 rfl rfl)
theorem dX3_takeSign_170 : decode cX3_takeSign 170 = .ok (.aload_n 0, 1) := dk_42 (dk_at dksX3_takeSign_6 17 rfl rfl)
theorem dX3_takeSign_171 : decode cX3_takeSign 171 = .ok (.getfield 62, 3) := dk_180 0 62 (dk_at dksX3_takeSign_6 18 rfl rfl)
theorem dX3_takeSign_174 : decode cX3_takeSign 174 = .ok (.bipush 21, 2) := dk_16 21 (dk_at dksX3_takeSign_6 21 rfl rfl)
theorem dX3_takeSign_176 : decode cX3_takeSign 176 = .ok (.iaload, 1) := dk_46 (dk_at dksX3_takeSign_6 23 rfl rfl)
theorem dX3_takeSign_177 : decode cX3_takeSign 177 = .ok (.aload_n 0, 1) := dk_42 (dk_at dksX3_takeSign_7 0 rfl rfl)
theorem dX3_takeSign_178 : decode cX3_takeSign 178 = .ok (.getfield 62, 3) := dk_180 0 62 (dk_at dksX3_takeSign_7 1 rfl rfl)
theorem dX3_takeSign_181 : decode cX3_takeSign 181 = .ok (.bipush 22, 2) := dk_16 22 (dk_at dksX3_takeSign_7 4 rfl rfl)
theorem dX3_takeSign_183 : decode cX3_takeSign 183 = .ok (.iaload, 1) := dk_46 (dk_at dksX3_takeSign_7 6 rfl rfl)
theorem dX3_takeSign_184 : decode cX3_takeSign 184 = .ok (.iadd, 1) := dk_96 (dk_at dksX3_takeSign_7 7 rfl rfl)
theorem dX3_takeSign_185 : decode cX3_takeSign 185 = .ok (.aload_n 0, 1) := dk_42 (dk_at dksX3_takeSign_7 8 rfl rfl)
theorem dX3_takeSign_186 : decode cX3_takeSign 186 = .ok (.getfield 62, 3) := dk_180 0 62 (dk_at dksX3_takeSign_7 9 rfl rfl)
theorem dX3_takeSign_189 : decode cX3_takeSign 189 = .ok (.bipush 23, 2) := dk_16 23 (dk_at dksX3_takeSign_7 12 rfl rfl)
theorem dX3_takeSign_191 : decode cX3_takeSign 191 = .ok (.iaload, 1) := dk_46 (dk_at dksX3_takeSign_7 14 rfl rfl)
theorem dX3_takeSign_192 : decode cX3_takeSign 192 = .ok (.iadd, 1) := dk_96 (dk_at dksX3_takeSign_7 15 rfl rfl)
theorem dX3_takeSign_193 : decode cX3_takeSign 193 = .ok (.aload_n 0, 1) := dk_42 (dk_at dksX3_takeSign_7 16 rfl rfl)
theorem dX3_takeSign_194 : decode cX3_takeSign 194 = .ok (.getfield 62, 3) := dk_180 0 62 (dk_at dksX3_takeSign_7 17 rfl rfl)
theorem dX3_takeSign_197 : decode cX3_takeSign 197 = .ok (.bipush 24, 2) := dk_16 24 (dk_at dksX3_takeSign_7 20 rfl rfl)
theorem dX3_takeSign_199 : decode cX3_takeSign 199 = .ok (.iaload, 1) := dk_46 (dk_at dksX3_takeSign_7 22 rfl rfl)
theorem dX3_takeSign_200 : decode cX3_takeSign 200 = .ok (.iadd, 1) := dk_96 (dk_at dksX3_takeSign_7 23 rfl rfl)
theorem dX3_takeSign_201 : decode cX3_takeSign 201 = .ok (.bipush 60, 2) := dk_16 60 (dk_at dksX3_takeSign_8 0 rfl rfl)
theorem dX3_takeSign_203 : decode cX3_takeSign 203 = .ok (.if_icmp .eq 7, 3) := dk_159 0 7 (dk_at dksX3_takeSign_8 2 rfl rfl)
theorem dX3_takeSign_206 : decode cX3_takeSign 206 = .ok (.iconst 1, 1) := dk_4 (dk_at dksX3_takeSign_8 5 rfl rfl)
theorem dX3_takeSign_207 : decode cX3_takeSign 207 = .ok (.goto 4, 3) := dk_167 0 4 (dk_at dksX3_takeSign_8 6 rfl rfl)
theorem dX3_takeSign_210 : decode cX3_takeSign 210 = .ok (.iconst 0, 1) := dk_3 (dk_at dksX3_takeSign_8 9 rfl rfl)
theorem dX3_takeSign_211 : decode cX3_takeSign 211 = .ok (.ireturn, 1) := dk_172 (dk_at dksX3_takeSign_8 10 rfl rfl)
theorem dX3_takeSign_212 : decode cX3_takeSign 212 = .ok (.iconst 0, 1) := dk_3 (dk_at dksX3_takeSign_8 11 rfl rfl)
theorem dX3_takeSign_213 : decode cX3_takeSign 213 = .ok (.ireturn, 1) := dk_172 (dk_at dksX3_takeSign_8 12 rfl rfl)
abbrev cX3_bagOf : ByteArray := prog_13_method_14_code
def yX3_bagOf : MethodName := ⟨RX3, "bagOf", "([I)I"⟩
def dkwX3_bagOf_0 : List UInt8 := [3, 60, 3, 61, 28, 16, 8, 162, 0, 15, 27, 42, 28, 46, 96, 60, 132, 2, 1, 167, 255, 241, 27, 172]
abbrev dktX3_bagOf_0 : List UInt8 := dkwX3_bagOf_0 ++ []
theorem dksX3_bagOf_0 : cX3_bagOf.data.toList.drop 0 = dktX3_bagOf_0 := by decide +kernel
theorem dX3_bagOf_0 : decode cX3_bagOf 0 = .ok (.iconst 0, 1) := dk_3 (dk_at dksX3_bagOf_0 0 rfl rfl)
theorem dX3_bagOf_1 : decode cX3_bagOf 1 = .ok (.istore_n 1, 1) := dk_60 (dk_at dksX3_bagOf_0 1 rfl rfl)
theorem dX3_bagOf_2 : decode cX3_bagOf 2 = .ok (.iconst 0, 1) := dk_3 (dk_at dksX3_bagOf_0 2 rfl rfl)
theorem dX3_bagOf_3 : decode cX3_bagOf 3 = .ok (.istore_n 2, 1) := dk_61 (dk_at dksX3_bagOf_0 3 rfl rfl)
theorem dX3_bagOf_4 : decode cX3_bagOf 4 = .ok (.iload_n 2, 1) := dk_28 (dk_at dksX3_bagOf_0 4 rfl rfl)
theorem dX3_bagOf_5 : decode cX3_bagOf 5 = .ok (.bipush 8, 2) := dk_16 8 (dk_at dksX3_bagOf_0 5 rfl rfl)
theorem dX3_bagOf_7 : decode cX3_bagOf 7 = .ok (.if_icmp .ge 15, 3) := dk_162 0 15 (dk_at dksX3_bagOf_0 7 rfl rfl)
theorem dX3_bagOf_10 : decode cX3_bagOf 10 = .ok (.iload_n 1, 1) := dk_27 (dk_at dksX3_bagOf_0 10 rfl rfl)
theorem dX3_bagOf_11 : decode cX3_bagOf 11 = .ok (.aload_n 0, 1) := dk_42 (dk_at dksX3_bagOf_0 11 rfl rfl)
theorem dX3_bagOf_12 : decode cX3_bagOf 12 = .ok (.iload_n 2, 1) := dk_28 (dk_at dksX3_bagOf_0 12 rfl rfl)
theorem dX3_bagOf_13 : decode cX3_bagOf 13 = .ok (.iaload, 1) := dk_46 (dk_at dksX3_bagOf_0 13 rfl rfl)
theorem dX3_bagOf_14 : decode cX3_bagOf 14 = .ok (.iadd, 1) := dk_96 (dk_at dksX3_bagOf_0 14 rfl rfl)
theorem dX3_bagOf_15 : decode cX3_bagOf 15 = .ok (.istore_n 1, 1) := dk_60 (dk_at dksX3_bagOf_0 15 rfl rfl)
theorem dX3_bagOf_16 : decode cX3_bagOf 16 = .ok (.iinc 2 1, 3) := dk_132 2 1 (dk_at dksX3_bagOf_0 16 rfl rfl)
theorem dX3_bagOf_19 : decode cX3_bagOf 19 = .ok (.goto (-15), 3) := dk_167 255 241 (dk_at dksX3_bagOf_0 19 rfl rfl)
theorem dX3_bagOf_22 : decode cX3_bagOf 22 = .ok (.iload_n 1, 1) := dk_27 (dk_at dksX3_bagOf_0 22 rfl rfl)
theorem dX3_bagOf_23 : decode cX3_bagOf 23 = .ok (.ireturn, 1) := dk_172 (dk_at dksX3_bagOf_0 23 rfl rfl)
abbrev cX3_takeIn : ByteArray := prog_13_method_22_code
def yX3_takeIn : MethodName := ⟨RX3, "takeIn", "(I)Z"⟩
def dkwX3_takeIn_3 : List UInt8 := [182, 0, 156, 172, 42, 27, 182, 0, 165, 172]
abbrev dktX3_takeIn_3 : List UInt8 := dkwX3_takeIn_3 ++ []
def dkwX3_takeIn_2 : List UInt8 := [42, 27, 182, 0, 159, 172, 42, 27, 182, 0, 162, 172, 42, 27, 16, 19, 182, 0, 156, 172, 42, 27, 16, 20]
abbrev dktX3_takeIn_2 : List UInt8 := dkwX3_takeIn_2 ++ dktX3_takeIn_3
def dkwX3_takeIn_1 : List UInt8 := [171, 0, 0, 0, 0, 0, 0, 72, 0, 0, 0, 4, 0, 0, 0, 43, 0, 0, 0, 50, 0, 0, 0, 46, 0, 0, 0, 64, 0, 0, 0, 94, 0, 0, 0, 56, 0, 0, 0, 119, 0, 0, 0, 44]
abbrev dktX3_takeIn_1 : List UInt8 := dkwX3_takeIn_1 ++ dktX3_takeIn_2
def dkwX3_takeIn_0 : List UInt8 := [42, 180, 0, 120]
abbrev dktX3_takeIn_0 : List UInt8 := dkwX3_takeIn_0 ++ dktX3_takeIn_1
theorem dksX3_takeIn_0 : cX3_takeIn.data.toList.drop 0 = dktX3_takeIn_0 := by decide +kernel
theorem dksX3_takeIn_1 : cX3_takeIn.data.toList.drop 4 = dktX3_takeIn_1 := dk_seg dksX3_takeIn_0 4 rfl rfl
theorem dksX3_takeIn_2 : cX3_takeIn.data.toList.drop 48 = dktX3_takeIn_2 := dk_seg dksX3_takeIn_1 44 rfl rfl
theorem dksX3_takeIn_3 : cX3_takeIn.data.toList.drop 72 = dktX3_takeIn_3 := dk_seg dksX3_takeIn_2 24 rfl rfl
theorem dX3_takeIn_0 : decode cX3_takeIn 0 = .ok (.aload_n 0, 1) := dk_42 (dk_at dksX3_takeIn_0 0 rfl rfl)
theorem dX3_takeIn_1 : decode cX3_takeIn 1 = .ok (.getfield 120, 3) := dk_180 0 120 (dk_at dksX3_takeIn_0 1 rfl rfl)
theorem dX3_takeIn_4 : decode cX3_takeIn 4 = .ok (.lookupswitch 72 #[(43, 50), (46, 64), (94, 56), (119, 44)], 44) := by decide +kernel
theorem dX3_takeIn_48 : decode cX3_takeIn 48 = .ok (.aload_n 0, 1) := dk_42 (dk_at dksX3_takeIn_2 0 rfl rfl)
theorem dX3_takeIn_49 : decode cX3_takeIn 49 = .ok (.iload_n 1, 1) := dk_27 (dk_at dksX3_takeIn_2 1 rfl rfl)
theorem dX3_takeIn_50 : decode cX3_takeIn 50 = .ok (.invokevirtual 159, 3) := dk_182 0 159 (dk_at dksX3_takeIn_2 2 rfl rfl)
theorem dX3_takeIn_53 : decode cX3_takeIn 53 = .ok (.ireturn, 1) := dk_172 (dk_at dksX3_takeIn_2 5 rfl rfl)
theorem dX3_takeIn_54 : decode cX3_takeIn 54 = .ok (.aload_n 0, 1) := dk_42 (dk_at dksX3_takeIn_2 6 rfl rfl)
theorem dX3_takeIn_55 : decode cX3_takeIn 55 = .ok (.iload_n 1, 1) := dk_27 (dk_at dksX3_takeIn_2 7 rfl rfl)
theorem dX3_takeIn_56 : decode cX3_takeIn 56 = .ok (.invokevirtual 162, 3) := dk_182 0 162 (dk_at dksX3_takeIn_2 8 rfl rfl)
theorem dX3_takeIn_59 : decode cX3_takeIn 59 = .ok (.ireturn, 1) := dk_172 (dk_at dksX3_takeIn_2 11 rfl rfl)
theorem dX3_takeIn_60 : decode cX3_takeIn 60 = .ok (.aload_n 0, 1) := dk_42 (dk_at dksX3_takeIn_2 12 rfl rfl)
theorem dX3_takeIn_61 : decode cX3_takeIn 61 = .ok (.iload_n 1, 1) := dk_27 (dk_at dksX3_takeIn_2 13 rfl rfl)
theorem dX3_takeIn_62 : decode cX3_takeIn 62 = .ok (.bipush 19, 2) := dk_16 19 (dk_at dksX3_takeIn_2 14 rfl rfl)
theorem dX3_takeIn_64 : decode cX3_takeIn 64 = .ok (.invokevirtual 156, 3) := dk_182 0 156 (dk_at dksX3_takeIn_2 16 rfl rfl)
theorem dX3_takeIn_67 : decode cX3_takeIn 67 = .ok (.ireturn, 1) := dk_172 (dk_at dksX3_takeIn_2 19 rfl rfl)
theorem dX3_takeIn_68 : decode cX3_takeIn 68 = .ok (.aload_n 0, 1) := dk_42 (dk_at dksX3_takeIn_2 20 rfl rfl)
theorem dX3_takeIn_69 : decode cX3_takeIn 69 = .ok (.iload_n 1, 1) := dk_27 (dk_at dksX3_takeIn_2 21 rfl rfl)
theorem dX3_takeIn_70 : decode cX3_takeIn 70 = .ok (.bipush 20, 2) := dk_16 20 (dk_at dksX3_takeIn_2 22 rfl rfl)
theorem dX3_takeIn_72 : decode cX3_takeIn 72 = .ok (.invokevirtual 156, 3) := dk_182 0 156 (dk_at dksX3_takeIn_3 0 rfl rfl)
theorem dX3_takeIn_75 : decode cX3_takeIn 75 = .ok (.ireturn, 1) := dk_172 (dk_at dksX3_takeIn_3 3 rfl rfl)
theorem dX3_takeIn_76 : decode cX3_takeIn 76 = .ok (.aload_n 0, 1) := dk_42 (dk_at dksX3_takeIn_3 4 rfl rfl)
theorem dX3_takeIn_77 : decode cX3_takeIn 77 = .ok (.iload_n 1, 1) := dk_27 (dk_at dksX3_takeIn_3 5 rfl rfl)
theorem dX3_takeIn_78 : decode cX3_takeIn 78 = .ok (.invokevirtual 165, 3) := dk_182 0 165 (dk_at dksX3_takeIn_3 6 rfl rfl)
theorem dX3_takeIn_81 : decode cX3_takeIn 81 = .ok (.ireturn, 1) := dk_172 (dk_at dksX3_takeIn_3 9 rfl rfl)
abbrev cX3_takeOfWord : ByteArray := prog_13_method_18_code
def yX3_takeOfWord : MethodName := ⟨RX3, "takeOfWord", "(I)Z"⟩
def dkwX3_takeOfWord_6 : List UInt8 := [180, 0, 56, 28, 46, 158, 0, 7, 4, 167, 0, 4, 3, 172]
abbrev dktX3_takeOfWord_6 : List UInt8 := dkwX3_takeOfWord_6 ++ []
def dkwX3_takeOfWord_5 : List UInt8 := [16, 65, 100, 79, 42, 5, 181, 0, 123, 27, 133, 20, 0, 141, 20, 0, 143, 184, 0, 107, 153, 0, 16, 42]
abbrev dktX3_takeOfWord_5 : List UInt8 := dkwX3_takeOfWord_5 ++ dktX3_takeOfWord_6
def dkwX3_takeOfWord_4 : List UInt8 := [96, 27, 16, 97, 100, 79, 42, 180, 0, 56, 28, 92, 46, 4, 96, 79, 4, 172, 42, 180, 0, 59, 28, 27]
abbrev dktX3_takeOfWord_4 : List UInt8 := dkwX3_takeOfWord_4 ++ dktX3_takeOfWord_5
def dkwX3_takeOfWord_3 : List UInt8 := [180, 0, 56, 28, 46, 16, 6, 162, 0, 35, 42, 180, 0, 53, 16, 6, 28, 104, 42, 180, 0, 56, 28, 46]
abbrev dktX3_takeOfWord_3 : List UInt8 := dkwX3_takeOfWord_3 ++ dktX3_takeOfWord_4
def dkwX3_takeOfWord_2 : List UInt8 := [20, 0, 135, 184, 0, 107, 172, 27, 133, 20, 0, 137, 20, 0, 139, 184, 0, 107, 153, 0, 46, 42]
abbrev dktX3_takeOfWord_2 : List UInt8 := dkwX3_takeOfWord_2 ++ dktX3_takeOfWord_3
def dkwX3_takeOfWord_1 : List UInt8 := [100, 79, 42, 89, 180, 0, 126, 4, 96, 181, 0, 126, 42, 3, 181, 0, 123, 27, 133, 20, 0, 133]
abbrev dktX3_takeOfWord_1 : List UInt8 := dkwX3_takeOfWord_1 ++ dktX3_takeOfWord_2
def dkwX3_takeOfWord_0 : List UInt8 := [42, 180, 0, 126, 61, 42, 180, 0, 123, 5, 160, 0, 43, 42, 180, 0, 62, 16, 9, 28, 96, 27, 16, 48]
abbrev dktX3_takeOfWord_0 : List UInt8 := dkwX3_takeOfWord_0 ++ dktX3_takeOfWord_1
theorem dksX3_takeOfWord_0 : cX3_takeOfWord.data.toList.drop 0 = dktX3_takeOfWord_0 := by decide +kernel
theorem dksX3_takeOfWord_1 : cX3_takeOfWord.data.toList.drop 24 = dktX3_takeOfWord_1 := dk_seg dksX3_takeOfWord_0 24 rfl rfl
theorem dksX3_takeOfWord_2 : cX3_takeOfWord.data.toList.drop 46 = dktX3_takeOfWord_2 := dk_seg dksX3_takeOfWord_1 22 rfl rfl
theorem dksX3_takeOfWord_3 : cX3_takeOfWord.data.toList.drop 68 = dktX3_takeOfWord_3 := dk_seg dksX3_takeOfWord_2 22 rfl rfl
theorem dksX3_takeOfWord_4 : cX3_takeOfWord.data.toList.drop 92 = dktX3_takeOfWord_4 := dk_seg dksX3_takeOfWord_3 24 rfl rfl
theorem dksX3_takeOfWord_5 : cX3_takeOfWord.data.toList.drop 116 = dktX3_takeOfWord_5 := dk_seg dksX3_takeOfWord_4 24 rfl rfl
theorem dksX3_takeOfWord_6 : cX3_takeOfWord.data.toList.drop 140 = dktX3_takeOfWord_6 := dk_seg dksX3_takeOfWord_5 24 rfl rfl
theorem dX3_takeOfWord_0 : decode cX3_takeOfWord 0 = .ok (.aload_n 0, 1) := dk_42 (dk_at dksX3_takeOfWord_0 0 rfl rfl)
theorem dX3_takeOfWord_1 : decode cX3_takeOfWord 1 = .ok (.getfield 126, 3) := dk_180 0 126 (dk_at dksX3_takeOfWord_0 1 rfl rfl)
theorem dX3_takeOfWord_4 : decode cX3_takeOfWord 4 = .ok (.istore_n 2, 1) := dk_61 (dk_at dksX3_takeOfWord_0 4 rfl rfl)
theorem dX3_takeOfWord_5 : decode cX3_takeOfWord 5 = .ok (.aload_n 0, 1) := dk_42 (dk_at dksX3_takeOfWord_0 5 rfl rfl)
theorem dX3_takeOfWord_6 : decode cX3_takeOfWord 6 = .ok (.getfield 123, 3) := dk_180 0 123 (dk_at dksX3_takeOfWord_0 6 rfl rfl)
theorem dX3_takeOfWord_9 : decode cX3_takeOfWord 9 = .ok (.iconst 2, 1) := dk_5 (dk_at dksX3_takeOfWord_0 9 rfl rfl)
theorem dX3_takeOfWord_10 : decode cX3_takeOfWord 10 = .ok (.if_icmp .ne 43, 3) := dk_160 0 43 (dk_at dksX3_takeOfWord_0 10 rfl rfl)
theorem dX3_takeOfWord_13 : decode cX3_takeOfWord 13 = .ok (.aload_n 0, 1) := dk_42 (dk_at dksX3_takeOfWord_0 13 rfl rfl)
theorem dX3_takeOfWord_14 : decode cX3_takeOfWord 14 = .ok (.getfield 62, 3) := dk_180 0 62 (dk_at dksX3_takeOfWord_0 14 rfl rfl)
theorem dX3_takeOfWord_17 : decode cX3_takeOfWord 17 = .ok (.bipush 9, 2) := dk_16 9 (dk_at dksX3_takeOfWord_0 17 rfl rfl)
theorem dX3_takeOfWord_19 : decode cX3_takeOfWord 19 = .ok (.iload_n 2, 1) := dk_28 (dk_at dksX3_takeOfWord_0 19 rfl rfl)
theorem dX3_takeOfWord_20 : decode cX3_takeOfWord 20 = .ok (.iadd, 1) := dk_96 (dk_at dksX3_takeOfWord_0 20 rfl rfl)
theorem dX3_takeOfWord_21 : decode cX3_takeOfWord 21 = .ok (.iload_n 1, 1) := dk_27 (dk_at dksX3_takeOfWord_0 21 rfl rfl)
theorem dX3_takeOfWord_22 : decode cX3_takeOfWord 22 = .ok (.bipush 48, 2) := dk_16 48 (dk_at dksX3_takeOfWord_0 22 rfl rfl)
theorem dX3_takeOfWord_24 : decode cX3_takeOfWord 24 = .ok (.isub, 1) := dk_100 (dk_at dksX3_takeOfWord_1 0 rfl rfl)
theorem dX3_takeOfWord_25 : decode cX3_takeOfWord 25 = .ok (.iastore, 1) := dk_79 (dk_at dksX3_takeOfWord_1 1 rfl rfl)
theorem dX3_takeOfWord_26 : decode cX3_takeOfWord 26 = .ok (.aload_n 0, 1) := dk_42 (dk_at dksX3_takeOfWord_1 2 rfl rfl)
theorem dX3_takeOfWord_27 : decode cX3_takeOfWord 27 = .ok (.dup, 1) := dk_89 (dk_at dksX3_takeOfWord_1 3 rfl rfl)
theorem dX3_takeOfWord_28 : decode cX3_takeOfWord 28 = .ok (.getfield 126, 3) := dk_180 0 126 (dk_at dksX3_takeOfWord_1 4 rfl rfl)
theorem dX3_takeOfWord_31 : decode cX3_takeOfWord 31 = .ok (.iconst 1, 1) := dk_4 (dk_at dksX3_takeOfWord_1 7 rfl rfl)
theorem dX3_takeOfWord_32 : decode cX3_takeOfWord 32 = .ok (.iadd, 1) := dk_96 (dk_at dksX3_takeOfWord_1 8 rfl rfl)
theorem dX3_takeOfWord_33 : decode cX3_takeOfWord 33 = .ok (.putfield 126, 3) := dk_181 0 126 (dk_at dksX3_takeOfWord_1 9 rfl rfl)
theorem dX3_takeOfWord_36 : decode cX3_takeOfWord 36 = .ok (.aload_n 0, 1) := dk_42 (dk_at dksX3_takeOfWord_1 12 rfl rfl)
theorem dX3_takeOfWord_37 : decode cX3_takeOfWord 37 = .ok (.iconst 0, 1) := dk_3 (dk_at dksX3_takeOfWord_1 13 rfl rfl)
theorem dX3_takeOfWord_38 : decode cX3_takeOfWord 38 = .ok (.putfield 123, 3) := dk_181 0 123 (dk_at dksX3_takeOfWord_1 14 rfl rfl)
theorem dX3_takeOfWord_41 : decode cX3_takeOfWord 41 = .ok (.iload_n 1, 1) := dk_27 (dk_at dksX3_takeOfWord_1 17 rfl rfl)
theorem dX3_takeOfWord_42 : decode cX3_takeOfWord 42 = .ok (.i2l, 1) := dk_133 (dk_at dksX3_takeOfWord_1 18 rfl rfl)
theorem dX3_takeOfWord_43 : decode cX3_takeOfWord 43 = .ok (.ldc2_w 133, 3) := dk_20 0 133 (dk_at dksX3_takeOfWord_1 19 rfl rfl)
theorem dX3_takeOfWord_46 : decode cX3_takeOfWord 46 = .ok (.ldc2_w 135, 3) := dk_20 0 135 (dk_at dksX3_takeOfWord_2 0 rfl rfl)
theorem dX3_takeOfWord_49 : decode cX3_takeOfWord 49 = .ok (.invokestatic 107, 3) := dk_184 0 107 (dk_at dksX3_takeOfWord_2 3 rfl rfl)
theorem dX3_takeOfWord_52 : decode cX3_takeOfWord 52 = .ok (.ireturn, 1) := dk_172 (dk_at dksX3_takeOfWord_2 6 rfl rfl)
theorem dX3_takeOfWord_53 : decode cX3_takeOfWord 53 = .ok (.iload_n 1, 1) := dk_27 (dk_at dksX3_takeOfWord_2 7 rfl rfl)
theorem dX3_takeOfWord_54 : decode cX3_takeOfWord 54 = .ok (.i2l, 1) := dk_133 (dk_at dksX3_takeOfWord_2 8 rfl rfl)
theorem dX3_takeOfWord_55 : decode cX3_takeOfWord 55 = .ok (.ldc2_w 137, 3) := dk_20 0 137 (dk_at dksX3_takeOfWord_2 9 rfl rfl)
theorem dX3_takeOfWord_58 : decode cX3_takeOfWord 58 = .ok (.ldc2_w 139, 3) := dk_20 0 139 (dk_at dksX3_takeOfWord_2 12 rfl rfl)
theorem dX3_takeOfWord_61 : decode cX3_takeOfWord 61 = .ok (.invokestatic 107, 3) := dk_184 0 107 (dk_at dksX3_takeOfWord_2 15 rfl rfl)
theorem dX3_takeOfWord_64 : decode cX3_takeOfWord 64 = .ok (.ifCond .eq 46, 3) := dk_153 0 46 (dk_at dksX3_takeOfWord_2 18 rfl rfl)
theorem dX3_takeOfWord_67 : decode cX3_takeOfWord 67 = .ok (.aload_n 0, 1) := dk_42 (dk_at dksX3_takeOfWord_2 21 rfl rfl)
theorem dX3_takeOfWord_68 : decode cX3_takeOfWord 68 = .ok (.getfield 56, 3) := dk_180 0 56 (dk_at dksX3_takeOfWord_3 0 rfl rfl)
theorem dX3_takeOfWord_71 : decode cX3_takeOfWord 71 = .ok (.iload_n 2, 1) := dk_28 (dk_at dksX3_takeOfWord_3 3 rfl rfl)
theorem dX3_takeOfWord_72 : decode cX3_takeOfWord 72 = .ok (.iaload, 1) := dk_46 (dk_at dksX3_takeOfWord_3 4 rfl rfl)
theorem dX3_takeOfWord_73 : decode cX3_takeOfWord 73 = .ok (.bipush 6, 2) := dk_16 6 (dk_at dksX3_takeOfWord_3 5 rfl rfl)
theorem dX3_takeOfWord_75 : decode cX3_takeOfWord 75 = .ok (.if_icmp .ge 35, 3) := dk_162 0 35 (dk_at dksX3_takeOfWord_3 7 rfl rfl)
theorem dX3_takeOfWord_78 : decode cX3_takeOfWord 78 = .ok (.aload_n 0, 1) := dk_42 (dk_at dksX3_takeOfWord_3 10 rfl rfl)
theorem dX3_takeOfWord_79 : decode cX3_takeOfWord 79 = .ok (.getfield 53, 3) := dk_180 0 53 (dk_at dksX3_takeOfWord_3 11 rfl rfl)
theorem dX3_takeOfWord_82 : decode cX3_takeOfWord 82 = .ok (.bipush 6, 2) := dk_16 6 (dk_at dksX3_takeOfWord_3 14 rfl rfl)
theorem dX3_takeOfWord_84 : decode cX3_takeOfWord 84 = .ok (.iload_n 2, 1) := dk_28 (dk_at dksX3_takeOfWord_3 16 rfl rfl)
theorem dX3_takeOfWord_85 : decode cX3_takeOfWord 85 = .ok (.imul, 1) := dk_104 (dk_at dksX3_takeOfWord_3 17 rfl rfl)
theorem dX3_takeOfWord_86 : decode cX3_takeOfWord 86 = .ok (.aload_n 0, 1) := dk_42 (dk_at dksX3_takeOfWord_3 18 rfl rfl)
theorem dX3_takeOfWord_87 : decode cX3_takeOfWord 87 = .ok (.getfield 56, 3) := dk_180 0 56 (dk_at dksX3_takeOfWord_3 19 rfl rfl)
theorem dX3_takeOfWord_90 : decode cX3_takeOfWord 90 = .ok (.iload_n 2, 1) := dk_28 (dk_at dksX3_takeOfWord_3 22 rfl rfl)
theorem dX3_takeOfWord_91 : decode cX3_takeOfWord 91 = .ok (.iaload, 1) := dk_46 (dk_at dksX3_takeOfWord_3 23 rfl rfl)
theorem dX3_takeOfWord_92 : decode cX3_takeOfWord 92 = .ok (.iadd, 1) := dk_96 (dk_at dksX3_takeOfWord_4 0 rfl rfl)
theorem dX3_takeOfWord_93 : decode cX3_takeOfWord 93 = .ok (.iload_n 1, 1) := dk_27 (dk_at dksX3_takeOfWord_4 1 rfl rfl)
theorem dX3_takeOfWord_94 : decode cX3_takeOfWord 94 = .ok (.bipush 97, 2) := dk_16 97 (dk_at dksX3_takeOfWord_4 2 rfl rfl)
theorem dX3_takeOfWord_96 : decode cX3_takeOfWord 96 = .ok (.isub, 1) := dk_100 (dk_at dksX3_takeOfWord_4 4 rfl rfl)
theorem dX3_takeOfWord_97 : decode cX3_takeOfWord 97 = .ok (.iastore, 1) := dk_79 (dk_at dksX3_takeOfWord_4 5 rfl rfl)
theorem dX3_takeOfWord_98 : decode cX3_takeOfWord 98 = .ok (.aload_n 0, 1) := dk_42 (dk_at dksX3_takeOfWord_4 6 rfl rfl)
theorem dX3_takeOfWord_99 : decode cX3_takeOfWord 99 = .ok (.getfield 56, 3) := dk_180 0 56 (dk_at dksX3_takeOfWord_4 7 rfl rfl)
theorem dX3_takeOfWord_102 : decode cX3_takeOfWord 102 = .ok (.iload_n 2, 1) := dk_28 (dk_at dksX3_takeOfWord_4 10 rfl rfl)
theorem dX3_takeOfWord_103 : decode cX3_takeOfWord 103 = .ok (.dup2, 1) := dk_92 (dk_at dksX3_takeOfWord_4 11 rfl rfl)
theorem dX3_takeOfWord_104 : decode cX3_takeOfWord 104 = .ok (.iaload, 1) := dk_46 (dk_at dksX3_takeOfWord_4 12 rfl rfl)
theorem dX3_takeOfWord_105 : decode cX3_takeOfWord 105 = .ok (.iconst 1, 1) := dk_4 (dk_at dksX3_takeOfWord_4 13 rfl rfl)
theorem dX3_takeOfWord_106 : decode cX3_takeOfWord 106 = .ok (.iadd, 1) := dk_96 (dk_at dksX3_takeOfWord_4 14 rfl rfl)
theorem dX3_takeOfWord_107 : decode cX3_takeOfWord 107 = .ok (.iastore, 1) := dk_79 (dk_at dksX3_takeOfWord_4 15 rfl rfl)
theorem dX3_takeOfWord_108 : decode cX3_takeOfWord 108 = .ok (.iconst 1, 1) := dk_4 (dk_at dksX3_takeOfWord_4 16 rfl rfl)
theorem dX3_takeOfWord_109 : decode cX3_takeOfWord 109 = .ok (.ireturn, 1) := dk_172 (dk_at dksX3_takeOfWord_4 17 rfl rfl)
theorem dX3_takeOfWord_110 : decode cX3_takeOfWord 110 = .ok (.aload_n 0, 1) := dk_42 (dk_at dksX3_takeOfWord_4 18 rfl rfl)
theorem dX3_takeOfWord_111 : decode cX3_takeOfWord 111 = .ok (.getfield 59, 3) := dk_180 0 59 (dk_at dksX3_takeOfWord_4 19 rfl rfl)
theorem dX3_takeOfWord_114 : decode cX3_takeOfWord 114 = .ok (.iload_n 2, 1) := dk_28 (dk_at dksX3_takeOfWord_4 22 rfl rfl)
theorem dX3_takeOfWord_115 : decode cX3_takeOfWord 115 = .ok (.iload_n 1, 1) := dk_27 (dk_at dksX3_takeOfWord_4 23 rfl rfl)
theorem dX3_takeOfWord_116 : decode cX3_takeOfWord 116 = .ok (.bipush 65, 2) := dk_16 65 (dk_at dksX3_takeOfWord_5 0 rfl rfl)
theorem dX3_takeOfWord_118 : decode cX3_takeOfWord 118 = .ok (.isub, 1) := dk_100 (dk_at dksX3_takeOfWord_5 2 rfl rfl)
theorem dX3_takeOfWord_119 : decode cX3_takeOfWord 119 = .ok (.iastore, 1) := dk_79 (dk_at dksX3_takeOfWord_5 3 rfl rfl)
theorem dX3_takeOfWord_120 : decode cX3_takeOfWord 120 = .ok (.aload_n 0, 1) := dk_42 (dk_at dksX3_takeOfWord_5 4 rfl rfl)
theorem dX3_takeOfWord_121 : decode cX3_takeOfWord 121 = .ok (.iconst 2, 1) := dk_5 (dk_at dksX3_takeOfWord_5 5 rfl rfl)
theorem dX3_takeOfWord_122 : decode cX3_takeOfWord 122 = .ok (.putfield 123, 3) := dk_181 0 123 (dk_at dksX3_takeOfWord_5 6 rfl rfl)
theorem dX3_takeOfWord_125 : decode cX3_takeOfWord 125 = .ok (.iload_n 1, 1) := dk_27 (dk_at dksX3_takeOfWord_5 9 rfl rfl)
theorem dX3_takeOfWord_126 : decode cX3_takeOfWord 126 = .ok (.i2l, 1) := dk_133 (dk_at dksX3_takeOfWord_5 10 rfl rfl)
theorem dX3_takeOfWord_127 : decode cX3_takeOfWord 127 = .ok (.ldc2_w 141, 3) := dk_20 0 141 (dk_at dksX3_takeOfWord_5 11 rfl rfl)
theorem dX3_takeOfWord_130 : decode cX3_takeOfWord 130 = .ok (.ldc2_w 143, 3) := dk_20 0 143 (dk_at dksX3_takeOfWord_5 14 rfl rfl)
theorem dX3_takeOfWord_133 : decode cX3_takeOfWord 133 = .ok (.invokestatic 107, 3) := dk_184 0 107 (dk_at dksX3_takeOfWord_5 17 rfl rfl)
theorem dX3_takeOfWord_136 : decode cX3_takeOfWord 136 = .ok (.ifCond .eq 16, 3) := dk_153 0 16 (dk_at dksX3_takeOfWord_5 20 rfl rfl)
theorem dX3_takeOfWord_139 : decode cX3_takeOfWord 139 = .ok (.aload_n 0, 1) := dk_42 (dk_at dksX3_takeOfWord_5 23 rfl rfl)
theorem dX3_takeOfWord_140 : decode cX3_takeOfWord 140 = .ok (.getfield 56, 3) := dk_180 0 56 (dk_at dksX3_takeOfWord_6 0 rfl rfl)
theorem dX3_takeOfWord_143 : decode cX3_takeOfWord 143 = .ok (.iload_n 2, 1) := dk_28 (dk_at dksX3_takeOfWord_6 3 rfl rfl)
theorem dX3_takeOfWord_144 : decode cX3_takeOfWord 144 = .ok (.iaload, 1) := dk_46 (dk_at dksX3_takeOfWord_6 4 rfl rfl)
theorem dX3_takeOfWord_145 : decode cX3_takeOfWord 145 = .ok (.ifCond .le 7, 3) := dk_158 0 7 (dk_at dksX3_takeOfWord_6 5 rfl rfl)
theorem dX3_takeOfWord_148 : decode cX3_takeOfWord 148 = .ok (.iconst 1, 1) := dk_4 (dk_at dksX3_takeOfWord_6 8 rfl rfl)
theorem dX3_takeOfWord_149 : decode cX3_takeOfWord 149 = .ok (.goto 4, 3) := dk_167 0 4 (dk_at dksX3_takeOfWord_6 9 rfl rfl)
theorem dX3_takeOfWord_152 : decode cX3_takeOfWord 152 = .ok (.iconst 0, 1) := dk_3 (dk_at dksX3_takeOfWord_6 12 rfl rfl)
theorem dX3_takeOfWord_153 : decode cX3_takeOfWord 153 = .ok (.ireturn, 1) := dk_172 (dk_at dksX3_takeOfWord_6 13 rfl rfl)
abbrev cX3_takeOfBag : ByteArray := prog_13_method_21_code
def yX3_takeOfBag : MethodName := ⟨RX3, "takeOfBag", "(I)Z"⟩
def dkwX3_takeOfBag_1 : List UInt8 := [92, 46, 4, 96, 79, 42, 3, 181, 0, 123, 4, 172]
abbrev dktX3_takeOfBag_1 : List UInt8 := dkwX3_takeOfBag_1 ++ []
def dkwX3_takeOfBag_0 : List UInt8 := [27, 133, 20, 0, 137, 20, 0, 139, 184, 0, 107, 154, 0, 5, 3, 172, 42, 180, 0, 62, 27, 16, 97, 100]
abbrev dktX3_takeOfBag_0 : List UInt8 := dkwX3_takeOfBag_0 ++ dktX3_takeOfBag_1
theorem dksX3_takeOfBag_0 : cX3_takeOfBag.data.toList.drop 0 = dktX3_takeOfBag_0 := by decide +kernel
theorem dksX3_takeOfBag_1 : cX3_takeOfBag.data.toList.drop 24 = dktX3_takeOfBag_1 := dk_seg dksX3_takeOfBag_0 24 rfl rfl
theorem dX3_takeOfBag_0 : decode cX3_takeOfBag 0 = .ok (.iload_n 1, 1) := dk_27 (dk_at dksX3_takeOfBag_0 0 rfl rfl)
theorem dX3_takeOfBag_1 : decode cX3_takeOfBag 1 = .ok (.i2l, 1) := dk_133 (dk_at dksX3_takeOfBag_0 1 rfl rfl)
theorem dX3_takeOfBag_2 : decode cX3_takeOfBag 2 = .ok (.ldc2_w 137, 3) := dk_20 0 137 (dk_at dksX3_takeOfBag_0 2 rfl rfl)
theorem dX3_takeOfBag_5 : decode cX3_takeOfBag 5 = .ok (.ldc2_w 139, 3) := dk_20 0 139 (dk_at dksX3_takeOfBag_0 5 rfl rfl)
theorem dX3_takeOfBag_8 : decode cX3_takeOfBag 8 = .ok (.invokestatic 107, 3) := dk_184 0 107 (dk_at dksX3_takeOfBag_0 8 rfl rfl)
theorem dX3_takeOfBag_11 : decode cX3_takeOfBag 11 = .ok (.ifCond .ne 5, 3) := dk_154 0 5 (dk_at dksX3_takeOfBag_0 11 rfl rfl)
theorem dX3_takeOfBag_14 : decode cX3_takeOfBag 14 = .ok (.iconst 0, 1) := dk_3 (dk_at dksX3_takeOfBag_0 14 rfl rfl)
theorem dX3_takeOfBag_15 : decode cX3_takeOfBag 15 = .ok (.ireturn, 1) := dk_172 (dk_at dksX3_takeOfBag_0 15 rfl rfl)
theorem dX3_takeOfBag_16 : decode cX3_takeOfBag 16 = .ok (.aload_n 0, 1) := dk_42 (dk_at dksX3_takeOfBag_0 16 rfl rfl)
theorem dX3_takeOfBag_17 : decode cX3_takeOfBag 17 = .ok (.getfield 62, 3) := dk_180 0 62 (dk_at dksX3_takeOfBag_0 17 rfl rfl)
theorem dX3_takeOfBag_20 : decode cX3_takeOfBag 20 = .ok (.iload_n 1, 1) := dk_27 (dk_at dksX3_takeOfBag_0 20 rfl rfl)
theorem dX3_takeOfBag_21 : decode cX3_takeOfBag 21 = .ok (.bipush 97, 2) := dk_16 97 (dk_at dksX3_takeOfBag_0 21 rfl rfl)
theorem dX3_takeOfBag_23 : decode cX3_takeOfBag 23 = .ok (.isub, 1) := dk_100 (dk_at dksX3_takeOfBag_0 23 rfl rfl)
theorem dX3_takeOfBag_24 : decode cX3_takeOfBag 24 = .ok (.dup2, 1) := dk_92 (dk_at dksX3_takeOfBag_1 0 rfl rfl)
theorem dX3_takeOfBag_25 : decode cX3_takeOfBag 25 = .ok (.iaload, 1) := dk_46 (dk_at dksX3_takeOfBag_1 1 rfl rfl)
theorem dX3_takeOfBag_26 : decode cX3_takeOfBag 26 = .ok (.iconst 1, 1) := dk_4 (dk_at dksX3_takeOfBag_1 2 rfl rfl)
theorem dX3_takeOfBag_27 : decode cX3_takeOfBag 27 = .ok (.iadd, 1) := dk_96 (dk_at dksX3_takeOfBag_1 3 rfl rfl)
theorem dX3_takeOfBag_28 : decode cX3_takeOfBag 28 = .ok (.iastore, 1) := dk_79 (dk_at dksX3_takeOfBag_1 4 rfl rfl)
theorem dX3_takeOfBag_29 : decode cX3_takeOfBag 29 = .ok (.aload_n 0, 1) := dk_42 (dk_at dksX3_takeOfBag_1 5 rfl rfl)
theorem dX3_takeOfBag_30 : decode cX3_takeOfBag 30 = .ok (.iconst 0, 1) := dk_3 (dk_at dksX3_takeOfBag_1 6 rfl rfl)
theorem dX3_takeOfBag_31 : decode cX3_takeOfBag 31 = .ok (.putfield 123, 3) := dk_181 0 123 (dk_at dksX3_takeOfBag_1 7 rfl rfl)
theorem dX3_takeOfBag_34 : decode cX3_takeOfBag 34 = .ok (.iconst 1, 1) := dk_4 (dk_at dksX3_takeOfBag_1 10 rfl rfl)
theorem dX3_takeOfBag_35 : decode cX3_takeOfBag 35 = .ok (.ireturn, 1) := dk_172 (dk_at dksX3_takeOfBag_1 11 rfl rfl)
abbrev cX3_takeKind : ByteArray := prog_13_method_19_code
def yX3_takeKind : MethodName := ⟨RX3, "takeKind", "(II)Z"⟩
def dkwX3_takeKind_1 : List UInt8 := [153, 0, 5, 3, 172, 42, 180, 0, 62, 28, 92, 46, 4, 29, 120, 128, 79, 42, 3, 181, 0, 123, 4, 172]
abbrev dktX3_takeKind_1 : List UInt8 := dkwX3_takeKind_1 ++ []
def dkwX3_takeKind_0 : List UInt8 := [27, 16, 65, 100, 62, 29, 184, 0, 145, 153, 0, 16, 42, 180, 0, 62, 28, 46, 29, 184, 0, 149]
abbrev dktX3_takeKind_0 : List UInt8 := dkwX3_takeKind_0 ++ dktX3_takeKind_1
theorem dksX3_takeKind_0 : cX3_takeKind.data.toList.drop 0 = dktX3_takeKind_0 := by decide +kernel
theorem dksX3_takeKind_1 : cX3_takeKind.data.toList.drop 22 = dktX3_takeKind_1 := dk_seg dksX3_takeKind_0 22 rfl rfl
theorem dX3_takeKind_0 : decode cX3_takeKind 0 = .ok (.iload_n 1, 1) := dk_27 (dk_at dksX3_takeKind_0 0 rfl rfl)
theorem dX3_takeKind_1 : decode cX3_takeKind 1 = .ok (.bipush 65, 2) := dk_16 65 (dk_at dksX3_takeKind_0 1 rfl rfl)
theorem dX3_takeKind_3 : decode cX3_takeKind 3 = .ok (.isub, 1) := dk_100 (dk_at dksX3_takeKind_0 3 rfl rfl)
theorem dX3_takeKind_4 : decode cX3_takeKind 4 = .ok (.istore_n 3, 1) := dk_62 (dk_at dksX3_takeKind_0 4 rfl rfl)
theorem dX3_takeKind_5 : decode cX3_takeKind 5 = .ok (.iload_n 3, 1) := dk_29 (dk_at dksX3_takeKind_0 5 rfl rfl)
theorem dX3_takeKind_6 : decode cX3_takeKind 6 = .ok (.invokestatic 145, 3) := dk_184 0 145 (dk_at dksX3_takeKind_0 6 rfl rfl)
theorem dX3_takeKind_9 : decode cX3_takeKind 9 = .ok (.ifCond .eq 16, 3) := dk_153 0 16 (dk_at dksX3_takeKind_0 9 rfl rfl)
theorem dX3_takeKind_12 : decode cX3_takeKind 12 = .ok (.aload_n 0, 1) := dk_42 (dk_at dksX3_takeKind_0 12 rfl rfl)
theorem dX3_takeKind_13 : decode cX3_takeKind 13 = .ok (.getfield 62, 3) := dk_180 0 62 (dk_at dksX3_takeKind_0 13 rfl rfl)
theorem dX3_takeKind_16 : decode cX3_takeKind 16 = .ok (.iload_n 2, 1) := dk_28 (dk_at dksX3_takeKind_0 16 rfl rfl)
theorem dX3_takeKind_17 : decode cX3_takeKind 17 = .ok (.iaload, 1) := dk_46 (dk_at dksX3_takeKind_0 17 rfl rfl)
theorem dX3_takeKind_18 : decode cX3_takeKind 18 = .ok (.iload_n 3, 1) := dk_29 (dk_at dksX3_takeKind_0 18 rfl rfl)
theorem dX3_takeKind_19 : decode cX3_takeKind 19 = .ok (.invokestatic 149, 3) := dk_184 0 149 (dk_at dksX3_takeKind_0 19 rfl rfl)
theorem dX3_takeKind_22 : decode cX3_takeKind 22 = .ok (.ifCond .eq 5, 3) := dk_153 0 5 (dk_at dksX3_takeKind_1 0 rfl rfl)
theorem dX3_takeKind_25 : decode cX3_takeKind 25 = .ok (.iconst 0, 1) := dk_3 (dk_at dksX3_takeKind_1 3 rfl rfl)
theorem dX3_takeKind_26 : decode cX3_takeKind 26 = .ok (.ireturn, 1) := dk_172 (dk_at dksX3_takeKind_1 4 rfl rfl)
theorem dX3_takeKind_27 : decode cX3_takeKind 27 = .ok (.aload_n 0, 1) := dk_42 (dk_at dksX3_takeKind_1 5 rfl rfl)
theorem dX3_takeKind_28 : decode cX3_takeKind 28 = .ok (.getfield 62, 3) := dk_180 0 62 (dk_at dksX3_takeKind_1 6 rfl rfl)
theorem dX3_takeKind_31 : decode cX3_takeKind 31 = .ok (.iload_n 2, 1) := dk_28 (dk_at dksX3_takeKind_1 9 rfl rfl)
theorem dX3_takeKind_32 : decode cX3_takeKind 32 = .ok (.dup2, 1) := dk_92 (dk_at dksX3_takeKind_1 10 rfl rfl)
theorem dX3_takeKind_33 : decode cX3_takeKind 33 = .ok (.iaload, 1) := dk_46 (dk_at dksX3_takeKind_1 11 rfl rfl)
theorem dX3_takeKind_34 : decode cX3_takeKind 34 = .ok (.iconst 1, 1) := dk_4 (dk_at dksX3_takeKind_1 12 rfl rfl)
theorem dX3_takeKind_35 : decode cX3_takeKind 35 = .ok (.iload_n 3, 1) := dk_29 (dk_at dksX3_takeKind_1 13 rfl rfl)
theorem dX3_takeKind_36 : decode cX3_takeKind 36 = .ok (.ishl, 1) := dk_120 (dk_at dksX3_takeKind_1 14 rfl rfl)
theorem dX3_takeKind_37 : decode cX3_takeKind 37 = .ok (.ior, 1) := dk_128 (dk_at dksX3_takeKind_1 15 rfl rfl)
theorem dX3_takeKind_38 : decode cX3_takeKind 38 = .ok (.iastore, 1) := dk_79 (dk_at dksX3_takeKind_1 16 rfl rfl)
theorem dX3_takeKind_39 : decode cX3_takeKind 39 = .ok (.aload_n 0, 1) := dk_42 (dk_at dksX3_takeKind_1 17 rfl rfl)
theorem dX3_takeKind_40 : decode cX3_takeKind 40 = .ok (.iconst 0, 1) := dk_3 (dk_at dksX3_takeKind_1 18 rfl rfl)
theorem dX3_takeKind_41 : decode cX3_takeKind 41 = .ok (.putfield 123, 3) := dk_181 0 123 (dk_at dksX3_takeKind_1 19 rfl rfl)
theorem dX3_takeKind_44 : decode cX3_takeKind 44 = .ok (.iconst 1, 1) := dk_4 (dk_at dksX3_takeKind_1 22 rfl rfl)
theorem dX3_takeKind_45 : decode cX3_takeKind 45 = .ok (.ireturn, 1) := dk_172 (dk_at dksX3_takeKind_1 23 rfl rfl)
abbrev cX3_isKind : ByteArray := prog_13_method_13_code
def yX3_isKind : MethodName := ⟨RX3, "isKind", "(I)Z"⟩
def dkwX3_isKind_0 : List UInt8 := [26, 133, 9, 20, 0, 113, 184, 0, 107, 172]
abbrev dktX3_isKind_0 : List UInt8 := dkwX3_isKind_0 ++ []
theorem dksX3_isKind_0 : cX3_isKind.data.toList.drop 0 = dktX3_isKind_0 := by decide +kernel
theorem dX3_isKind_0 : decode cX3_isKind 0 = .ok (.iload_n 0, 1) := dk_26 (dk_at dksX3_isKind_0 0 rfl rfl)
theorem dX3_isKind_1 : decode cX3_isKind 1 = .ok (.i2l, 1) := dk_133 (dk_at dksX3_isKind_0 1 rfl rfl)
theorem dX3_isKind_2 : decode cX3_isKind 2 = .ok (.lconst 0, 1) := dk_9 (dk_at dksX3_isKind_0 2 rfl rfl)
theorem dX3_isKind_3 : decode cX3_isKind 3 = .ok (.ldc2_w 113, 3) := dk_20 0 113 (dk_at dksX3_isKind_0 3 rfl rfl)
theorem dX3_isKind_6 : decode cX3_isKind 6 = .ok (.invokestatic 107, 3) := dk_184 0 107 (dk_at dksX3_isKind_0 6 rfl rfl)
theorem dX3_isKind_9 : decode cX3_isKind 9 = .ok (.ireturn, 1) := dk_172 (dk_at dksX3_isKind_0 9 rfl rfl)
abbrev cX3_has : ByteArray := prog_13_method_6_code
def yX3_has : MethodName := ⟨RX3, "has", "(II)Z"⟩
def dkwX3_has_0 : List UInt8 := [26, 27, 122, 4, 126, 4, 160, 0, 7, 4, 167, 0, 4, 3, 172]
abbrev dktX3_has_0 : List UInt8 := dkwX3_has_0 ++ []
theorem dksX3_has_0 : cX3_has.data.toList.drop 0 = dktX3_has_0 := by decide +kernel
theorem dX3_has_0 : decode cX3_has 0 = .ok (.iload_n 0, 1) := dk_26 (dk_at dksX3_has_0 0 rfl rfl)
theorem dX3_has_1 : decode cX3_has 1 = .ok (.iload_n 1, 1) := dk_27 (dk_at dksX3_has_0 1 rfl rfl)
theorem dX3_has_2 : decode cX3_has 2 = .ok (.ishr, 1) := dk_122 (dk_at dksX3_has_0 2 rfl rfl)
theorem dX3_has_3 : decode cX3_has 3 = .ok (.iconst 1, 1) := dk_4 (dk_at dksX3_has_0 3 rfl rfl)
theorem dX3_has_4 : decode cX3_has 4 = .ok (.iand, 1) := dk_126 (dk_at dksX3_has_0 4 rfl rfl)
theorem dX3_has_5 : decode cX3_has 5 = .ok (.iconst 1, 1) := dk_4 (dk_at dksX3_has_0 5 rfl rfl)
theorem dX3_has_6 : decode cX3_has 6 = .ok (.if_icmp .ne 7, 3) := dk_160 0 7 (dk_at dksX3_has_0 6 rfl rfl)
theorem dX3_has_9 : decode cX3_has 9 = .ok (.iconst 1, 1) := dk_4 (dk_at dksX3_has_0 9 rfl rfl)
theorem dX3_has_10 : decode cX3_has 10 = .ok (.goto 4, 3) := dk_167 0 4 (dk_at dksX3_has_0 10 rfl rfl)
theorem dX3_has_13 : decode cX3_has 13 = .ok (.iconst 0, 1) := dk_3 (dk_at dksX3_has_0 13 rfl rfl)
theorem dX3_has_14 : decode cX3_has 14 = .ok (.ireturn, 1) := dk_172 (dk_at dksX3_has_0 14 rfl rfl)
abbrev cX3_takeOfPair : ByteArray := prog_13_method_20_code
def yX3_takeOfPair : MethodName := ⟨RX3, "takeOfPair", "(I)Z"⟩
def dkwX3_takeOfPair_2 : List UInt8 := [180, 0, 62, 16, 21, 28, 96, 46, 16, 15, 159, 0, 7, 4, 167, 0, 4, 3, 172]
abbrev dktX3_takeOfPair_2 : List UInt8 := dkwX3_takeOfPair_2 ++ []
def dkwX3_takeOfPair_1 : List UInt8 := [182, 0, 156, 172, 42, 28, 181, 0, 153, 42, 5, 181, 0, 123, 28, 184, 0, 145, 153, 0, 21, 42]
abbrev dktX3_takeOfPair_1 : List UInt8 := dkwX3_takeOfPair_1 ++ dktX3_takeOfPair_2
def dkwX3_takeOfPair_0 : List UInt8 := [27, 16, 65, 100, 61, 42, 180, 0, 123, 5, 160, 0, 16, 42, 27, 16, 21, 42, 180, 0, 153, 96]
abbrev dktX3_takeOfPair_0 : List UInt8 := dkwX3_takeOfPair_0 ++ dktX3_takeOfPair_1
theorem dksX3_takeOfPair_0 : cX3_takeOfPair.data.toList.drop 0 = dktX3_takeOfPair_0 := by decide +kernel
theorem dksX3_takeOfPair_1 : cX3_takeOfPair.data.toList.drop 22 = dktX3_takeOfPair_1 := dk_seg dksX3_takeOfPair_0 22 rfl rfl
theorem dksX3_takeOfPair_2 : cX3_takeOfPair.data.toList.drop 44 = dktX3_takeOfPair_2 := dk_seg dksX3_takeOfPair_1 22 rfl rfl
theorem dX3_takeOfPair_0 : decode cX3_takeOfPair 0 = .ok (.iload_n 1, 1) := dk_27 (dk_at dksX3_takeOfPair_0 0 rfl rfl)
theorem dX3_takeOfPair_1 : decode cX3_takeOfPair 1 = .ok (.bipush 65, 2) := dk_16 65 (dk_at dksX3_takeOfPair_0 1 rfl rfl)
theorem dX3_takeOfPair_3 : decode cX3_takeOfPair 3 = .ok (.isub, 1) := dk_100 (dk_at dksX3_takeOfPair_0 3 rfl rfl)
theorem dX3_takeOfPair_4 : decode cX3_takeOfPair 4 = .ok (.istore_n 2, 1) := dk_61 (dk_at dksX3_takeOfPair_0 4 rfl rfl)
theorem dX3_takeOfPair_5 : decode cX3_takeOfPair 5 = .ok (.aload_n 0, 1) := dk_42 (dk_at dksX3_takeOfPair_0 5 rfl rfl)
theorem dX3_takeOfPair_6 : decode cX3_takeOfPair 6 = .ok (.getfield 123, 3) := dk_180 0 123 (dk_at dksX3_takeOfPair_0 6 rfl rfl)
theorem dX3_takeOfPair_9 : decode cX3_takeOfPair 9 = .ok (.iconst 2, 1) := dk_5 (dk_at dksX3_takeOfPair_0 9 rfl rfl)
theorem dX3_takeOfPair_10 : decode cX3_takeOfPair 10 = .ok (.if_icmp .ne 16, 3) := dk_160 0 16 (dk_at dksX3_takeOfPair_0 10 rfl rfl)
theorem dX3_takeOfPair_13 : decode cX3_takeOfPair 13 = .ok (.aload_n 0, 1) := dk_42 (dk_at dksX3_takeOfPair_0 13 rfl rfl)
theorem dX3_takeOfPair_14 : decode cX3_takeOfPair 14 = .ok (.iload_n 1, 1) := dk_27 (dk_at dksX3_takeOfPair_0 14 rfl rfl)
theorem dX3_takeOfPair_15 : decode cX3_takeOfPair 15 = .ok (.bipush 21, 2) := dk_16 21 (dk_at dksX3_takeOfPair_0 15 rfl rfl)
theorem dX3_takeOfPair_17 : decode cX3_takeOfPair 17 = .ok (.aload_n 0, 1) := dk_42 (dk_at dksX3_takeOfPair_0 17 rfl rfl)
theorem dX3_takeOfPair_18 : decode cX3_takeOfPair 18 = .ok (.getfield 153, 3) := dk_180 0 153 (dk_at dksX3_takeOfPair_0 18 rfl rfl)
theorem dX3_takeOfPair_21 : decode cX3_takeOfPair 21 = .ok (.iadd, 1) := dk_96 (dk_at dksX3_takeOfPair_0 21 rfl rfl)
theorem dX3_takeOfPair_22 : decode cX3_takeOfPair 22 = .ok (.invokevirtual 156, 3) := dk_182 0 156 (dk_at dksX3_takeOfPair_1 0 rfl rfl)
theorem dX3_takeOfPair_25 : decode cX3_takeOfPair 25 = .ok (.ireturn, 1) := dk_172 (dk_at dksX3_takeOfPair_1 3 rfl rfl)
theorem dX3_takeOfPair_26 : decode cX3_takeOfPair 26 = .ok (.aload_n 0, 1) := dk_42 (dk_at dksX3_takeOfPair_1 4 rfl rfl)
theorem dX3_takeOfPair_27 : decode cX3_takeOfPair 27 = .ok (.iload_n 2, 1) := dk_28 (dk_at dksX3_takeOfPair_1 5 rfl rfl)
theorem dX3_takeOfPair_28 : decode cX3_takeOfPair 28 = .ok (.putfield 153, 3) := dk_181 0 153 (dk_at dksX3_takeOfPair_1 6 rfl rfl)
theorem dX3_takeOfPair_31 : decode cX3_takeOfPair 31 = .ok (.aload_n 0, 1) := dk_42 (dk_at dksX3_takeOfPair_1 9 rfl rfl)
theorem dX3_takeOfPair_32 : decode cX3_takeOfPair 32 = .ok (.iconst 2, 1) := dk_5 (dk_at dksX3_takeOfPair_1 10 rfl rfl)
theorem dX3_takeOfPair_33 : decode cX3_takeOfPair 33 = .ok (.putfield 123, 3) := dk_181 0 123 (dk_at dksX3_takeOfPair_1 11 rfl rfl)
theorem dX3_takeOfPair_36 : decode cX3_takeOfPair 36 = .ok (.iload_n 2, 1) := dk_28 (dk_at dksX3_takeOfPair_1 14 rfl rfl)
theorem dX3_takeOfPair_37 : decode cX3_takeOfPair 37 = .ok (.invokestatic 145, 3) := dk_184 0 145 (dk_at dksX3_takeOfPair_1 15 rfl rfl)
theorem dX3_takeOfPair_40 : decode cX3_takeOfPair 40 = .ok (.ifCond .eq 21, 3) := dk_153 0 21 (dk_at dksX3_takeOfPair_1 18 rfl rfl)
theorem dX3_takeOfPair_43 : decode cX3_takeOfPair 43 = .ok (.aload_n 0, 1) := dk_42 (dk_at dksX3_takeOfPair_1 21 rfl rfl)
theorem dX3_takeOfPair_44 : decode cX3_takeOfPair 44 = .ok (.getfield 62, 3) := dk_180 0 62 (dk_at dksX3_takeOfPair_2 0 rfl rfl)
theorem dX3_takeOfPair_47 : decode cX3_takeOfPair 47 = .ok (.bipush 21, 2) := dk_16 21 (dk_at dksX3_takeOfPair_2 3 rfl rfl)
theorem dX3_takeOfPair_49 : decode cX3_takeOfPair 49 = .ok (.iload_n 2, 1) := dk_28 (dk_at dksX3_takeOfPair_2 5 rfl rfl)
theorem dX3_takeOfPair_50 : decode cX3_takeOfPair 50 = .ok (.iadd, 1) := dk_96 (dk_at dksX3_takeOfPair_2 6 rfl rfl)
theorem dX3_takeOfPair_51 : decode cX3_takeOfPair 51 = .ok (.iaload, 1) := dk_46 (dk_at dksX3_takeOfPair_2 7 rfl rfl)
theorem dX3_takeOfPair_52 : decode cX3_takeOfPair 52 = .ok (.bipush 15, 2) := dk_16 15 (dk_at dksX3_takeOfPair_2 8 rfl rfl)
theorem dX3_takeOfPair_54 : decode cX3_takeOfPair 54 = .ok (.if_icmp .eq 7, 3) := dk_159 0 7 (dk_at dksX3_takeOfPair_2 10 rfl rfl)
theorem dX3_takeOfPair_57 : decode cX3_takeOfPair 57 = .ok (.iconst 1, 1) := dk_4 (dk_at dksX3_takeOfPair_2 13 rfl rfl)
theorem dX3_takeOfPair_58 : decode cX3_takeOfPair 58 = .ok (.goto 4, 3) := dk_167 0 4 (dk_at dksX3_takeOfPair_2 14 rfl rfl)
theorem dX3_takeOfPair_61 : decode cX3_takeOfPair 61 = .ok (.iconst 0, 1) := dk_3 (dk_at dksX3_takeOfPair_2 17 rfl rfl)
theorem dX3_takeOfPair_62 : decode cX3_takeOfPair 62 = .ok (.ireturn, 1) := dk_172 (dk_at dksX3_takeOfPair_2 18 rfl rfl)
abbrev cX3_house : ByteArray := prog_13_method_25_code
def yX3_house : MethodName := ⟨RX3, "house", "()I"⟩
def dkwX3_house_7 : List UInt8 := [181, 0, 185, 42, 180, 0, 37, 3, 3, 84, 42, 180, 0, 37, 4, 3, 84, 42, 180, 0, 103, 172]
abbrev dktX3_house_7 : List UInt8 := dkwX3_house_7 ++ []
def dkwX3_house_6 : List UInt8 := [132, 1, 1, 167, 255, 156, 42, 180, 0, 62, 42, 180, 0, 25, 184, 0, 178, 42, 3, 181, 0, 182, 42, 3]
abbrev dktX3_house_6 : List UInt8 := dkwX3_house_6 ++ dktX3_house_7
def dkwX3_house_5 : List UInt8 := [42, 180, 0, 13, 16, 6, 27, 104, 28, 96, 46, 96, 92, 46, 4, 96, 79, 132, 2, 1, 167, 255, 196]
abbrev dktX3_house_5 : List UInt8 := dkwX3_house_5 ++ dktX3_house_6
def dkwX3_house_4 : List UInt8 := [27, 104, 28, 96, 42, 180, 0, 53, 16, 6, 27, 104, 28, 96, 46, 79, 42, 180, 0, 22, 16, 8, 27, 104]
abbrev dktX3_house_4 : List UInt8 := dkwX3_house_4 ++ dktX3_house_5
def dkwX3_house_3 : List UInt8 := [180, 0, 59, 27, 46, 79, 3, 61, 28, 42, 180, 0, 16, 27, 46, 162, 0, 56, 42, 180, 0, 13, 16, 6]
abbrev dktX3_house_3 : List UInt8 := dkwX3_house_3 ++ dktX3_house_4
def dkwX3_house_2 : List UInt8 := [180, 0, 103, 162, 0, 98, 42, 180, 0, 16, 27, 42, 180, 0, 56, 27, 46, 79, 42, 180, 0, 19, 27, 42]
abbrev dktX3_house_2 : List UInt8 := dkwX3_house_2 ++ dktX3_house_3
def dkwX3_house_1 : List UInt8 := [16, 80, 162, 0, 16, 42, 180, 0, 22, 27, 3, 79, 132, 1, 1, 167, 255, 240, 3, 60, 27, 42]
abbrev dktX3_house_1 : List UInt8 := dkwX3_house_1 ++ dktX3_house_2
def dkwX3_house_0 : List UInt8 := [42, 182, 0, 174, 16, 247, 159, 0, 6, 16, 253, 172, 42, 42, 180, 0, 126, 181, 0, 103, 3, 60, 27]
abbrev dktX3_house_0 : List UInt8 := dkwX3_house_0 ++ dktX3_house_1
theorem dksX3_house_0 : cX3_house.data.toList.drop 0 = dktX3_house_0 := by decide +kernel
theorem dksX3_house_1 : cX3_house.data.toList.drop 23 = dktX3_house_1 := dk_seg dksX3_house_0 23 rfl rfl
theorem dksX3_house_2 : cX3_house.data.toList.drop 45 = dktX3_house_2 := dk_seg dksX3_house_1 22 rfl rfl
theorem dksX3_house_3 : cX3_house.data.toList.drop 69 = dktX3_house_3 := dk_seg dksX3_house_2 24 rfl rfl
theorem dksX3_house_4 : cX3_house.data.toList.drop 93 = dktX3_house_4 := dk_seg dksX3_house_3 24 rfl rfl
theorem dksX3_house_5 : cX3_house.data.toList.drop 117 = dktX3_house_5 := dk_seg dksX3_house_4 24 rfl rfl
theorem dksX3_house_6 : cX3_house.data.toList.drop 140 = dktX3_house_6 := dk_seg dksX3_house_5 23 rfl rfl
theorem dksX3_house_7 : cX3_house.data.toList.drop 164 = dktX3_house_7 := dk_seg dksX3_house_6 24 rfl rfl
theorem dX3_house_0 : decode cX3_house 0 = .ok (.aload_n 0, 1) := dk_42 (dk_at dksX3_house_0 0 rfl rfl)
theorem dX3_house_1 : decode cX3_house 1 = .ok (.invokevirtual 174, 3) := dk_182 0 174 (dk_at dksX3_house_0 1 rfl rfl)
theorem dX3_house_4 : decode cX3_house 4 = .ok (.bipush (-9), 2) := dk_16 247 (dk_at dksX3_house_0 4 rfl rfl)
theorem dX3_house_6 : decode cX3_house 6 = .ok (.if_icmp .eq 6, 3) := dk_159 0 6 (dk_at dksX3_house_0 6 rfl rfl)
theorem dX3_house_9 : decode cX3_house 9 = .ok (.bipush (-3), 2) := dk_16 253 (dk_at dksX3_house_0 9 rfl rfl)
theorem dX3_house_11 : decode cX3_house 11 = .ok (.ireturn, 1) := dk_172 (dk_at dksX3_house_0 11 rfl rfl)
theorem dX3_house_12 : decode cX3_house 12 = .ok (.aload_n 0, 1) := dk_42 (dk_at dksX3_house_0 12 rfl rfl)
theorem dX3_house_13 : decode cX3_house 13 = .ok (.aload_n 0, 1) := dk_42 (dk_at dksX3_house_0 13 rfl rfl)
theorem dX3_house_14 : decode cX3_house 14 = .ok (.getfield 126, 3) := dk_180 0 126 (dk_at dksX3_house_0 14 rfl rfl)
theorem dX3_house_17 : decode cX3_house 17 = .ok (.putfield 103, 3) := dk_181 0 103 (dk_at dksX3_house_0 17 rfl rfl)
theorem dX3_house_20 : decode cX3_house 20 = .ok (.iconst 0, 1) := dk_3 (dk_at dksX3_house_0 20 rfl rfl)
theorem dX3_house_21 : decode cX3_house 21 = .ok (.istore_n 1, 1) := dk_60 (dk_at dksX3_house_0 21 rfl rfl)
theorem dX3_house_22 : decode cX3_house 22 = .ok (.iload_n 1, 1) := dk_27 (dk_at dksX3_house_0 22 rfl rfl)
theorem dX3_house_23 : decode cX3_house 23 = .ok (.bipush 80, 2) := dk_16 80 (dk_at dksX3_house_1 0 rfl rfl)
theorem dX3_house_25 : decode cX3_house 25 = .ok (.if_icmp .ge 16, 3) := dk_162 0 16 (dk_at dksX3_house_1 2 rfl rfl)
theorem dX3_house_28 : decode cX3_house 28 = .ok (.aload_n 0, 1) := dk_42 (dk_at dksX3_house_1 5 rfl rfl)
theorem dX3_house_29 : decode cX3_house 29 = .ok (.getfield 22, 3) := dk_180 0 22 (dk_at dksX3_house_1 6 rfl rfl)
theorem dX3_house_32 : decode cX3_house 32 = .ok (.iload_n 1, 1) := dk_27 (dk_at dksX3_house_1 9 rfl rfl)
theorem dX3_house_33 : decode cX3_house 33 = .ok (.iconst 0, 1) := dk_3 (dk_at dksX3_house_1 10 rfl rfl)
theorem dX3_house_34 : decode cX3_house 34 = .ok (.iastore, 1) := dk_79 (dk_at dksX3_house_1 11 rfl rfl)
theorem dX3_house_35 : decode cX3_house 35 = .ok (.iinc 1 1, 3) := dk_132 1 1 (dk_at dksX3_house_1 12 rfl rfl)
theorem dX3_house_38 : decode cX3_house 38 = .ok (.goto (-16), 3) := dk_167 255 240 (dk_at dksX3_house_1 15 rfl rfl)
theorem dX3_house_41 : decode cX3_house 41 = .ok (.iconst 0, 1) := dk_3 (dk_at dksX3_house_1 18 rfl rfl)
theorem dX3_house_42 : decode cX3_house 42 = .ok (.istore_n 1, 1) := dk_60 (dk_at dksX3_house_1 19 rfl rfl)
theorem dX3_house_43 : decode cX3_house 43 = .ok (.iload_n 1, 1) := dk_27 (dk_at dksX3_house_1 20 rfl rfl)
theorem dX3_house_44 : decode cX3_house 44 = .ok (.aload_n 0, 1) := dk_42 (dk_at dksX3_house_1 21 rfl rfl)
theorem dX3_house_45 : decode cX3_house 45 = .ok (.getfield 103, 3) := dk_180 0 103 (dk_at dksX3_house_2 0 rfl rfl)
theorem dX3_house_48 : decode cX3_house 48 = .ok (.if_icmp .ge 98, 3) := dk_162 0 98 (dk_at dksX3_house_2 3 rfl rfl)
theorem dX3_house_51 : decode cX3_house 51 = .ok (.aload_n 0, 1) := dk_42 (dk_at dksX3_house_2 6 rfl rfl)
theorem dX3_house_52 : decode cX3_house 52 = .ok (.getfield 16, 3) := dk_180 0 16 (dk_at dksX3_house_2 7 rfl rfl)
theorem dX3_house_55 : decode cX3_house 55 = .ok (.iload_n 1, 1) := dk_27 (dk_at dksX3_house_2 10 rfl rfl)
theorem dX3_house_56 : decode cX3_house 56 = .ok (.aload_n 0, 1) := dk_42 (dk_at dksX3_house_2 11 rfl rfl)
theorem dX3_house_57 : decode cX3_house 57 = .ok (.getfield 56, 3) := dk_180 0 56 (dk_at dksX3_house_2 12 rfl rfl)
theorem dX3_house_60 : decode cX3_house 60 = .ok (.iload_n 1, 1) := dk_27 (dk_at dksX3_house_2 15 rfl rfl)
theorem dX3_house_61 : decode cX3_house 61 = .ok (.iaload, 1) := dk_46 (dk_at dksX3_house_2 16 rfl rfl)
theorem dX3_house_62 : decode cX3_house 62 = .ok (.iastore, 1) := dk_79 (dk_at dksX3_house_2 17 rfl rfl)
theorem dX3_house_63 : decode cX3_house 63 = .ok (.aload_n 0, 1) := dk_42 (dk_at dksX3_house_2 18 rfl rfl)
theorem dX3_house_64 : decode cX3_house 64 = .ok (.getfield 19, 3) := dk_180 0 19 (dk_at dksX3_house_2 19 rfl rfl)
theorem dX3_house_67 : decode cX3_house 67 = .ok (.iload_n 1, 1) := dk_27 (dk_at dksX3_house_2 22 rfl rfl)
theorem dX3_house_68 : decode cX3_house 68 = .ok (.aload_n 0, 1) := dk_42 (dk_at dksX3_house_2 23 rfl rfl)
theorem dX3_house_69 : decode cX3_house 69 = .ok (.getfield 59, 3) := dk_180 0 59 (dk_at dksX3_house_3 0 rfl rfl)
theorem dX3_house_72 : decode cX3_house 72 = .ok (.iload_n 1, 1) := dk_27 (dk_at dksX3_house_3 3 rfl rfl)
theorem dX3_house_73 : decode cX3_house 73 = .ok (.iaload, 1) := dk_46 (dk_at dksX3_house_3 4 rfl rfl)
theorem dX3_house_74 : decode cX3_house 74 = .ok (.iastore, 1) := dk_79 (dk_at dksX3_house_3 5 rfl rfl)
theorem dX3_house_75 : decode cX3_house 75 = .ok (.iconst 0, 1) := dk_3 (dk_at dksX3_house_3 6 rfl rfl)
theorem dX3_house_76 : decode cX3_house 76 = .ok (.istore_n 2, 1) := dk_61 (dk_at dksX3_house_3 7 rfl rfl)
theorem dX3_house_77 : decode cX3_house 77 = .ok (.iload_n 2, 1) := dk_28 (dk_at dksX3_house_3 8 rfl rfl)
theorem dX3_house_78 : decode cX3_house 78 = .ok (.aload_n 0, 1) := dk_42 (dk_at dksX3_house_3 9 rfl rfl)
theorem dX3_house_79 : decode cX3_house 79 = .ok (.getfield 16, 3) := dk_180 0 16 (dk_at dksX3_house_3 10 rfl rfl)
theorem dX3_house_82 : decode cX3_house 82 = .ok (.iload_n 1, 1) := dk_27 (dk_at dksX3_house_3 13 rfl rfl)
theorem dX3_house_83 : decode cX3_house 83 = .ok (.iaload, 1) := dk_46 (dk_at dksX3_house_3 14 rfl rfl)
theorem dX3_house_84 : decode cX3_house 84 = .ok (.if_icmp .ge 56, 3) := dk_162 0 56 (dk_at dksX3_house_3 15 rfl rfl)
theorem dX3_house_87 : decode cX3_house 87 = .ok (.aload_n 0, 1) := dk_42 (dk_at dksX3_house_3 18 rfl rfl)
theorem dX3_house_88 : decode cX3_house 88 = .ok (.getfield 13, 3) := dk_180 0 13 (dk_at dksX3_house_3 19 rfl rfl)
theorem dX3_house_91 : decode cX3_house 91 = .ok (.bipush 6, 2) := dk_16 6 (dk_at dksX3_house_3 22 rfl rfl)
theorem dX3_house_93 : decode cX3_house 93 = .ok (.iload_n 1, 1) := dk_27 (dk_at dksX3_house_4 0 rfl rfl)
theorem dX3_house_94 : decode cX3_house 94 = .ok (.imul, 1) := dk_104 (dk_at dksX3_house_4 1 rfl rfl)
theorem dX3_house_95 : decode cX3_house 95 = .ok (.iload_n 2, 1) := dk_28 (dk_at dksX3_house_4 2 rfl rfl)
theorem dX3_house_96 : decode cX3_house 96 = .ok (.iadd, 1) := dk_96 (dk_at dksX3_house_4 3 rfl rfl)
theorem dX3_house_97 : decode cX3_house 97 = .ok (.aload_n 0, 1) := dk_42 (dk_at dksX3_house_4 4 rfl rfl)
theorem dX3_house_98 : decode cX3_house 98 = .ok (.getfield 53, 3) := dk_180 0 53 (dk_at dksX3_house_4 5 rfl rfl)
theorem dX3_house_101 : decode cX3_house 101 = .ok (.bipush 6, 2) := dk_16 6 (dk_at dksX3_house_4 8 rfl rfl)
theorem dX3_house_103 : decode cX3_house 103 = .ok (.iload_n 1, 1) := dk_27 (dk_at dksX3_house_4 10 rfl rfl)
theorem dX3_house_104 : decode cX3_house 104 = .ok (.imul, 1) := dk_104 (dk_at dksX3_house_4 11 rfl rfl)
theorem dX3_house_105 : decode cX3_house 105 = .ok (.iload_n 2, 1) := dk_28 (dk_at dksX3_house_4 12 rfl rfl)
theorem dX3_house_106 : decode cX3_house 106 = .ok (.iadd, 1) := dk_96 (dk_at dksX3_house_4 13 rfl rfl)
theorem dX3_house_107 : decode cX3_house 107 = .ok (.iaload, 1) := dk_46 (dk_at dksX3_house_4 14 rfl rfl)
theorem dX3_house_108 : decode cX3_house 108 = .ok (.iastore, 1) := dk_79 (dk_at dksX3_house_4 15 rfl rfl)
theorem dX3_house_109 : decode cX3_house 109 = .ok (.aload_n 0, 1) := dk_42 (dk_at dksX3_house_4 16 rfl rfl)
theorem dX3_house_110 : decode cX3_house 110 = .ok (.getfield 22, 3) := dk_180 0 22 (dk_at dksX3_house_4 17 rfl rfl)
theorem dX3_house_113 : decode cX3_house 113 = .ok (.bipush 8, 2) := dk_16 8 (dk_at dksX3_house_4 20 rfl rfl)
theorem dX3_house_115 : decode cX3_house 115 = .ok (.iload_n 1, 1) := dk_27 (dk_at dksX3_house_4 22 rfl rfl)
theorem dX3_house_116 : decode cX3_house 116 = .ok (.imul, 1) := dk_104 (dk_at dksX3_house_4 23 rfl rfl)
theorem dX3_house_117 : decode cX3_house 117 = .ok (.aload_n 0, 1) := dk_42 (dk_at dksX3_house_5 0 rfl rfl)
theorem dX3_house_118 : decode cX3_house 118 = .ok (.getfield 13, 3) := dk_180 0 13 (dk_at dksX3_house_5 1 rfl rfl)
theorem dX3_house_121 : decode cX3_house 121 = .ok (.bipush 6, 2) := dk_16 6 (dk_at dksX3_house_5 4 rfl rfl)
theorem dX3_house_123 : decode cX3_house 123 = .ok (.iload_n 1, 1) := dk_27 (dk_at dksX3_house_5 6 rfl rfl)
theorem dX3_house_124 : decode cX3_house 124 = .ok (.imul, 1) := dk_104 (dk_at dksX3_house_5 7 rfl rfl)
theorem dX3_house_125 : decode cX3_house 125 = .ok (.iload_n 2, 1) := dk_28 (dk_at dksX3_house_5 8 rfl rfl)
theorem dX3_house_126 : decode cX3_house 126 = .ok (.iadd, 1) := dk_96 (dk_at dksX3_house_5 9 rfl rfl)
theorem dX3_house_127 : decode cX3_house 127 = .ok (.iaload, 1) := dk_46 (dk_at dksX3_house_5 10 rfl rfl)
theorem dX3_house_128 : decode cX3_house 128 = .ok (.iadd, 1) := dk_96 (dk_at dksX3_house_5 11 rfl rfl)
theorem dX3_house_129 : decode cX3_house 129 = .ok (.dup2, 1) := dk_92 (dk_at dksX3_house_5 12 rfl rfl)
theorem dX3_house_130 : decode cX3_house 130 = .ok (.iaload, 1) := dk_46 (dk_at dksX3_house_5 13 rfl rfl)
theorem dX3_house_131 : decode cX3_house 131 = .ok (.iconst 1, 1) := dk_4 (dk_at dksX3_house_5 14 rfl rfl)
theorem dX3_house_132 : decode cX3_house 132 = .ok (.iadd, 1) := dk_96 (dk_at dksX3_house_5 15 rfl rfl)
theorem dX3_house_133 : decode cX3_house 133 = .ok (.iastore, 1) := dk_79 (dk_at dksX3_house_5 16 rfl rfl)
theorem dX3_house_134 : decode cX3_house 134 = .ok (.iinc 2 1, 3) := dk_132 2 1 (dk_at dksX3_house_5 17 rfl rfl)
theorem dX3_house_137 : decode cX3_house 137 = .ok (.goto (-60), 3) := dk_167 255 196 (dk_at dksX3_house_5 20 rfl rfl)
theorem dX3_house_140 : decode cX3_house 140 = .ok (.iinc 1 1, 3) := dk_132 1 1 (dk_at dksX3_house_6 0 rfl rfl)
theorem dX3_house_143 : decode cX3_house 143 = .ok (.goto (-100), 3) := dk_167 255 156 (dk_at dksX3_house_6 3 rfl rfl)
theorem dX3_house_146 : decode cX3_house 146 = .ok (.aload_n 0, 1) := dk_42 (dk_at dksX3_house_6 6 rfl rfl)
theorem dX3_house_147 : decode cX3_house 147 = .ok (.getfield 62, 3) := dk_180 0 62 (dk_at dksX3_house_6 7 rfl rfl)
theorem dX3_house_150 : decode cX3_house 150 = .ok (.aload_n 0, 1) := dk_42 (dk_at dksX3_house_6 10 rfl rfl)
theorem dX3_house_151 : decode cX3_house 151 = .ok (.getfield 25, 3) := dk_180 0 25 (dk_at dksX3_house_6 11 rfl rfl)
theorem dX3_house_154 : decode cX3_house 154 = .ok (.invokestatic 178, 3) := dk_184 0 178 (dk_at dksX3_house_6 14 rfl rfl)
theorem dX3_house_157 : decode cX3_house 157 = .ok (.aload_n 0, 1) := dk_42 (dk_at dksX3_house_6 17 rfl rfl)
theorem dX3_house_158 : decode cX3_house 158 = .ok (.iconst 0, 1) := dk_3 (dk_at dksX3_house_6 18 rfl rfl)
theorem dX3_house_159 : decode cX3_house 159 = .ok (.putfield 182, 3) := dk_181 0 182 (dk_at dksX3_house_6 19 rfl rfl)
theorem dX3_house_162 : decode cX3_house 162 = .ok (.aload_n 0, 1) := dk_42 (dk_at dksX3_house_6 22 rfl rfl)
theorem dX3_house_163 : decode cX3_house 163 = .ok (.iconst 0, 1) := dk_3 (dk_at dksX3_house_6 23 rfl rfl)
theorem dX3_house_164 : decode cX3_house 164 = .ok (.putfield 185, 3) := dk_181 0 185 (dk_at dksX3_house_7 0 rfl rfl)
theorem dX3_house_167 : decode cX3_house 167 = .ok (.aload_n 0, 1) := dk_42 (dk_at dksX3_house_7 3 rfl rfl)
theorem dX3_house_168 : decode cX3_house 168 = .ok (.getfield 37, 3) := dk_180 0 37 (dk_at dksX3_house_7 4 rfl rfl)
theorem dX3_house_171 : decode cX3_house 171 = .ok (.iconst 0, 1) := dk_3 (dk_at dksX3_house_7 7 rfl rfl)
theorem dX3_house_172 : decode cX3_house 172 = .ok (.iconst 0, 1) := dk_3 (dk_at dksX3_house_7 8 rfl rfl)
theorem dX3_house_173 : decode cX3_house 173 = .ok (.bastore, 1) := dk_84 (dk_at dksX3_house_7 9 rfl rfl)
theorem dX3_house_174 : decode cX3_house 174 = .ok (.aload_n 0, 1) := dk_42 (dk_at dksX3_house_7 10 rfl rfl)
theorem dX3_house_175 : decode cX3_house 175 = .ok (.getfield 37, 3) := dk_180 0 37 (dk_at dksX3_house_7 11 rfl rfl)
theorem dX3_house_178 : decode cX3_house 178 = .ok (.iconst 1, 1) := dk_4 (dk_at dksX3_house_7 14 rfl rfl)
theorem dX3_house_179 : decode cX3_house 179 = .ok (.iconst 0, 1) := dk_3 (dk_at dksX3_house_7 15 rfl rfl)
theorem dX3_house_180 : decode cX3_house 180 = .ok (.bastore, 1) := dk_84 (dk_at dksX3_house_7 16 rfl rfl)
theorem dX3_house_181 : decode cX3_house 181 = .ok (.aload_n 0, 1) := dk_42 (dk_at dksX3_house_7 17 rfl rfl)
theorem dX3_house_182 : decode cX3_house 182 = .ok (.getfield 103, 3) := dk_180 0 103 (dk_at dksX3_house_7 18 rfl rfl)
theorem dX3_house_185 : decode cX3_house 185 = .ok (.ireturn, 1) := dk_172 (dk_at dksX3_house_7 21 rfl rfl)
abbrev cX3_copy : ByteArray := prog_13_method_4_code
def yX3_copy : MethodName := ⟨RX3, "copy", "([I[I)V"⟩
def dkwX3_copy_0 : List UInt8 := [3, 61, 28, 16, 25, 162, 0, 15, 43, 28, 42, 28, 46, 79, 132, 2, 1, 167, 255, 241, 177]
abbrev dktX3_copy_0 : List UInt8 := dkwX3_copy_0 ++ []
theorem dksX3_copy_0 : cX3_copy.data.toList.drop 0 = dktX3_copy_0 := by decide +kernel
theorem dX3_copy_0 : decode cX3_copy 0 = .ok (.iconst 0, 1) := dk_3 (dk_at dksX3_copy_0 0 rfl rfl)
theorem dX3_copy_1 : decode cX3_copy 1 = .ok (.istore_n 2, 1) := dk_61 (dk_at dksX3_copy_0 1 rfl rfl)
theorem dX3_copy_2 : decode cX3_copy 2 = .ok (.iload_n 2, 1) := dk_28 (dk_at dksX3_copy_0 2 rfl rfl)
theorem dX3_copy_3 : decode cX3_copy 3 = .ok (.bipush 25, 2) := dk_16 25 (dk_at dksX3_copy_0 3 rfl rfl)
theorem dX3_copy_5 : decode cX3_copy 5 = .ok (.if_icmp .ge 15, 3) := dk_162 0 15 (dk_at dksX3_copy_0 5 rfl rfl)
theorem dX3_copy_8 : decode cX3_copy 8 = .ok (.aload_n 1, 1) := dk_43 (dk_at dksX3_copy_0 8 rfl rfl)
theorem dX3_copy_9 : decode cX3_copy 9 = .ok (.iload_n 2, 1) := dk_28 (dk_at dksX3_copy_0 9 rfl rfl)
theorem dX3_copy_10 : decode cX3_copy 10 = .ok (.aload_n 0, 1) := dk_42 (dk_at dksX3_copy_0 10 rfl rfl)
theorem dX3_copy_11 : decode cX3_copy 11 = .ok (.iload_n 2, 1) := dk_28 (dk_at dksX3_copy_0 11 rfl rfl)
theorem dX3_copy_12 : decode cX3_copy 12 = .ok (.iaload, 1) := dk_46 (dk_at dksX3_copy_0 12 rfl rfl)
theorem dX3_copy_13 : decode cX3_copy 13 = .ok (.iastore, 1) := dk_79 (dk_at dksX3_copy_0 13 rfl rfl)
theorem dX3_copy_14 : decode cX3_copy 14 = .ok (.iinc 2 1, 3) := dk_132 2 1 (dk_at dksX3_copy_0 14 rfl rfl)
theorem dX3_copy_17 : decode cX3_copy 17 = .ok (.goto (-15), 3) := dk_167 255 241 (dk_at dksX3_copy_0 17 rfl rfl)
theorem dX3_copy_20 : decode cX3_copy 20 = .ok (.return_, 1) := dk_177 (dk_at dksX3_copy_0 20 rfl rfl)
abbrev cX3_about : ByteArray := prog_13_method_37_code
def yX3_about : MethodName := ⟨RX3, "about", "(I)I"⟩
def dkwX3_about_5 : List UInt8 := [180, 0, 237, 172, 42, 180, 0, 117, 172, 42, 180, 0, 185, 172, 16, 254, 172]
abbrev dktX3_about_5 : List UInt8 := dkwX3_about_5 ++ []
def dkwX3_about_4 : List UInt8 := [182, 0, 230, 172, 42, 3, 182, 0, 233, 172, 42, 4, 182, 0, 233, 172, 42, 180, 0, 182, 172, 42]
abbrev dktX3_about_4 : List UInt8 := dkwX3_about_4 ++ dktX3_about_5
def dkwX3_about_3 : List UInt8 := [46, 172, 42, 180, 0, 25, 16, 19, 46, 172, 42, 180, 0, 25, 16, 20, 46, 172, 42, 182, 0, 227, 172, 42]
abbrev dktX3_about_3 : List UInt8 := dkwX3_about_3 ++ dktX3_about_4
def dkwX3_about_2 : List UInt8 := [42, 180, 0, 103, 172, 42, 180, 0, 25, 184, 0, 129, 172, 42, 182, 0, 224, 172, 42, 180, 0, 25, 16, 8]
abbrev dktX3_about_2 : List UInt8 := dkwX3_about_2 ++ dktX3_about_3
def dkwX3_about_1 : List UInt8 := [170, 0, 0, 0, 0, 0, 155, 0, 0, 0, 0, 0, 0, 0, 13, 0, 0, 0, 71, 0, 0, 0, 76, 0, 0, 0, 84, 0, 0, 0, 89, 0, 0, 0, 97, 0, 0, 0, 105, 0, 0, 0, 113, 0, 0, 0, 118, 0, 0, 0, 123, 0, 0, 0, 129, 0, 0, 0, 135, 0, 0, 0, 140, 0, 0, 0, 145, 0, 0, 0, 150]
abbrev dktX3_about_1 : List UInt8 := dkwX3_about_1 ++ dktX3_about_2
def dkwX3_about_0 : List UInt8 := [42, 42, 180, 0, 25, 182, 0, 202, 27]
abbrev dktX3_about_0 : List UInt8 := dkwX3_about_0 ++ dktX3_about_1
theorem dksX3_about_0 : cX3_about.data.toList.drop 0 = dktX3_about_0 := by decide +kernel
theorem dksX3_about_1 : cX3_about.data.toList.drop 9 = dktX3_about_1 := dk_seg dksX3_about_0 9 rfl rfl
theorem dksX3_about_2 : cX3_about.data.toList.drop 80 = dktX3_about_2 := dk_seg dksX3_about_1 71 rfl rfl
theorem dksX3_about_3 : cX3_about.data.toList.drop 104 = dktX3_about_3 := dk_seg dksX3_about_2 24 rfl rfl
theorem dksX3_about_4 : cX3_about.data.toList.drop 128 = dktX3_about_4 := dk_seg dksX3_about_3 24 rfl rfl
theorem dksX3_about_5 : cX3_about.data.toList.drop 150 = dktX3_about_5 := dk_seg dksX3_about_4 22 rfl rfl
theorem dX3_about_0 : decode cX3_about 0 = .ok (.aload_n 0, 1) := dk_42 (dk_at dksX3_about_0 0 rfl rfl)
theorem dX3_about_1 : decode cX3_about 1 = .ok (.aload_n 0, 1) := dk_42 (dk_at dksX3_about_0 1 rfl rfl)
theorem dX3_about_2 : decode cX3_about 2 = .ok (.getfield 25, 3) := dk_180 0 25 (dk_at dksX3_about_0 2 rfl rfl)
theorem dX3_about_5 : decode cX3_about 5 = .ok (.invokevirtual 202, 3) := dk_182 0 202 (dk_at dksX3_about_0 5 rfl rfl)
theorem dX3_about_8 : decode cX3_about 8 = .ok (.iload_n 1, 1) := dk_27 (dk_at dksX3_about_0 8 rfl rfl)
theorem dX3_about_9 : decode cX3_about 9 = .ok (.tableswitch 155 0 13 #[71, 76, 84, 89, 97, 105, 113, 118, 123, 129, 135, 140, 145, 150], 71) := by decide +kernel
theorem dX3_about_80 : decode cX3_about 80 = .ok (.aload_n 0, 1) := dk_42 (dk_at dksX3_about_2 0 rfl rfl)
theorem dX3_about_81 : decode cX3_about 81 = .ok (.getfield 103, 3) := dk_180 0 103 (dk_at dksX3_about_2 1 rfl rfl)
theorem dX3_about_84 : decode cX3_about 84 = .ok (.ireturn, 1) := dk_172 (dk_at dksX3_about_2 4 rfl rfl)
theorem dX3_about_85 : decode cX3_about 85 = .ok (.aload_n 0, 1) := dk_42 (dk_at dksX3_about_2 5 rfl rfl)
theorem dX3_about_86 : decode cX3_about 86 = .ok (.getfield 25, 3) := dk_180 0 25 (dk_at dksX3_about_2 6 rfl rfl)
theorem dX3_about_89 : decode cX3_about 89 = .ok (.invokestatic 129, 3) := dk_184 0 129 (dk_at dksX3_about_2 9 rfl rfl)
theorem dX3_about_92 : decode cX3_about 92 = .ok (.ireturn, 1) := dk_172 (dk_at dksX3_about_2 12 rfl rfl)
theorem dX3_about_93 : decode cX3_about 93 = .ok (.aload_n 0, 1) := dk_42 (dk_at dksX3_about_2 13 rfl rfl)
theorem dX3_about_94 : decode cX3_about 94 = .ok (.invokevirtual 224, 3) := dk_182 0 224 (dk_at dksX3_about_2 14 rfl rfl)
theorem dX3_about_97 : decode cX3_about 97 = .ok (.ireturn, 1) := dk_172 (dk_at dksX3_about_2 17 rfl rfl)
theorem dX3_about_98 : decode cX3_about 98 = .ok (.aload_n 0, 1) := dk_42 (dk_at dksX3_about_2 18 rfl rfl)
theorem dX3_about_99 : decode cX3_about 99 = .ok (.getfield 25, 3) := dk_180 0 25 (dk_at dksX3_about_2 19 rfl rfl)
theorem dX3_about_102 : decode cX3_about 102 = .ok (.bipush 8, 2) := dk_16 8 (dk_at dksX3_about_2 22 rfl rfl)
theorem dX3_about_104 : decode cX3_about 104 = .ok (.iaload, 1) := dk_46 (dk_at dksX3_about_3 0 rfl rfl)
theorem dX3_about_105 : decode cX3_about 105 = .ok (.ireturn, 1) := dk_172 (dk_at dksX3_about_3 1 rfl rfl)
theorem dX3_about_106 : decode cX3_about 106 = .ok (.aload_n 0, 1) := dk_42 (dk_at dksX3_about_3 2 rfl rfl)
theorem dX3_about_107 : decode cX3_about 107 = .ok (.getfield 25, 3) := dk_180 0 25 (dk_at dksX3_about_3 3 rfl rfl)
theorem dX3_about_110 : decode cX3_about 110 = .ok (.bipush 19, 2) := dk_16 19 (dk_at dksX3_about_3 6 rfl rfl)
theorem dX3_about_112 : decode cX3_about 112 = .ok (.iaload, 1) := dk_46 (dk_at dksX3_about_3 8 rfl rfl)
theorem dX3_about_113 : decode cX3_about 113 = .ok (.ireturn, 1) := dk_172 (dk_at dksX3_about_3 9 rfl rfl)
theorem dX3_about_114 : decode cX3_about 114 = .ok (.aload_n 0, 1) := dk_42 (dk_at dksX3_about_3 10 rfl rfl)
theorem dX3_about_115 : decode cX3_about 115 = .ok (.getfield 25, 3) := dk_180 0 25 (dk_at dksX3_about_3 11 rfl rfl)
theorem dX3_about_118 : decode cX3_about 118 = .ok (.bipush 20, 2) := dk_16 20 (dk_at dksX3_about_3 14 rfl rfl)
theorem dX3_about_120 : decode cX3_about 120 = .ok (.iaload, 1) := dk_46 (dk_at dksX3_about_3 16 rfl rfl)
theorem dX3_about_121 : decode cX3_about 121 = .ok (.ireturn, 1) := dk_172 (dk_at dksX3_about_3 17 rfl rfl)
theorem dX3_about_122 : decode cX3_about 122 = .ok (.aload_n 0, 1) := dk_42 (dk_at dksX3_about_3 18 rfl rfl)
theorem dX3_about_123 : decode cX3_about 123 = .ok (.invokevirtual 227, 3) := dk_182 0 227 (dk_at dksX3_about_3 19 rfl rfl)
theorem dX3_about_126 : decode cX3_about 126 = .ok (.ireturn, 1) := dk_172 (dk_at dksX3_about_3 22 rfl rfl)
theorem dX3_about_127 : decode cX3_about 127 = .ok (.aload_n 0, 1) := dk_42 (dk_at dksX3_about_3 23 rfl rfl)
theorem dX3_about_128 : decode cX3_about 128 = .ok (.invokevirtual 230, 3) := dk_182 0 230 (dk_at dksX3_about_4 0 rfl rfl)
theorem dX3_about_131 : decode cX3_about 131 = .ok (.ireturn, 1) := dk_172 (dk_at dksX3_about_4 3 rfl rfl)
theorem dX3_about_132 : decode cX3_about 132 = .ok (.aload_n 0, 1) := dk_42 (dk_at dksX3_about_4 4 rfl rfl)
theorem dX3_about_133 : decode cX3_about 133 = .ok (.iconst 0, 1) := dk_3 (dk_at dksX3_about_4 5 rfl rfl)
theorem dX3_about_134 : decode cX3_about 134 = .ok (.invokevirtual 233, 3) := dk_182 0 233 (dk_at dksX3_about_4 6 rfl rfl)
theorem dX3_about_137 : decode cX3_about 137 = .ok (.ireturn, 1) := dk_172 (dk_at dksX3_about_4 9 rfl rfl)
theorem dX3_about_138 : decode cX3_about 138 = .ok (.aload_n 0, 1) := dk_42 (dk_at dksX3_about_4 10 rfl rfl)
theorem dX3_about_139 : decode cX3_about 139 = .ok (.iconst 1, 1) := dk_4 (dk_at dksX3_about_4 11 rfl rfl)
theorem dX3_about_140 : decode cX3_about 140 = .ok (.invokevirtual 233, 3) := dk_182 0 233 (dk_at dksX3_about_4 12 rfl rfl)
theorem dX3_about_143 : decode cX3_about 143 = .ok (.ireturn, 1) := dk_172 (dk_at dksX3_about_4 15 rfl rfl)
theorem dX3_about_144 : decode cX3_about 144 = .ok (.aload_n 0, 1) := dk_42 (dk_at dksX3_about_4 16 rfl rfl)
theorem dX3_about_145 : decode cX3_about 145 = .ok (.getfield 182, 3) := dk_180 0 182 (dk_at dksX3_about_4 17 rfl rfl)
theorem dX3_about_148 : decode cX3_about 148 = .ok (.ireturn, 1) := dk_172 (dk_at dksX3_about_4 20 rfl rfl)
theorem dX3_about_149 : decode cX3_about 149 = .ok (.aload_n 0, 1) := dk_42 (dk_at dksX3_about_4 21 rfl rfl)
theorem dX3_about_150 : decode cX3_about 150 = .ok (.getfield 237, 3) := dk_180 0 237 (dk_at dksX3_about_5 0 rfl rfl)
theorem dX3_about_153 : decode cX3_about 153 = .ok (.ireturn, 1) := dk_172 (dk_at dksX3_about_5 3 rfl rfl)
theorem dX3_about_154 : decode cX3_about 154 = .ok (.aload_n 0, 1) := dk_42 (dk_at dksX3_about_5 4 rfl rfl)
theorem dX3_about_155 : decode cX3_about 155 = .ok (.getfield 117, 3) := dk_180 0 117 (dk_at dksX3_about_5 5 rfl rfl)
theorem dX3_about_158 : decode cX3_about 158 = .ok (.ireturn, 1) := dk_172 (dk_at dksX3_about_5 8 rfl rfl)
theorem dX3_about_159 : decode cX3_about 159 = .ok (.aload_n 0, 1) := dk_42 (dk_at dksX3_about_5 9 rfl rfl)
theorem dX3_about_160 : decode cX3_about 160 = .ok (.getfield 185, 3) := dk_180 0 185 (dk_at dksX3_about_5 10 rfl rfl)
theorem dX3_about_163 : decode cX3_about 163 = .ok (.ireturn, 1) := dk_172 (dk_at dksX3_about_5 13 rfl rfl)
theorem dX3_about_164 : decode cX3_about 164 = .ok (.bipush (-2), 2) := dk_16 254 (dk_at dksX3_about_5 14 rfl rfl)
theorem dX3_about_166 : decode cX3_about 166 = .ok (.ireturn, 1) := dk_172 (dk_at dksX3_about_5 16 rfl rfl)
abbrev cX3_look : ByteArray := prog_13_method_26_code
def yX3_look : MethodName := ⟨RX3, "look", "([I)V"⟩
def dkwX3_look_10 : List UInt8 := [21, 4, 84, 132, 3, 1, 167, 255, 170, 132, 2, 1, 167, 255, 79, 177]
abbrev dktX3_look_10 : List UInt8 := dkwX3_look_10 ++ []
def dkwX3_look_9 : List UInt8 := [4, 167, 0, 4, 3, 54, 4, 132, 5, 1, 167, 255, 203, 42, 180, 0, 87, 16, 10, 29, 104, 28, 96]
abbrev dktX3_look_9 : List UInt8 := dkwX3_look_9 ++ dktX3_look_10
def dkwX3_look_8 : List UInt8 := [46, 108, 43, 21, 5, 46, 4, 96, 112, 42, 180, 0, 22, 16, 8, 28, 104, 21, 5, 96, 46, 161, 0, 7]
abbrev dktX3_look_8 : List UInt8 := dkwX3_look_8 ++ dktX3_look_9
def dkwX3_look_7 : List UInt8 := [54, 4, 3, 54, 5, 21, 5, 16, 8, 162, 0, 52, 21, 4, 153, 0, 38, 29, 42, 180, 0, 68, 21, 5]
abbrev dktX3_look_7 : List UInt8 := dkwX3_look_7 ++ dktX3_look_8
def dkwX3_look_6 : List UInt8 := [29, 96, 46, 104, 96, 79, 132, 3, 1, 167, 255, 220, 3, 62, 29, 42, 180, 0, 188, 163, 0, 84, 4]
abbrev dktX3_look_6 : List UInt8 := dkwX3_look_6 ++ dktX3_look_7
def dkwX3_look_5 : List UInt8 := [162, 0, 36, 42, 180, 0, 71, 28, 92, 46, 42, 180, 0, 68, 29, 46, 42, 180, 0, 22, 16, 8, 28, 104]
abbrev dktX3_look_5 : List UInt8 := dkwX3_look_5 ++ dktX3_look_6
def dkwX3_look_4 : List UInt8 := [167, 0, 6, 4, 28, 120, 128, 181, 0, 191, 42, 180, 0, 71, 28, 3, 79, 3, 62, 29, 16, 8]
abbrev dktX3_look_4 : List UInt8 := dkwX3_look_4 ++ dktX3_look_5
def dkwX3_look_3 : List UInt8 := [42, 180, 0, 103, 162, 0, 175, 42, 89, 180, 0, 191, 43, 16, 8, 46, 28, 184, 0, 149, 153, 0, 7, 3]
abbrev dktX3_look_3 : List UInt8 := dkwX3_look_3 ++ dktX3_look_4
def dkwX3_look_2 : List UInt8 := [167, 255, 227, 42, 42, 180, 0, 68, 16, 8, 46, 4, 100, 181, 0, 188, 42, 3, 181, 0, 191, 3, 61, 28]
abbrev dktX3_look_2 : List UInt8 := dkwX3_look_2 ++ dktX3_look_3
def dkwX3_look_1 : List UInt8 := [180, 0, 68, 28, 4, 96, 42, 180, 0, 68, 28, 46, 43, 28, 46, 4, 96, 104, 79, 132, 2, 1]
abbrev dktX3_look_1 : List UInt8 := dkwX3_look_1 ++ dktX3_look_2
def dkwX3_look_0 : List UInt8 := [43, 42, 180, 0, 65, 184, 0, 178, 42, 180, 0, 68, 3, 4, 79, 3, 61, 28, 16, 8, 162, 0, 29, 42]
abbrev dktX3_look_0 : List UInt8 := dkwX3_look_0 ++ dktX3_look_1
theorem dksX3_look_0 : cX3_look.data.toList.drop 0 = dktX3_look_0 := by decide +kernel
theorem dksX3_look_1 : cX3_look.data.toList.drop 24 = dktX3_look_1 := dk_seg dksX3_look_0 24 rfl rfl
theorem dksX3_look_2 : cX3_look.data.toList.drop 46 = dktX3_look_2 := dk_seg dksX3_look_1 22 rfl rfl
theorem dksX3_look_3 : cX3_look.data.toList.drop 70 = dktX3_look_3 := dk_seg dksX3_look_2 24 rfl rfl
theorem dksX3_look_4 : cX3_look.data.toList.drop 94 = dktX3_look_4 := dk_seg dksX3_look_3 24 rfl rfl
theorem dksX3_look_5 : cX3_look.data.toList.drop 116 = dktX3_look_5 := dk_seg dksX3_look_4 22 rfl rfl
theorem dksX3_look_6 : cX3_look.data.toList.drop 140 = dktX3_look_6 := dk_seg dksX3_look_5 24 rfl rfl
theorem dksX3_look_7 : cX3_look.data.toList.drop 163 = dktX3_look_7 := dk_seg dksX3_look_6 23 rfl rfl
theorem dksX3_look_8 : cX3_look.data.toList.drop 187 = dktX3_look_8 := dk_seg dksX3_look_7 24 rfl rfl
theorem dksX3_look_9 : cX3_look.data.toList.drop 211 = dktX3_look_9 := dk_seg dksX3_look_8 24 rfl rfl
theorem dksX3_look_10 : cX3_look.data.toList.drop 234 = dktX3_look_10 := dk_seg dksX3_look_9 23 rfl rfl
theorem dX3_look_0 : decode cX3_look 0 = .ok (.aload_n 1, 1) := dk_43 (dk_at dksX3_look_0 0 rfl rfl)
theorem dX3_look_1 : decode cX3_look 1 = .ok (.aload_n 0, 1) := dk_42 (dk_at dksX3_look_0 1 rfl rfl)
theorem dX3_look_2 : decode cX3_look 2 = .ok (.getfield 65, 3) := dk_180 0 65 (dk_at dksX3_look_0 2 rfl rfl)
theorem dX3_look_5 : decode cX3_look 5 = .ok (.invokestatic 178, 3) := dk_184 0 178 (dk_at dksX3_look_0 5 rfl rfl)
theorem dX3_look_8 : decode cX3_look 8 = .ok (.aload_n 0, 1) := dk_42 (dk_at dksX3_look_0 8 rfl rfl)
theorem dX3_look_9 : decode cX3_look 9 = .ok (.getfield 68, 3) := dk_180 0 68 (dk_at dksX3_look_0 9 rfl rfl)
theorem dX3_look_12 : decode cX3_look 12 = .ok (.iconst 0, 1) := dk_3 (dk_at dksX3_look_0 12 rfl rfl)
theorem dX3_look_13 : decode cX3_look 13 = .ok (.iconst 1, 1) := dk_4 (dk_at dksX3_look_0 13 rfl rfl)
theorem dX3_look_14 : decode cX3_look 14 = .ok (.iastore, 1) := dk_79 (dk_at dksX3_look_0 14 rfl rfl)
theorem dX3_look_15 : decode cX3_look 15 = .ok (.iconst 0, 1) := dk_3 (dk_at dksX3_look_0 15 rfl rfl)
theorem dX3_look_16 : decode cX3_look 16 = .ok (.istore_n 2, 1) := dk_61 (dk_at dksX3_look_0 16 rfl rfl)
theorem dX3_look_17 : decode cX3_look 17 = .ok (.iload_n 2, 1) := dk_28 (dk_at dksX3_look_0 17 rfl rfl)
theorem dX3_look_18 : decode cX3_look 18 = .ok (.bipush 8, 2) := dk_16 8 (dk_at dksX3_look_0 18 rfl rfl)
theorem dX3_look_20 : decode cX3_look 20 = .ok (.if_icmp .ge 29, 3) := dk_162 0 29 (dk_at dksX3_look_0 20 rfl rfl)
theorem dX3_look_23 : decode cX3_look 23 = .ok (.aload_n 0, 1) := dk_42 (dk_at dksX3_look_0 23 rfl rfl)
theorem dX3_look_24 : decode cX3_look 24 = .ok (.getfield 68, 3) := dk_180 0 68 (dk_at dksX3_look_1 0 rfl rfl)
theorem dX3_look_27 : decode cX3_look 27 = .ok (.iload_n 2, 1) := dk_28 (dk_at dksX3_look_1 3 rfl rfl)
theorem dX3_look_28 : decode cX3_look 28 = .ok (.iconst 1, 1) := dk_4 (dk_at dksX3_look_1 4 rfl rfl)
theorem dX3_look_29 : decode cX3_look 29 = .ok (.iadd, 1) := dk_96 (dk_at dksX3_look_1 5 rfl rfl)
theorem dX3_look_30 : decode cX3_look 30 = .ok (.aload_n 0, 1) := dk_42 (dk_at dksX3_look_1 6 rfl rfl)
theorem dX3_look_31 : decode cX3_look 31 = .ok (.getfield 68, 3) := dk_180 0 68 (dk_at dksX3_look_1 7 rfl rfl)
theorem dX3_look_34 : decode cX3_look 34 = .ok (.iload_n 2, 1) := dk_28 (dk_at dksX3_look_1 10 rfl rfl)
theorem dX3_look_35 : decode cX3_look 35 = .ok (.iaload, 1) := dk_46 (dk_at dksX3_look_1 11 rfl rfl)
theorem dX3_look_36 : decode cX3_look 36 = .ok (.aload_n 1, 1) := dk_43 (dk_at dksX3_look_1 12 rfl rfl)
theorem dX3_look_37 : decode cX3_look 37 = .ok (.iload_n 2, 1) := dk_28 (dk_at dksX3_look_1 13 rfl rfl)
theorem dX3_look_38 : decode cX3_look 38 = .ok (.iaload, 1) := dk_46 (dk_at dksX3_look_1 14 rfl rfl)
theorem dX3_look_39 : decode cX3_look 39 = .ok (.iconst 1, 1) := dk_4 (dk_at dksX3_look_1 15 rfl rfl)
theorem dX3_look_40 : decode cX3_look 40 = .ok (.iadd, 1) := dk_96 (dk_at dksX3_look_1 16 rfl rfl)
theorem dX3_look_41 : decode cX3_look 41 = .ok (.imul, 1) := dk_104 (dk_at dksX3_look_1 17 rfl rfl)
theorem dX3_look_42 : decode cX3_look 42 = .ok (.iastore, 1) := dk_79 (dk_at dksX3_look_1 18 rfl rfl)
theorem dX3_look_43 : decode cX3_look 43 = .ok (.iinc 2 1, 3) := dk_132 2 1 (dk_at dksX3_look_1 19 rfl rfl)
theorem dX3_look_46 : decode cX3_look 46 = .ok (.goto (-29), 3) := dk_167 255 227 (dk_at dksX3_look_2 0 rfl rfl)
theorem dX3_look_49 : decode cX3_look 49 = .ok (.aload_n 0, 1) := dk_42 (dk_at dksX3_look_2 3 rfl rfl)
theorem dX3_look_50 : decode cX3_look 50 = .ok (.aload_n 0, 1) := dk_42 (dk_at dksX3_look_2 4 rfl rfl)
theorem dX3_look_51 : decode cX3_look 51 = .ok (.getfield 68, 3) := dk_180 0 68 (dk_at dksX3_look_2 5 rfl rfl)
theorem dX3_look_54 : decode cX3_look 54 = .ok (.bipush 8, 2) := dk_16 8 (dk_at dksX3_look_2 8 rfl rfl)
theorem dX3_look_56 : decode cX3_look 56 = .ok (.iaload, 1) := dk_46 (dk_at dksX3_look_2 10 rfl rfl)
theorem dX3_look_57 : decode cX3_look 57 = .ok (.iconst 1, 1) := dk_4 (dk_at dksX3_look_2 11 rfl rfl)
theorem dX3_look_58 : decode cX3_look 58 = .ok (.isub, 1) := dk_100 (dk_at dksX3_look_2 12 rfl rfl)
theorem dX3_look_59 : decode cX3_look 59 = .ok (.putfield 188, 3) := dk_181 0 188 (dk_at dksX3_look_2 13 rfl rfl)
theorem dX3_look_62 : decode cX3_look 62 = .ok (.aload_n 0, 1) := dk_42 (dk_at dksX3_look_2 16 rfl rfl)
theorem dX3_look_63 : decode cX3_look 63 = .ok (.iconst 0, 1) := dk_3 (dk_at dksX3_look_2 17 rfl rfl)
theorem dX3_look_64 : decode cX3_look 64 = .ok (.putfield 191, 3) := dk_181 0 191 (dk_at dksX3_look_2 18 rfl rfl)
theorem dX3_look_67 : decode cX3_look 67 = .ok (.iconst 0, 1) := dk_3 (dk_at dksX3_look_2 21 rfl rfl)
theorem dX3_look_68 : decode cX3_look 68 = .ok (.istore_n 2, 1) := dk_61 (dk_at dksX3_look_2 22 rfl rfl)
theorem dX3_look_69 : decode cX3_look 69 = .ok (.iload_n 2, 1) := dk_28 (dk_at dksX3_look_2 23 rfl rfl)
theorem dX3_look_70 : decode cX3_look 70 = .ok (.aload_n 0, 1) := dk_42 (dk_at dksX3_look_3 0 rfl rfl)
theorem dX3_look_71 : decode cX3_look 71 = .ok (.getfield 103, 3) := dk_180 0 103 (dk_at dksX3_look_3 1 rfl rfl)
theorem dX3_look_74 : decode cX3_look 74 = .ok (.if_icmp .ge 175, 3) := dk_162 0 175 (dk_at dksX3_look_3 4 rfl rfl)
theorem dX3_look_77 : decode cX3_look 77 = .ok (.aload_n 0, 1) := dk_42 (dk_at dksX3_look_3 7 rfl rfl)
theorem dX3_look_78 : decode cX3_look 78 = .ok (.dup, 1) := dk_89 (dk_at dksX3_look_3 8 rfl rfl)
theorem dX3_look_79 : decode cX3_look 79 = .ok (.getfield 191, 3) := dk_180 0 191 (dk_at dksX3_look_3 9 rfl rfl)
theorem dX3_look_82 : decode cX3_look 82 = .ok (.aload_n 1, 1) := dk_43 (dk_at dksX3_look_3 12 rfl rfl)
theorem dX3_look_83 : decode cX3_look 83 = .ok (.bipush 8, 2) := dk_16 8 (dk_at dksX3_look_3 13 rfl rfl)
theorem dX3_look_85 : decode cX3_look 85 = .ok (.iaload, 1) := dk_46 (dk_at dksX3_look_3 15 rfl rfl)
theorem dX3_look_86 : decode cX3_look 86 = .ok (.iload_n 2, 1) := dk_28 (dk_at dksX3_look_3 16 rfl rfl)
theorem dX3_look_87 : decode cX3_look 87 = .ok (.invokestatic 149, 3) := dk_184 0 149 (dk_at dksX3_look_3 17 rfl rfl)
theorem dX3_look_90 : decode cX3_look 90 = .ok (.ifCond .eq 7, 3) := dk_153 0 7 (dk_at dksX3_look_3 20 rfl rfl)
theorem dX3_look_93 : decode cX3_look 93 = .ok (.iconst 0, 1) := dk_3 (dk_at dksX3_look_3 23 rfl rfl)
theorem dX3_look_94 : decode cX3_look 94 = .ok (.goto 6, 3) := dk_167 0 6 (dk_at dksX3_look_4 0 rfl rfl)
theorem dX3_look_97 : decode cX3_look 97 = .ok (.iconst 1, 1) := dk_4 (dk_at dksX3_look_4 3 rfl rfl)
theorem dX3_look_98 : decode cX3_look 98 = .ok (.iload_n 2, 1) := dk_28 (dk_at dksX3_look_4 4 rfl rfl)
theorem dX3_look_99 : decode cX3_look 99 = .ok (.ishl, 1) := dk_120 (dk_at dksX3_look_4 5 rfl rfl)
theorem dX3_look_100 : decode cX3_look 100 = .ok (.ior, 1) := dk_128 (dk_at dksX3_look_4 6 rfl rfl)
theorem dX3_look_101 : decode cX3_look 101 = .ok (.putfield 191, 3) := dk_181 0 191 (dk_at dksX3_look_4 7 rfl rfl)
theorem dX3_look_104 : decode cX3_look 104 = .ok (.aload_n 0, 1) := dk_42 (dk_at dksX3_look_4 10 rfl rfl)
theorem dX3_look_105 : decode cX3_look 105 = .ok (.getfield 71, 3) := dk_180 0 71 (dk_at dksX3_look_4 11 rfl rfl)
theorem dX3_look_108 : decode cX3_look 108 = .ok (.iload_n 2, 1) := dk_28 (dk_at dksX3_look_4 14 rfl rfl)
theorem dX3_look_109 : decode cX3_look 109 = .ok (.iconst 0, 1) := dk_3 (dk_at dksX3_look_4 15 rfl rfl)
theorem dX3_look_110 : decode cX3_look 110 = .ok (.iastore, 1) := dk_79 (dk_at dksX3_look_4 16 rfl rfl)
theorem dX3_look_111 : decode cX3_look 111 = .ok (.iconst 0, 1) := dk_3 (dk_at dksX3_look_4 17 rfl rfl)
theorem dX3_look_112 : decode cX3_look 112 = .ok (.istore_n 3, 1) := dk_62 (dk_at dksX3_look_4 18 rfl rfl)
theorem dX3_look_113 : decode cX3_look 113 = .ok (.iload_n 3, 1) := dk_29 (dk_at dksX3_look_4 19 rfl rfl)
theorem dX3_look_114 : decode cX3_look 114 = .ok (.bipush 8, 2) := dk_16 8 (dk_at dksX3_look_4 20 rfl rfl)
theorem dX3_look_116 : decode cX3_look 116 = .ok (.if_icmp .ge 36, 3) := dk_162 0 36 (dk_at dksX3_look_5 0 rfl rfl)
theorem dX3_look_119 : decode cX3_look 119 = .ok (.aload_n 0, 1) := dk_42 (dk_at dksX3_look_5 3 rfl rfl)
theorem dX3_look_120 : decode cX3_look 120 = .ok (.getfield 71, 3) := dk_180 0 71 (dk_at dksX3_look_5 4 rfl rfl)
theorem dX3_look_123 : decode cX3_look 123 = .ok (.iload_n 2, 1) := dk_28 (dk_at dksX3_look_5 7 rfl rfl)
theorem dX3_look_124 : decode cX3_look 124 = .ok (.dup2, 1) := dk_92 (dk_at dksX3_look_5 8 rfl rfl)
theorem dX3_look_125 : decode cX3_look 125 = .ok (.iaload, 1) := dk_46 (dk_at dksX3_look_5 9 rfl rfl)
theorem dX3_look_126 : decode cX3_look 126 = .ok (.aload_n 0, 1) := dk_42 (dk_at dksX3_look_5 10 rfl rfl)
theorem dX3_look_127 : decode cX3_look 127 = .ok (.getfield 68, 3) := dk_180 0 68 (dk_at dksX3_look_5 11 rfl rfl)
theorem dX3_look_130 : decode cX3_look 130 = .ok (.iload_n 3, 1) := dk_29 (dk_at dksX3_look_5 14 rfl rfl)
theorem dX3_look_131 : decode cX3_look 131 = .ok (.iaload, 1) := dk_46 (dk_at dksX3_look_5 15 rfl rfl)
theorem dX3_look_132 : decode cX3_look 132 = .ok (.aload_n 0, 1) := dk_42 (dk_at dksX3_look_5 16 rfl rfl)
theorem dX3_look_133 : decode cX3_look 133 = .ok (.getfield 22, 3) := dk_180 0 22 (dk_at dksX3_look_5 17 rfl rfl)
theorem dX3_look_136 : decode cX3_look 136 = .ok (.bipush 8, 2) := dk_16 8 (dk_at dksX3_look_5 20 rfl rfl)
theorem dX3_look_138 : decode cX3_look 138 = .ok (.iload_n 2, 1) := dk_28 (dk_at dksX3_look_5 22 rfl rfl)
theorem dX3_look_139 : decode cX3_look 139 = .ok (.imul, 1) := dk_104 (dk_at dksX3_look_5 23 rfl rfl)
theorem dX3_look_140 : decode cX3_look 140 = .ok (.iload_n 3, 1) := dk_29 (dk_at dksX3_look_6 0 rfl rfl)
theorem dX3_look_141 : decode cX3_look 141 = .ok (.iadd, 1) := dk_96 (dk_at dksX3_look_6 1 rfl rfl)
theorem dX3_look_142 : decode cX3_look 142 = .ok (.iaload, 1) := dk_46 (dk_at dksX3_look_6 2 rfl rfl)
theorem dX3_look_143 : decode cX3_look 143 = .ok (.imul, 1) := dk_104 (dk_at dksX3_look_6 3 rfl rfl)
theorem dX3_look_144 : decode cX3_look 144 = .ok (.iadd, 1) := dk_96 (dk_at dksX3_look_6 4 rfl rfl)
theorem dX3_look_145 : decode cX3_look 145 = .ok (.iastore, 1) := dk_79 (dk_at dksX3_look_6 5 rfl rfl)
theorem dX3_look_146 : decode cX3_look 146 = .ok (.iinc 3 1, 3) := dk_132 3 1 (dk_at dksX3_look_6 6 rfl rfl)
theorem dX3_look_149 : decode cX3_look 149 = .ok (.goto (-36), 3) := dk_167 255 220 (dk_at dksX3_look_6 9 rfl rfl)
theorem dX3_look_152 : decode cX3_look 152 = .ok (.iconst 0, 1) := dk_3 (dk_at dksX3_look_6 12 rfl rfl)
theorem dX3_look_153 : decode cX3_look 153 = .ok (.istore_n 3, 1) := dk_62 (dk_at dksX3_look_6 13 rfl rfl)
theorem dX3_look_154 : decode cX3_look 154 = .ok (.iload_n 3, 1) := dk_29 (dk_at dksX3_look_6 14 rfl rfl)
theorem dX3_look_155 : decode cX3_look 155 = .ok (.aload_n 0, 1) := dk_42 (dk_at dksX3_look_6 15 rfl rfl)
theorem dX3_look_156 : decode cX3_look 156 = .ok (.getfield 188, 3) := dk_180 0 188 (dk_at dksX3_look_6 16 rfl rfl)
theorem dX3_look_159 : decode cX3_look 159 = .ok (.if_icmp .gt 84, 3) := dk_163 0 84 (dk_at dksX3_look_6 19 rfl rfl)
theorem dX3_look_162 : decode cX3_look 162 = .ok (.iconst 1, 1) := dk_4 (dk_at dksX3_look_6 22 rfl rfl)
theorem dX3_look_163 : decode cX3_look 163 = .ok (.istore 4, 2) := dk_54 4 (dk_at dksX3_look_7 0 rfl rfl)
theorem dX3_look_165 : decode cX3_look 165 = .ok (.iconst 0, 1) := dk_3 (dk_at dksX3_look_7 2 rfl rfl)
theorem dX3_look_166 : decode cX3_look 166 = .ok (.istore 5, 2) := dk_54 5 (dk_at dksX3_look_7 3 rfl rfl)
theorem dX3_look_168 : decode cX3_look 168 = .ok (.iload 5, 2) := dk_21 5 (dk_at dksX3_look_7 5 rfl rfl)
theorem dX3_look_170 : decode cX3_look 170 = .ok (.bipush 8, 2) := dk_16 8 (dk_at dksX3_look_7 7 rfl rfl)
theorem dX3_look_172 : decode cX3_look 172 = .ok (.if_icmp .ge 52, 3) := dk_162 0 52 (dk_at dksX3_look_7 9 rfl rfl)
theorem dX3_look_175 : decode cX3_look 175 = .ok (.iload 4, 2) := dk_21 4 (dk_at dksX3_look_7 12 rfl rfl)
theorem dX3_look_177 : decode cX3_look 177 = .ok (.ifCond .eq 38, 3) := dk_153 0 38 (dk_at dksX3_look_7 14 rfl rfl)
theorem dX3_look_180 : decode cX3_look 180 = .ok (.iload_n 3, 1) := dk_29 (dk_at dksX3_look_7 17 rfl rfl)
theorem dX3_look_181 : decode cX3_look 181 = .ok (.aload_n 0, 1) := dk_42 (dk_at dksX3_look_7 18 rfl rfl)
theorem dX3_look_182 : decode cX3_look 182 = .ok (.getfield 68, 3) := dk_180 0 68 (dk_at dksX3_look_7 19 rfl rfl)
theorem dX3_look_185 : decode cX3_look 185 = .ok (.iload 5, 2) := dk_21 5 (dk_at dksX3_look_7 22 rfl rfl)
theorem dX3_look_187 : decode cX3_look 187 = .ok (.iaload, 1) := dk_46 (dk_at dksX3_look_8 0 rfl rfl)
theorem dX3_look_188 : decode cX3_look 188 = .ok (.idiv, 1) := dk_108 (dk_at dksX3_look_8 1 rfl rfl)
theorem dX3_look_189 : decode cX3_look 189 = .ok (.aload_n 1, 1) := dk_43 (dk_at dksX3_look_8 2 rfl rfl)
theorem dX3_look_190 : decode cX3_look 190 = .ok (.iload 5, 2) := dk_21 5 (dk_at dksX3_look_8 3 rfl rfl)
theorem dX3_look_192 : decode cX3_look 192 = .ok (.iaload, 1) := dk_46 (dk_at dksX3_look_8 5 rfl rfl)
theorem dX3_look_193 : decode cX3_look 193 = .ok (.iconst 1, 1) := dk_4 (dk_at dksX3_look_8 6 rfl rfl)
theorem dX3_look_194 : decode cX3_look 194 = .ok (.iadd, 1) := dk_96 (dk_at dksX3_look_8 7 rfl rfl)
theorem dX3_look_195 : decode cX3_look 195 = .ok (.irem, 1) := dk_112 (dk_at dksX3_look_8 8 rfl rfl)
theorem dX3_look_196 : decode cX3_look 196 = .ok (.aload_n 0, 1) := dk_42 (dk_at dksX3_look_8 9 rfl rfl)
theorem dX3_look_197 : decode cX3_look 197 = .ok (.getfield 22, 3) := dk_180 0 22 (dk_at dksX3_look_8 10 rfl rfl)
theorem dX3_look_200 : decode cX3_look 200 = .ok (.bipush 8, 2) := dk_16 8 (dk_at dksX3_look_8 13 rfl rfl)
theorem dX3_look_202 : decode cX3_look 202 = .ok (.iload_n 2, 1) := dk_28 (dk_at dksX3_look_8 15 rfl rfl)
theorem dX3_look_203 : decode cX3_look 203 = .ok (.imul, 1) := dk_104 (dk_at dksX3_look_8 16 rfl rfl)
theorem dX3_look_204 : decode cX3_look 204 = .ok (.iload 5, 2) := dk_21 5 (dk_at dksX3_look_8 17 rfl rfl)
theorem dX3_look_206 : decode cX3_look 206 = .ok (.iadd, 1) := dk_96 (dk_at dksX3_look_8 19 rfl rfl)
theorem dX3_look_207 : decode cX3_look 207 = .ok (.iaload, 1) := dk_46 (dk_at dksX3_look_8 20 rfl rfl)
theorem dX3_look_208 : decode cX3_look 208 = .ok (.if_icmp .lt 7, 3) := dk_161 0 7 (dk_at dksX3_look_8 21 rfl rfl)
theorem dX3_look_211 : decode cX3_look 211 = .ok (.iconst 1, 1) := dk_4 (dk_at dksX3_look_9 0 rfl rfl)
theorem dX3_look_212 : decode cX3_look 212 = .ok (.goto 4, 3) := dk_167 0 4 (dk_at dksX3_look_9 1 rfl rfl)
theorem dX3_look_215 : decode cX3_look 215 = .ok (.iconst 0, 1) := dk_3 (dk_at dksX3_look_9 4 rfl rfl)
theorem dX3_look_216 : decode cX3_look 216 = .ok (.istore 4, 2) := dk_54 4 (dk_at dksX3_look_9 5 rfl rfl)
theorem dX3_look_218 : decode cX3_look 218 = .ok (.iinc 5 1, 3) := dk_132 5 1 (dk_at dksX3_look_9 7 rfl rfl)
theorem dX3_look_221 : decode cX3_look 221 = .ok (.goto (-53), 3) := dk_167 255 203 (dk_at dksX3_look_9 10 rfl rfl)
theorem dX3_look_224 : decode cX3_look 224 = .ok (.aload_n 0, 1) := dk_42 (dk_at dksX3_look_9 13 rfl rfl)
theorem dX3_look_225 : decode cX3_look 225 = .ok (.getfield 87, 3) := dk_180 0 87 (dk_at dksX3_look_9 14 rfl rfl)
theorem dX3_look_228 : decode cX3_look 228 = .ok (.bipush 10, 2) := dk_16 10 (dk_at dksX3_look_9 17 rfl rfl)
theorem dX3_look_230 : decode cX3_look 230 = .ok (.iload_n 3, 1) := dk_29 (dk_at dksX3_look_9 19 rfl rfl)
theorem dX3_look_231 : decode cX3_look 231 = .ok (.imul, 1) := dk_104 (dk_at dksX3_look_9 20 rfl rfl)
theorem dX3_look_232 : decode cX3_look 232 = .ok (.iload_n 2, 1) := dk_28 (dk_at dksX3_look_9 21 rfl rfl)
theorem dX3_look_233 : decode cX3_look 233 = .ok (.iadd, 1) := dk_96 (dk_at dksX3_look_9 22 rfl rfl)
theorem dX3_look_234 : decode cX3_look 234 = .ok (.iload 4, 2) := dk_21 4 (dk_at dksX3_look_10 0 rfl rfl)
theorem dX3_look_236 : decode cX3_look 236 = .ok (.bastore, 1) := dk_84 (dk_at dksX3_look_10 2 rfl rfl)
theorem dX3_look_237 : decode cX3_look 237 = .ok (.iinc 3 1, 3) := dk_132 3 1 (dk_at dksX3_look_10 3 rfl rfl)
theorem dX3_look_240 : decode cX3_look 240 = .ok (.goto (-86), 3) := dk_167 255 170 (dk_at dksX3_look_10 6 rfl rfl)
theorem dX3_look_243 : decode cX3_look 243 = .ok (.iinc 2 1, 3) := dk_132 2 1 (dk_at dksX3_look_10 9 rfl rfl)
theorem dX3_look_246 : decode cX3_look 246 = .ok (.goto (-177), 3) := dk_167 255 79 (dk_at dksX3_look_10 12 rfl rfl)
theorem dX3_look_249 : decode cX3_look 249 = .ok (.return_, 1) := dk_177 (dk_at dksX3_look_10 15 rfl rfl)
abbrev cX3_unlike : ByteArray := prog_13_method_36_code
def yX3_unlike : MethodName := ⟨RX3, "unlike", "()I"⟩
def dkwX3_unlike_1 : List UInt8 := [3, 96, 60, 132, 2, 1, 167, 255, 230, 27, 172]
abbrev dktX3_unlike_1 : List UInt8 := dkwX3_unlike_1 ++ []
def dkwX3_unlike_0 : List UInt8 := [3, 60, 3, 61, 28, 16, 8, 162, 0, 26, 27, 42, 180, 0, 25, 28, 46, 158, 0, 7, 4, 167, 0, 4]
abbrev dktX3_unlike_0 : List UInt8 := dkwX3_unlike_0 ++ dktX3_unlike_1
theorem dksX3_unlike_0 : cX3_unlike.data.toList.drop 0 = dktX3_unlike_0 := by decide +kernel
theorem dksX3_unlike_1 : cX3_unlike.data.toList.drop 24 = dktX3_unlike_1 := dk_seg dksX3_unlike_0 24 rfl rfl
theorem dX3_unlike_0 : decode cX3_unlike 0 = .ok (.iconst 0, 1) := dk_3 (dk_at dksX3_unlike_0 0 rfl rfl)
theorem dX3_unlike_1 : decode cX3_unlike 1 = .ok (.istore_n 1, 1) := dk_60 (dk_at dksX3_unlike_0 1 rfl rfl)
theorem dX3_unlike_2 : decode cX3_unlike 2 = .ok (.iconst 0, 1) := dk_3 (dk_at dksX3_unlike_0 2 rfl rfl)
theorem dX3_unlike_3 : decode cX3_unlike 3 = .ok (.istore_n 2, 1) := dk_61 (dk_at dksX3_unlike_0 3 rfl rfl)
theorem dX3_unlike_4 : decode cX3_unlike 4 = .ok (.iload_n 2, 1) := dk_28 (dk_at dksX3_unlike_0 4 rfl rfl)
theorem dX3_unlike_5 : decode cX3_unlike 5 = .ok (.bipush 8, 2) := dk_16 8 (dk_at dksX3_unlike_0 5 rfl rfl)
theorem dX3_unlike_7 : decode cX3_unlike 7 = .ok (.if_icmp .ge 26, 3) := dk_162 0 26 (dk_at dksX3_unlike_0 7 rfl rfl)
theorem dX3_unlike_10 : decode cX3_unlike 10 = .ok (.iload_n 1, 1) := dk_27 (dk_at dksX3_unlike_0 10 rfl rfl)
theorem dX3_unlike_11 : decode cX3_unlike 11 = .ok (.aload_n 0, 1) := dk_42 (dk_at dksX3_unlike_0 11 rfl rfl)
theorem dX3_unlike_12 : decode cX3_unlike 12 = .ok (.getfield 25, 3) := dk_180 0 25 (dk_at dksX3_unlike_0 12 rfl rfl)
theorem dX3_unlike_15 : decode cX3_unlike 15 = .ok (.iload_n 2, 1) := dk_28 (dk_at dksX3_unlike_0 15 rfl rfl)
theorem dX3_unlike_16 : decode cX3_unlike 16 = .ok (.iaload, 1) := dk_46 (dk_at dksX3_unlike_0 16 rfl rfl)
theorem dX3_unlike_17 : decode cX3_unlike 17 = .ok (.ifCond .le 7, 3) := dk_158 0 7 (dk_at dksX3_unlike_0 17 rfl rfl)
theorem dX3_unlike_20 : decode cX3_unlike 20 = .ok (.iconst 1, 1) := dk_4 (dk_at dksX3_unlike_0 20 rfl rfl)
theorem dX3_unlike_21 : decode cX3_unlike 21 = .ok (.goto 4, 3) := dk_167 0 4 (dk_at dksX3_unlike_0 21 rfl rfl)
theorem dX3_unlike_24 : decode cX3_unlike 24 = .ok (.iconst 0, 1) := dk_3 (dk_at dksX3_unlike_1 0 rfl rfl)
theorem dX3_unlike_25 : decode cX3_unlike 25 = .ok (.iadd, 1) := dk_96 (dk_at dksX3_unlike_1 1 rfl rfl)
theorem dX3_unlike_26 : decode cX3_unlike 26 = .ok (.istore_n 1, 1) := dk_60 (dk_at dksX3_unlike_1 2 rfl rfl)
theorem dX3_unlike_27 : decode cX3_unlike 27 = .ok (.iinc 2 1, 3) := dk_132 2 1 (dk_at dksX3_unlike_1 3 rfl rfl)
theorem dX3_unlike_30 : decode cX3_unlike 30 = .ok (.goto (-26), 3) := dk_167 255 230 (dk_at dksX3_unlike_1 6 rfl rfl)
theorem dX3_unlike_33 : decode cX3_unlike 33 = .ok (.iload_n 1, 1) := dk_27 (dk_at dksX3_unlike_1 9 rfl rfl)
theorem dX3_unlike_34 : decode cX3_unlike 34 = .ok (.ireturn, 1) := dk_172 (dk_at dksX3_unlike_1 10 rfl rfl)
abbrev cX3_makeable : ByteArray := prog_13_method_35_code
def yX3_makeable : MethodName := ⟨RX3, "makeable", "()I"⟩
def dkwX3_makeable_1 : List UInt8 := [167, 0, 4, 3, 128, 60, 132, 2, 1, 167, 255, 227, 27, 172]
abbrev dktX3_makeable_1 : List UInt8 := dkwX3_makeable_1 ++ []
def dkwX3_makeable_0 : List UInt8 := [3, 60, 3, 61, 28, 42, 180, 0, 103, 162, 0, 27, 27, 42, 28, 182, 0, 220, 158, 0, 9, 4, 28, 120]
abbrev dktX3_makeable_0 : List UInt8 := dkwX3_makeable_0 ++ dktX3_makeable_1
theorem dksX3_makeable_0 : cX3_makeable.data.toList.drop 0 = dktX3_makeable_0 := by decide +kernel
theorem dksX3_makeable_1 : cX3_makeable.data.toList.drop 24 = dktX3_makeable_1 := dk_seg dksX3_makeable_0 24 rfl rfl
theorem dX3_makeable_0 : decode cX3_makeable 0 = .ok (.iconst 0, 1) := dk_3 (dk_at dksX3_makeable_0 0 rfl rfl)
theorem dX3_makeable_1 : decode cX3_makeable 1 = .ok (.istore_n 1, 1) := dk_60 (dk_at dksX3_makeable_0 1 rfl rfl)
theorem dX3_makeable_2 : decode cX3_makeable 2 = .ok (.iconst 0, 1) := dk_3 (dk_at dksX3_makeable_0 2 rfl rfl)
theorem dX3_makeable_3 : decode cX3_makeable 3 = .ok (.istore_n 2, 1) := dk_61 (dk_at dksX3_makeable_0 3 rfl rfl)
theorem dX3_makeable_4 : decode cX3_makeable 4 = .ok (.iload_n 2, 1) := dk_28 (dk_at dksX3_makeable_0 4 rfl rfl)
theorem dX3_makeable_5 : decode cX3_makeable 5 = .ok (.aload_n 0, 1) := dk_42 (dk_at dksX3_makeable_0 5 rfl rfl)
theorem dX3_makeable_6 : decode cX3_makeable 6 = .ok (.getfield 103, 3) := dk_180 0 103 (dk_at dksX3_makeable_0 6 rfl rfl)
theorem dX3_makeable_9 : decode cX3_makeable 9 = .ok (.if_icmp .ge 27, 3) := dk_162 0 27 (dk_at dksX3_makeable_0 9 rfl rfl)
theorem dX3_makeable_12 : decode cX3_makeable 12 = .ok (.iload_n 1, 1) := dk_27 (dk_at dksX3_makeable_0 12 rfl rfl)
theorem dX3_makeable_13 : decode cX3_makeable 13 = .ok (.aload_n 0, 1) := dk_42 (dk_at dksX3_makeable_0 13 rfl rfl)
theorem dX3_makeable_14 : decode cX3_makeable 14 = .ok (.iload_n 2, 1) := dk_28 (dk_at dksX3_makeable_0 14 rfl rfl)
theorem dX3_makeable_15 : decode cX3_makeable 15 = .ok (.invokevirtual 220, 3) := dk_182 0 220 (dk_at dksX3_makeable_0 15 rfl rfl)
theorem dX3_makeable_18 : decode cX3_makeable 18 = .ok (.ifCond .le 9, 3) := dk_158 0 9 (dk_at dksX3_makeable_0 18 rfl rfl)
theorem dX3_makeable_21 : decode cX3_makeable 21 = .ok (.iconst 1, 1) := dk_4 (dk_at dksX3_makeable_0 21 rfl rfl)
theorem dX3_makeable_22 : decode cX3_makeable 22 = .ok (.iload_n 2, 1) := dk_28 (dk_at dksX3_makeable_0 22 rfl rfl)
theorem dX3_makeable_23 : decode cX3_makeable 23 = .ok (.ishl, 1) := dk_120 (dk_at dksX3_makeable_0 23 rfl rfl)
theorem dX3_makeable_24 : decode cX3_makeable 24 = .ok (.goto 4, 3) := dk_167 0 4 (dk_at dksX3_makeable_1 0 rfl rfl)
theorem dX3_makeable_27 : decode cX3_makeable 27 = .ok (.iconst 0, 1) := dk_3 (dk_at dksX3_makeable_1 3 rfl rfl)
theorem dX3_makeable_28 : decode cX3_makeable 28 = .ok (.ior, 1) := dk_128 (dk_at dksX3_makeable_1 4 rfl rfl)
theorem dX3_makeable_29 : decode cX3_makeable 29 = .ok (.istore_n 1, 1) := dk_60 (dk_at dksX3_makeable_1 5 rfl rfl)
theorem dX3_makeable_30 : decode cX3_makeable 30 = .ok (.iinc 2 1, 3) := dk_132 2 1 (dk_at dksX3_makeable_1 6 rfl rfl)
theorem dX3_makeable_33 : decode cX3_makeable 33 = .ok (.goto (-29), 3) := dk_167 255 227 (dk_at dksX3_makeable_1 9 rfl rfl)
theorem dX3_makeable_36 : decode cX3_makeable 36 = .ok (.iload_n 1, 1) := dk_27 (dk_at dksX3_makeable_1 12 rfl rfl)
theorem dX3_makeable_37 : decode cX3_makeable 37 = .ok (.ireturn, 1) := dk_172 (dk_at dksX3_makeable_1 13 rfl rfl)
abbrev cX3_madeOf : ByteArray := prog_13_method_41_code
def yX3_madeOf : MethodName := ⟨RX3, "madeOf", "(I)I"⟩
def dkwX3_madeOf_2 : List UInt8 := [21, 4, 108, 167, 0, 4, 28, 61, 132, 3, 1, 167, 255, 202, 28, 172]
abbrev dktX3_madeOf_2 : List UInt8 := dkwX3_madeOf_2 ++ []
def dkwX3_madeOf_1 : List UInt8 := [21, 4, 158, 0, 28, 42, 180, 0, 25, 29, 46, 21, 4, 108, 28, 162, 0, 15, 42, 180, 0, 25, 29, 46]
abbrev dktX3_madeOf_1 : List UInt8 := dkwX3_madeOf_1 ++ dktX3_madeOf_2
def dkwX3_madeOf_0 : List UInt8 := [16, 12, 61, 3, 62, 29, 16, 8, 162, 0, 54, 42, 180, 0, 22, 16, 8, 27, 104, 29, 96, 46, 54, 4]
abbrev dktX3_madeOf_0 : List UInt8 := dkwX3_madeOf_0 ++ dktX3_madeOf_1
theorem dksX3_madeOf_0 : cX3_madeOf.data.toList.drop 0 = dktX3_madeOf_0 := by decide +kernel
theorem dksX3_madeOf_1 : cX3_madeOf.data.toList.drop 24 = dktX3_madeOf_1 := dk_seg dksX3_madeOf_0 24 rfl rfl
theorem dksX3_madeOf_2 : cX3_madeOf.data.toList.drop 48 = dktX3_madeOf_2 := dk_seg dksX3_madeOf_1 24 rfl rfl
theorem dX3_madeOf_0 : decode cX3_madeOf 0 = .ok (.bipush 12, 2) := dk_16 12 (dk_at dksX3_madeOf_0 0 rfl rfl)
theorem dX3_madeOf_2 : decode cX3_madeOf 2 = .ok (.istore_n 2, 1) := dk_61 (dk_at dksX3_madeOf_0 2 rfl rfl)
theorem dX3_madeOf_3 : decode cX3_madeOf 3 = .ok (.iconst 0, 1) := dk_3 (dk_at dksX3_madeOf_0 3 rfl rfl)
theorem dX3_madeOf_4 : decode cX3_madeOf 4 = .ok (.istore_n 3, 1) := dk_62 (dk_at dksX3_madeOf_0 4 rfl rfl)
theorem dX3_madeOf_5 : decode cX3_madeOf 5 = .ok (.iload_n 3, 1) := dk_29 (dk_at dksX3_madeOf_0 5 rfl rfl)
theorem dX3_madeOf_6 : decode cX3_madeOf 6 = .ok (.bipush 8, 2) := dk_16 8 (dk_at dksX3_madeOf_0 6 rfl rfl)
theorem dX3_madeOf_8 : decode cX3_madeOf 8 = .ok (.if_icmp .ge 54, 3) := dk_162 0 54 (dk_at dksX3_madeOf_0 8 rfl rfl)
theorem dX3_madeOf_11 : decode cX3_madeOf 11 = .ok (.aload_n 0, 1) := dk_42 (dk_at dksX3_madeOf_0 11 rfl rfl)
theorem dX3_madeOf_12 : decode cX3_madeOf 12 = .ok (.getfield 22, 3) := dk_180 0 22 (dk_at dksX3_madeOf_0 12 rfl rfl)
theorem dX3_madeOf_15 : decode cX3_madeOf 15 = .ok (.bipush 8, 2) := dk_16 8 (dk_at dksX3_madeOf_0 15 rfl rfl)
theorem dX3_madeOf_17 : decode cX3_madeOf 17 = .ok (.iload_n 1, 1) := dk_27 (dk_at dksX3_madeOf_0 17 rfl rfl)
theorem dX3_madeOf_18 : decode cX3_madeOf 18 = .ok (.imul, 1) := dk_104 (dk_at dksX3_madeOf_0 18 rfl rfl)
theorem dX3_madeOf_19 : decode cX3_madeOf 19 = .ok (.iload_n 3, 1) := dk_29 (dk_at dksX3_madeOf_0 19 rfl rfl)
theorem dX3_madeOf_20 : decode cX3_madeOf 20 = .ok (.iadd, 1) := dk_96 (dk_at dksX3_madeOf_0 20 rfl rfl)
theorem dX3_madeOf_21 : decode cX3_madeOf 21 = .ok (.iaload, 1) := dk_46 (dk_at dksX3_madeOf_0 21 rfl rfl)
theorem dX3_madeOf_22 : decode cX3_madeOf 22 = .ok (.istore 4, 2) := dk_54 4 (dk_at dksX3_madeOf_0 22 rfl rfl)
theorem dX3_madeOf_24 : decode cX3_madeOf 24 = .ok (.iload 4, 2) := dk_21 4 (dk_at dksX3_madeOf_1 0 rfl rfl)
theorem dX3_madeOf_26 : decode cX3_madeOf 26 = .ok (.ifCond .le 28, 3) := dk_158 0 28 (dk_at dksX3_madeOf_1 2 rfl rfl)
theorem dX3_madeOf_29 : decode cX3_madeOf 29 = .ok (.aload_n 0, 1) := dk_42 (dk_at dksX3_madeOf_1 5 rfl rfl)
theorem dX3_madeOf_30 : decode cX3_madeOf 30 = .ok (.getfield 25, 3) := dk_180 0 25 (dk_at dksX3_madeOf_1 6 rfl rfl)
theorem dX3_madeOf_33 : decode cX3_madeOf 33 = .ok (.iload_n 3, 1) := dk_29 (dk_at dksX3_madeOf_1 9 rfl rfl)
theorem dX3_madeOf_34 : decode cX3_madeOf 34 = .ok (.iaload, 1) := dk_46 (dk_at dksX3_madeOf_1 10 rfl rfl)
theorem dX3_madeOf_35 : decode cX3_madeOf 35 = .ok (.iload 4, 2) := dk_21 4 (dk_at dksX3_madeOf_1 11 rfl rfl)
theorem dX3_madeOf_37 : decode cX3_madeOf 37 = .ok (.idiv, 1) := dk_108 (dk_at dksX3_madeOf_1 13 rfl rfl)
theorem dX3_madeOf_38 : decode cX3_madeOf 38 = .ok (.iload_n 2, 1) := dk_28 (dk_at dksX3_madeOf_1 14 rfl rfl)
theorem dX3_madeOf_39 : decode cX3_madeOf 39 = .ok (.if_icmp .ge 15, 3) := dk_162 0 15 (dk_at dksX3_madeOf_1 15 rfl rfl)
theorem dX3_madeOf_42 : decode cX3_madeOf 42 = .ok (.aload_n 0, 1) := dk_42 (dk_at dksX3_madeOf_1 18 rfl rfl)
theorem dX3_madeOf_43 : decode cX3_madeOf 43 = .ok (.getfield 25, 3) := dk_180 0 25 (dk_at dksX3_madeOf_1 19 rfl rfl)
theorem dX3_madeOf_46 : decode cX3_madeOf 46 = .ok (.iload_n 3, 1) := dk_29 (dk_at dksX3_madeOf_1 22 rfl rfl)
theorem dX3_madeOf_47 : decode cX3_madeOf 47 = .ok (.iaload, 1) := dk_46 (dk_at dksX3_madeOf_1 23 rfl rfl)
theorem dX3_madeOf_48 : decode cX3_madeOf 48 = .ok (.iload 4, 2) := dk_21 4 (dk_at dksX3_madeOf_2 0 rfl rfl)
theorem dX3_madeOf_50 : decode cX3_madeOf 50 = .ok (.idiv, 1) := dk_108 (dk_at dksX3_madeOf_2 2 rfl rfl)
theorem dX3_madeOf_51 : decode cX3_madeOf 51 = .ok (.goto 4, 3) := dk_167 0 4 (dk_at dksX3_madeOf_2 3 rfl rfl)
theorem dX3_madeOf_54 : decode cX3_madeOf 54 = .ok (.iload_n 2, 1) := dk_28 (dk_at dksX3_madeOf_2 6 rfl rfl)
theorem dX3_madeOf_55 : decode cX3_madeOf 55 = .ok (.istore_n 2, 1) := dk_61 (dk_at dksX3_madeOf_2 7 rfl rfl)
theorem dX3_madeOf_56 : decode cX3_madeOf 56 = .ok (.iinc 3 1, 3) := dk_132 3 1 (dk_at dksX3_madeOf_2 8 rfl rfl)
theorem dX3_madeOf_59 : decode cX3_madeOf 59 = .ok (.goto (-54), 3) := dk_167 255 202 (dk_at dksX3_madeOf_2 11 rfl rfl)
theorem dX3_madeOf_62 : decode cX3_madeOf 62 = .ok (.iload_n 2, 1) := dk_28 (dk_at dksX3_madeOf_2 14 rfl rfl)
theorem dX3_madeOf_63 : decode cX3_madeOf 63 = .ok (.ireturn, 1) := dk_172 (dk_at dksX3_madeOf_2 15 rfl rfl)
abbrev cX3_inPhrases : ByteArray := prog_13_method_34_code
def yX3_inPhrases : MethodName := ⟨RX3, "inPhrases", "()I"⟩
def dkwX3_inPhrases_1 : List UInt8 := [158, 0, 9, 4, 28, 120, 167, 0, 4, 3, 128, 60, 132, 2, 1, 167, 255, 221, 27, 172]
abbrev dktX3_inPhrases_1 : List UInt8 := dkwX3_inPhrases_1 ++ []
def dkwX3_inPhrases_0 : List UInt8 := [3, 60, 3, 61, 28, 42, 180, 0, 103, 162, 0, 33, 27, 42, 42, 180, 0, 25, 28, 182, 0, 216, 9, 148]
abbrev dktX3_inPhrases_0 : List UInt8 := dkwX3_inPhrases_0 ++ dktX3_inPhrases_1
theorem dksX3_inPhrases_0 : cX3_inPhrases.data.toList.drop 0 = dktX3_inPhrases_0 := by decide +kernel
theorem dksX3_inPhrases_1 : cX3_inPhrases.data.toList.drop 24 = dktX3_inPhrases_1 := dk_seg dksX3_inPhrases_0 24 rfl rfl
theorem dX3_inPhrases_0 : decode cX3_inPhrases 0 = .ok (.iconst 0, 1) := dk_3 (dk_at dksX3_inPhrases_0 0 rfl rfl)
theorem dX3_inPhrases_1 : decode cX3_inPhrases 1 = .ok (.istore_n 1, 1) := dk_60 (dk_at dksX3_inPhrases_0 1 rfl rfl)
theorem dX3_inPhrases_2 : decode cX3_inPhrases 2 = .ok (.iconst 0, 1) := dk_3 (dk_at dksX3_inPhrases_0 2 rfl rfl)
theorem dX3_inPhrases_3 : decode cX3_inPhrases 3 = .ok (.istore_n 2, 1) := dk_61 (dk_at dksX3_inPhrases_0 3 rfl rfl)
theorem dX3_inPhrases_4 : decode cX3_inPhrases 4 = .ok (.iload_n 2, 1) := dk_28 (dk_at dksX3_inPhrases_0 4 rfl rfl)
theorem dX3_inPhrases_5 : decode cX3_inPhrases 5 = .ok (.aload_n 0, 1) := dk_42 (dk_at dksX3_inPhrases_0 5 rfl rfl)
theorem dX3_inPhrases_6 : decode cX3_inPhrases 6 = .ok (.getfield 103, 3) := dk_180 0 103 (dk_at dksX3_inPhrases_0 6 rfl rfl)
theorem dX3_inPhrases_9 : decode cX3_inPhrases 9 = .ok (.if_icmp .ge 33, 3) := dk_162 0 33 (dk_at dksX3_inPhrases_0 9 rfl rfl)
theorem dX3_inPhrases_12 : decode cX3_inPhrases 12 = .ok (.iload_n 1, 1) := dk_27 (dk_at dksX3_inPhrases_0 12 rfl rfl)
theorem dX3_inPhrases_13 : decode cX3_inPhrases 13 = .ok (.aload_n 0, 1) := dk_42 (dk_at dksX3_inPhrases_0 13 rfl rfl)
theorem dX3_inPhrases_14 : decode cX3_inPhrases 14 = .ok (.aload_n 0, 1) := dk_42 (dk_at dksX3_inPhrases_0 14 rfl rfl)
theorem dX3_inPhrases_15 : decode cX3_inPhrases 15 = .ok (.getfield 25, 3) := dk_180 0 25 (dk_at dksX3_inPhrases_0 15 rfl rfl)
theorem dX3_inPhrases_18 : decode cX3_inPhrases 18 = .ok (.iload_n 2, 1) := dk_28 (dk_at dksX3_inPhrases_0 18 rfl rfl)
theorem dX3_inPhrases_19 : decode cX3_inPhrases 19 = .ok (.invokevirtual 216, 3) := dk_182 0 216 (dk_at dksX3_inPhrases_0 19 rfl rfl)
theorem dX3_inPhrases_22 : decode cX3_inPhrases 22 = .ok (.lconst 0, 1) := dk_9 (dk_at dksX3_inPhrases_0 22 rfl rfl)
theorem dX3_inPhrases_23 : decode cX3_inPhrases 23 = .ok (.lcmp, 1) := dk_148 (dk_at dksX3_inPhrases_0 23 rfl rfl)
theorem dX3_inPhrases_24 : decode cX3_inPhrases 24 = .ok (.ifCond .le 9, 3) := dk_158 0 9 (dk_at dksX3_inPhrases_1 0 rfl rfl)
theorem dX3_inPhrases_27 : decode cX3_inPhrases 27 = .ok (.iconst 1, 1) := dk_4 (dk_at dksX3_inPhrases_1 3 rfl rfl)
theorem dX3_inPhrases_28 : decode cX3_inPhrases 28 = .ok (.iload_n 2, 1) := dk_28 (dk_at dksX3_inPhrases_1 4 rfl rfl)
theorem dX3_inPhrases_29 : decode cX3_inPhrases 29 = .ok (.ishl, 1) := dk_120 (dk_at dksX3_inPhrases_1 5 rfl rfl)
theorem dX3_inPhrases_30 : decode cX3_inPhrases 30 = .ok (.goto 4, 3) := dk_167 0 4 (dk_at dksX3_inPhrases_1 6 rfl rfl)
theorem dX3_inPhrases_33 : decode cX3_inPhrases 33 = .ok (.iconst 0, 1) := dk_3 (dk_at dksX3_inPhrases_1 9 rfl rfl)
theorem dX3_inPhrases_34 : decode cX3_inPhrases 34 = .ok (.ior, 1) := dk_128 (dk_at dksX3_inPhrases_1 10 rfl rfl)
theorem dX3_inPhrases_35 : decode cX3_inPhrases 35 = .ok (.istore_n 1, 1) := dk_60 (dk_at dksX3_inPhrases_1 11 rfl rfl)
theorem dX3_inPhrases_36 : decode cX3_inPhrases 36 = .ok (.iinc 2 1, 3) := dk_132 2 1 (dk_at dksX3_inPhrases_1 12 rfl rfl)
theorem dX3_inPhrases_39 : decode cX3_inPhrases 39 = .ok (.goto (-35), 3) := dk_167 255 221 (dk_at dksX3_inPhrases_1 15 rfl rfl)
theorem dX3_inPhrases_42 : decode cX3_inPhrases 42 = .ok (.iload_n 1, 1) := dk_27 (dk_at dksX3_inPhrases_1 18 rfl rfl)
theorem dX3_inPhrases_43 : decode cX3_inPhrases 43 = .ok (.ireturn, 1) := dk_172 (dk_at dksX3_inPhrases_1 19 rfl rfl)
abbrev cX3_withWord : ByteArray := prog_13_method_53_code
def yX3_withWord : MethodName := ⟨RX3, "withWord", "([II)J"⟩
def dkwX3_withWord_1 : List UInt8 := [33, 42, 182, 0, 208, 101, 173]
abbrev dktX3_withWord_1 : List UInt8 := dkwX3_withWord_1 ++ []
def dkwX3_withWord_0 : List UInt8 := [42, 43, 182, 1, 16, 66, 42, 89, 180, 0, 191, 4, 28, 120, 2, 130, 126, 181, 0, 191, 42, 182, 0, 205]
abbrev dktX3_withWord_0 : List UInt8 := dkwX3_withWord_0 ++ dktX3_withWord_1
theorem dksX3_withWord_0 : cX3_withWord.data.toList.drop 0 = dktX3_withWord_0 := by decide +kernel
theorem dksX3_withWord_1 : cX3_withWord.data.toList.drop 24 = dktX3_withWord_1 := dk_seg dksX3_withWord_0 24 rfl rfl
theorem dX3_withWord_0 : decode cX3_withWord 0 = .ok (.aload_n 0, 1) := dk_42 (dk_at dksX3_withWord_0 0 rfl rfl)
theorem dX3_withWord_1 : decode cX3_withWord 1 = .ok (.aload_n 1, 1) := dk_43 (dk_at dksX3_withWord_0 1 rfl rfl)
theorem dX3_withWord_2 : decode cX3_withWord 2 = .ok (.invokevirtual 272, 3) := dk_182 1 16 (dk_at dksX3_withWord_0 2 rfl rfl)
theorem dX3_withWord_5 : decode cX3_withWord 5 = .ok (.lstore_n 3, 1) := dk_66 (dk_at dksX3_withWord_0 5 rfl rfl)
theorem dX3_withWord_6 : decode cX3_withWord 6 = .ok (.aload_n 0, 1) := dk_42 (dk_at dksX3_withWord_0 6 rfl rfl)
theorem dX3_withWord_7 : decode cX3_withWord 7 = .ok (.dup, 1) := dk_89 (dk_at dksX3_withWord_0 7 rfl rfl)
theorem dX3_withWord_8 : decode cX3_withWord 8 = .ok (.getfield 191, 3) := dk_180 0 191 (dk_at dksX3_withWord_0 8 rfl rfl)
theorem dX3_withWord_11 : decode cX3_withWord 11 = .ok (.iconst 1, 1) := dk_4 (dk_at dksX3_withWord_0 11 rfl rfl)
theorem dX3_withWord_12 : decode cX3_withWord 12 = .ok (.iload_n 2, 1) := dk_28 (dk_at dksX3_withWord_0 12 rfl rfl)
theorem dX3_withWord_13 : decode cX3_withWord 13 = .ok (.ishl, 1) := dk_120 (dk_at dksX3_withWord_0 13 rfl rfl)
theorem dX3_withWord_14 : decode cX3_withWord 14 = .ok (.iconst (-1), 1) := dk_2 (dk_at dksX3_withWord_0 14 rfl rfl)
theorem dX3_withWord_15 : decode cX3_withWord 15 = .ok (.ixor, 1) := dk_130 (dk_at dksX3_withWord_0 15 rfl rfl)
theorem dX3_withWord_16 : decode cX3_withWord 16 = .ok (.iand, 1) := dk_126 (dk_at dksX3_withWord_0 16 rfl rfl)
theorem dX3_withWord_17 : decode cX3_withWord 17 = .ok (.putfield 191, 3) := dk_181 0 191 (dk_at dksX3_withWord_0 17 rfl rfl)
theorem dX3_withWord_20 : decode cX3_withWord 20 = .ok (.aload_n 0, 1) := dk_42 (dk_at dksX3_withWord_0 20 rfl rfl)
theorem dX3_withWord_21 : decode cX3_withWord 21 = .ok (.invokevirtual 205, 3) := dk_182 0 205 (dk_at dksX3_withWord_0 21 rfl rfl)
theorem dX3_withWord_24 : decode cX3_withWord 24 = .ok (.lload_n 3, 1) := dk_33 (dk_at dksX3_withWord_1 0 rfl rfl)
theorem dX3_withWord_25 : decode cX3_withWord 25 = .ok (.aload_n 0, 1) := dk_42 (dk_at dksX3_withWord_1 1 rfl rfl)
theorem dX3_withWord_26 : decode cX3_withWord 26 = .ok (.invokevirtual 208, 3) := dk_182 0 208 (dk_at dksX3_withWord_1 2 rfl rfl)
theorem dX3_withWord_29 : decode cX3_withWord 29 = .ok (.lsub, 1) := dk_101 (dk_at dksX3_withWord_1 5 rfl rfl)
theorem dX3_withWord_30 : decode cX3_withWord 30 = .ok (.lreturn, 1) := dk_173 (dk_at dksX3_withWord_1 6 rfl rfl)
abbrev cX3_manyOf : ByteArray := prog_13_method_31_code
def yX3_manyOf : MethodName := ⟨RX3, "manyOf", "([I)J"⟩
def dkwX3_manyOf_0 : List UInt8 := [42, 43, 182, 0, 202, 42, 182, 0, 205, 42, 182, 0, 208, 173]
abbrev dktX3_manyOf_0 : List UInt8 := dkwX3_manyOf_0 ++ []
theorem dksX3_manyOf_0 : cX3_manyOf.data.toList.drop 0 = dktX3_manyOf_0 := by decide +kernel
theorem dX3_manyOf_0 : decode cX3_manyOf 0 = .ok (.aload_n 0, 1) := dk_42 (dk_at dksX3_manyOf_0 0 rfl rfl)
theorem dX3_manyOf_1 : decode cX3_manyOf 1 = .ok (.aload_n 1, 1) := dk_43 (dk_at dksX3_manyOf_0 1 rfl rfl)
theorem dX3_manyOf_2 : decode cX3_manyOf 2 = .ok (.invokevirtual 202, 3) := dk_182 0 202 (dk_at dksX3_manyOf_0 2 rfl rfl)
theorem dX3_manyOf_5 : decode cX3_manyOf 5 = .ok (.aload_n 0, 1) := dk_42 (dk_at dksX3_manyOf_0 5 rfl rfl)
theorem dX3_manyOf_6 : decode cX3_manyOf 6 = .ok (.invokevirtual 205, 3) := dk_182 0 205 (dk_at dksX3_manyOf_0 6 rfl rfl)
theorem dX3_manyOf_9 : decode cX3_manyOf 9 = .ok (.aload_n 0, 1) := dk_42 (dk_at dksX3_manyOf_0 9 rfl rfl)
theorem dX3_manyOf_10 : decode cX3_manyOf 10 = .ok (.invokevirtual 208, 3) := dk_182 0 208 (dk_at dksX3_manyOf_0 10 rfl rfl)
theorem dX3_manyOf_13 : decode cX3_manyOf 13 = .ok (.lreturn, 1) := dk_173 (dk_at dksX3_manyOf_0 13 rfl rfl)
abbrev cX3_layWays : ByteArray := prog_13_method_29_code
def yX3_layWays : MethodName := ⟨RX3, "layWays", "()V"⟩
def dkwX3_layWays_3 : List UInt8 := [104, 28, 96, 33, 80, 132, 2, 1, 167, 255, 188, 132, 1, 1, 167, 255, 172, 177]
abbrev dktX3_layWays_3 : List UInt8 := dkwX3_layWays_3 ++ []
def dkwX3_layWays_2 : List UInt8 := [27, 21, 5, 182, 0, 198, 167, 0, 4, 9, 97, 66, 132, 5, 1, 167, 255, 215, 42, 180, 0, 74, 8, 27]
abbrev dktX3_layWays_2 : List UInt8 := dkwX3_layWays_2 ++ dktX3_layWays_3
def dkwX3_layWays_1 : List UInt8 := [42, 180, 0, 103, 162, 0, 38, 33, 42, 27, 28, 21, 5, 182, 0, 194, 153, 0, 17, 42, 42, 180, 0, 74]
abbrev dktX3_layWays_1 : List UInt8 := dkwX3_layWays_1 ++ dktX3_layWays_2
def dkwX3_layWays_0 : List UInt8 := [3, 60, 27, 42, 180, 0, 188, 163, 0, 82, 3, 61, 28, 7, 163, 0, 69, 9, 66, 3, 54, 5, 21, 5]
abbrev dktX3_layWays_0 : List UInt8 := dkwX3_layWays_0 ++ dktX3_layWays_1
theorem dksX3_layWays_0 : cX3_layWays.data.toList.drop 0 = dktX3_layWays_0 := by decide +kernel
theorem dksX3_layWays_1 : cX3_layWays.data.toList.drop 24 = dktX3_layWays_1 := dk_seg dksX3_layWays_0 24 rfl rfl
theorem dksX3_layWays_2 : cX3_layWays.data.toList.drop 48 = dktX3_layWays_2 := dk_seg dksX3_layWays_1 24 rfl rfl
theorem dksX3_layWays_3 : cX3_layWays.data.toList.drop 72 = dktX3_layWays_3 := dk_seg dksX3_layWays_2 24 rfl rfl
theorem dX3_layWays_0 : decode cX3_layWays 0 = .ok (.iconst 0, 1) := dk_3 (dk_at dksX3_layWays_0 0 rfl rfl)
theorem dX3_layWays_1 : decode cX3_layWays 1 = .ok (.istore_n 1, 1) := dk_60 (dk_at dksX3_layWays_0 1 rfl rfl)
theorem dX3_layWays_2 : decode cX3_layWays 2 = .ok (.iload_n 1, 1) := dk_27 (dk_at dksX3_layWays_0 2 rfl rfl)
theorem dX3_layWays_3 : decode cX3_layWays 3 = .ok (.aload_n 0, 1) := dk_42 (dk_at dksX3_layWays_0 3 rfl rfl)
theorem dX3_layWays_4 : decode cX3_layWays 4 = .ok (.getfield 188, 3) := dk_180 0 188 (dk_at dksX3_layWays_0 4 rfl rfl)
theorem dX3_layWays_7 : decode cX3_layWays 7 = .ok (.if_icmp .gt 82, 3) := dk_163 0 82 (dk_at dksX3_layWays_0 7 rfl rfl)
theorem dX3_layWays_10 : decode cX3_layWays 10 = .ok (.iconst 0, 1) := dk_3 (dk_at dksX3_layWays_0 10 rfl rfl)
theorem dX3_layWays_11 : decode cX3_layWays 11 = .ok (.istore_n 2, 1) := dk_61 (dk_at dksX3_layWays_0 11 rfl rfl)
theorem dX3_layWays_12 : decode cX3_layWays 12 = .ok (.iload_n 2, 1) := dk_28 (dk_at dksX3_layWays_0 12 rfl rfl)
theorem dX3_layWays_13 : decode cX3_layWays 13 = .ok (.iconst 4, 1) := dk_7 (dk_at dksX3_layWays_0 13 rfl rfl)
theorem dX3_layWays_14 : decode cX3_layWays 14 = .ok (.if_icmp .gt 69, 3) := dk_163 0 69 (dk_at dksX3_layWays_0 14 rfl rfl)
theorem dX3_layWays_17 : decode cX3_layWays 17 = .ok (.lconst 0, 1) := dk_9 (dk_at dksX3_layWays_0 17 rfl rfl)
theorem dX3_layWays_18 : decode cX3_layWays 18 = .ok (.lstore_n 3, 1) := dk_66 (dk_at dksX3_layWays_0 18 rfl rfl)
theorem dX3_layWays_19 : decode cX3_layWays 19 = .ok (.iconst 0, 1) := dk_3 (dk_at dksX3_layWays_0 19 rfl rfl)
theorem dX3_layWays_20 : decode cX3_layWays 20 = .ok (.istore 5, 2) := dk_54 5 (dk_at dksX3_layWays_0 20 rfl rfl)
theorem dX3_layWays_22 : decode cX3_layWays 22 = .ok (.iload 5, 2) := dk_21 5 (dk_at dksX3_layWays_0 22 rfl rfl)
theorem dX3_layWays_24 : decode cX3_layWays 24 = .ok (.aload_n 0, 1) := dk_42 (dk_at dksX3_layWays_1 0 rfl rfl)
theorem dX3_layWays_25 : decode cX3_layWays 25 = .ok (.getfield 103, 3) := dk_180 0 103 (dk_at dksX3_layWays_1 1 rfl rfl)
theorem dX3_layWays_28 : decode cX3_layWays 28 = .ok (.if_icmp .ge 38, 3) := dk_162 0 38 (dk_at dksX3_layWays_1 4 rfl rfl)
theorem dX3_layWays_31 : decode cX3_layWays 31 = .ok (.lload_n 3, 1) := dk_33 (dk_at dksX3_layWays_1 7 rfl rfl)
theorem dX3_layWays_32 : decode cX3_layWays 32 = .ok (.aload_n 0, 1) := dk_42 (dk_at dksX3_layWays_1 8 rfl rfl)
theorem dX3_layWays_33 : decode cX3_layWays 33 = .ok (.iload_n 1, 1) := dk_27 (dk_at dksX3_layWays_1 9 rfl rfl)
theorem dX3_layWays_34 : decode cX3_layWays 34 = .ok (.iload_n 2, 1) := dk_28 (dk_at dksX3_layWays_1 10 rfl rfl)
theorem dX3_layWays_35 : decode cX3_layWays 35 = .ok (.iload 5, 2) := dk_21 5 (dk_at dksX3_layWays_1 11 rfl rfl)
theorem dX3_layWays_37 : decode cX3_layWays 37 = .ok (.invokevirtual 194, 3) := dk_182 0 194 (dk_at dksX3_layWays_1 13 rfl rfl)
theorem dX3_layWays_40 : decode cX3_layWays 40 = .ok (.ifCond .eq 17, 3) := dk_153 0 17 (dk_at dksX3_layWays_1 16 rfl rfl)
theorem dX3_layWays_43 : decode cX3_layWays 43 = .ok (.aload_n 0, 1) := dk_42 (dk_at dksX3_layWays_1 19 rfl rfl)
theorem dX3_layWays_44 : decode cX3_layWays 44 = .ok (.aload_n 0, 1) := dk_42 (dk_at dksX3_layWays_1 20 rfl rfl)
theorem dX3_layWays_45 : decode cX3_layWays 45 = .ok (.getfield 74, 3) := dk_180 0 74 (dk_at dksX3_layWays_1 21 rfl rfl)
theorem dX3_layWays_48 : decode cX3_layWays 48 = .ok (.iload_n 1, 1) := dk_27 (dk_at dksX3_layWays_2 0 rfl rfl)
theorem dX3_layWays_49 : decode cX3_layWays 49 = .ok (.iload 5, 2) := dk_21 5 (dk_at dksX3_layWays_2 1 rfl rfl)
theorem dX3_layWays_51 : decode cX3_layWays 51 = .ok (.invokevirtual 198, 3) := dk_182 0 198 (dk_at dksX3_layWays_2 3 rfl rfl)
theorem dX3_layWays_54 : decode cX3_layWays 54 = .ok (.goto 4, 3) := dk_167 0 4 (dk_at dksX3_layWays_2 6 rfl rfl)
theorem dX3_layWays_57 : decode cX3_layWays 57 = .ok (.lconst 0, 1) := dk_9 (dk_at dksX3_layWays_2 9 rfl rfl)
theorem dX3_layWays_58 : decode cX3_layWays 58 = .ok (.ladd, 1) := dk_97 (dk_at dksX3_layWays_2 10 rfl rfl)
theorem dX3_layWays_59 : decode cX3_layWays 59 = .ok (.lstore_n 3, 1) := dk_66 (dk_at dksX3_layWays_2 11 rfl rfl)
theorem dX3_layWays_60 : decode cX3_layWays 60 = .ok (.iinc 5 1, 3) := dk_132 5 1 (dk_at dksX3_layWays_2 12 rfl rfl)
theorem dX3_layWays_63 : decode cX3_layWays 63 = .ok (.goto (-41), 3) := dk_167 255 215 (dk_at dksX3_layWays_2 15 rfl rfl)
theorem dX3_layWays_66 : decode cX3_layWays 66 = .ok (.aload_n 0, 1) := dk_42 (dk_at dksX3_layWays_2 18 rfl rfl)
theorem dX3_layWays_67 : decode cX3_layWays 67 = .ok (.getfield 74, 3) := dk_180 0 74 (dk_at dksX3_layWays_2 19 rfl rfl)
theorem dX3_layWays_70 : decode cX3_layWays 70 = .ok (.iconst 5, 1) := dk_8 (dk_at dksX3_layWays_2 22 rfl rfl)
theorem dX3_layWays_71 : decode cX3_layWays 71 = .ok (.iload_n 1, 1) := dk_27 (dk_at dksX3_layWays_2 23 rfl rfl)
theorem dX3_layWays_72 : decode cX3_layWays 72 = .ok (.imul, 1) := dk_104 (dk_at dksX3_layWays_3 0 rfl rfl)
theorem dX3_layWays_73 : decode cX3_layWays 73 = .ok (.iload_n 2, 1) := dk_28 (dk_at dksX3_layWays_3 1 rfl rfl)
theorem dX3_layWays_74 : decode cX3_layWays 74 = .ok (.iadd, 1) := dk_96 (dk_at dksX3_layWays_3 2 rfl rfl)
theorem dX3_layWays_75 : decode cX3_layWays 75 = .ok (.lload_n 3, 1) := dk_33 (dk_at dksX3_layWays_3 3 rfl rfl)
theorem dX3_layWays_76 : decode cX3_layWays 76 = .ok (.lastore, 1) := dk_80 (dk_at dksX3_layWays_3 4 rfl rfl)
theorem dX3_layWays_77 : decode cX3_layWays 77 = .ok (.iinc 2 1, 3) := dk_132 2 1 (dk_at dksX3_layWays_3 5 rfl rfl)
theorem dX3_layWays_80 : decode cX3_layWays 80 = .ok (.goto (-68), 3) := dk_167 255 188 (dk_at dksX3_layWays_3 8 rfl rfl)
theorem dX3_layWays_83 : decode cX3_layWays 83 = .ok (.iinc 1 1, 3) := dk_132 1 1 (dk_at dksX3_layWays_3 11 rfl rfl)
theorem dX3_layWays_86 : decode cX3_layWays 86 = .ok (.goto (-84), 3) := dk_167 255 172 (dk_at dksX3_layWays_3 14 rfl rfl)
theorem dX3_layWays_89 : decode cX3_layWays 89 = .ok (.return_, 1) := dk_177 (dk_at dksX3_layWays_3 17 rfl rfl)
abbrev cX3_mayCome : ByteArray := prog_13_method_27_code
def yX3_mayCome : MethodName := ⟨RX3, "mayCome", "(III)Z"⟩
def dkwX3_mayCome_2 : List UInt8 := [153, 0, 21, 42, 180, 0, 87, 16, 10, 27, 104, 29, 96, 51, 153, 0, 7, 4, 167, 0, 4, 3, 172]
abbrev dktX3_mayCome_2 : List UInt8 := dkwX3_mayCome_2 ++ []
def dkwX3_mayCome_1 : List UInt8 := [42, 180, 0, 19, 29, 46, 184, 0, 149, 54, 4, 21, 4, 153, 0, 32, 42, 180, 0, 191, 29, 184, 0, 149]
abbrev dktX3_mayCome_1 : List UInt8 := dkwX3_mayCome_1 ++ dktX3_mayCome_2
def dkwX3_mayCome_0 : List UInt8 := [28, 7, 160, 0, 13, 42, 180, 0, 65, 16, 19, 46, 167, 0, 12, 42, 180, 0, 65, 16, 21, 28, 96, 46]
abbrev dktX3_mayCome_0 : List UInt8 := dkwX3_mayCome_0 ++ dktX3_mayCome_1
theorem dksX3_mayCome_0 : cX3_mayCome.data.toList.drop 0 = dktX3_mayCome_0 := by decide +kernel
theorem dksX3_mayCome_1 : cX3_mayCome.data.toList.drop 24 = dktX3_mayCome_1 := dk_seg dksX3_mayCome_0 24 rfl rfl
theorem dksX3_mayCome_2 : cX3_mayCome.data.toList.drop 48 = dktX3_mayCome_2 := dk_seg dksX3_mayCome_1 24 rfl rfl
theorem dX3_mayCome_0 : decode cX3_mayCome 0 = .ok (.iload_n 2, 1) := dk_28 (dk_at dksX3_mayCome_0 0 rfl rfl)
theorem dX3_mayCome_1 : decode cX3_mayCome 1 = .ok (.iconst 4, 1) := dk_7 (dk_at dksX3_mayCome_0 1 rfl rfl)
theorem dX3_mayCome_2 : decode cX3_mayCome 2 = .ok (.if_icmp .ne 13, 3) := dk_160 0 13 (dk_at dksX3_mayCome_0 2 rfl rfl)
theorem dX3_mayCome_5 : decode cX3_mayCome 5 = .ok (.aload_n 0, 1) := dk_42 (dk_at dksX3_mayCome_0 5 rfl rfl)
theorem dX3_mayCome_6 : decode cX3_mayCome 6 = .ok (.getfield 65, 3) := dk_180 0 65 (dk_at dksX3_mayCome_0 6 rfl rfl)
theorem dX3_mayCome_9 : decode cX3_mayCome 9 = .ok (.bipush 19, 2) := dk_16 19 (dk_at dksX3_mayCome_0 9 rfl rfl)
theorem dX3_mayCome_11 : decode cX3_mayCome 11 = .ok (.iaload, 1) := dk_46 (dk_at dksX3_mayCome_0 11 rfl rfl)
theorem dX3_mayCome_12 : decode cX3_mayCome 12 = .ok (.goto 12, 3) := dk_167 0 12 (dk_at dksX3_mayCome_0 12 rfl rfl)
theorem dX3_mayCome_15 : decode cX3_mayCome 15 = .ok (.aload_n 0, 1) := dk_42 (dk_at dksX3_mayCome_0 15 rfl rfl)
theorem dX3_mayCome_16 : decode cX3_mayCome 16 = .ok (.getfield 65, 3) := dk_180 0 65 (dk_at dksX3_mayCome_0 16 rfl rfl)
theorem dX3_mayCome_19 : decode cX3_mayCome 19 = .ok (.bipush 21, 2) := dk_16 21 (dk_at dksX3_mayCome_0 19 rfl rfl)
theorem dX3_mayCome_21 : decode cX3_mayCome 21 = .ok (.iload_n 2, 1) := dk_28 (dk_at dksX3_mayCome_0 21 rfl rfl)
theorem dX3_mayCome_22 : decode cX3_mayCome 22 = .ok (.iadd, 1) := dk_96 (dk_at dksX3_mayCome_0 22 rfl rfl)
theorem dX3_mayCome_23 : decode cX3_mayCome 23 = .ok (.iaload, 1) := dk_46 (dk_at dksX3_mayCome_0 23 rfl rfl)
theorem dX3_mayCome_24 : decode cX3_mayCome 24 = .ok (.aload_n 0, 1) := dk_42 (dk_at dksX3_mayCome_1 0 rfl rfl)
theorem dX3_mayCome_25 : decode cX3_mayCome 25 = .ok (.getfield 19, 3) := dk_180 0 19 (dk_at dksX3_mayCome_1 1 rfl rfl)
theorem dX3_mayCome_28 : decode cX3_mayCome 28 = .ok (.iload_n 3, 1) := dk_29 (dk_at dksX3_mayCome_1 4 rfl rfl)
theorem dX3_mayCome_29 : decode cX3_mayCome 29 = .ok (.iaload, 1) := dk_46 (dk_at dksX3_mayCome_1 5 rfl rfl)
theorem dX3_mayCome_30 : decode cX3_mayCome 30 = .ok (.invokestatic 149, 3) := dk_184 0 149 (dk_at dksX3_mayCome_1 6 rfl rfl)
theorem dX3_mayCome_33 : decode cX3_mayCome 33 = .ok (.istore 4, 2) := dk_54 4 (dk_at dksX3_mayCome_1 9 rfl rfl)
theorem dX3_mayCome_35 : decode cX3_mayCome 35 = .ok (.iload 4, 2) := dk_21 4 (dk_at dksX3_mayCome_1 11 rfl rfl)
theorem dX3_mayCome_37 : decode cX3_mayCome 37 = .ok (.ifCond .eq 32, 3) := dk_153 0 32 (dk_at dksX3_mayCome_1 13 rfl rfl)
theorem dX3_mayCome_40 : decode cX3_mayCome 40 = .ok (.aload_n 0, 1) := dk_42 (dk_at dksX3_mayCome_1 16 rfl rfl)
theorem dX3_mayCome_41 : decode cX3_mayCome 41 = .ok (.getfield 191, 3) := dk_180 0 191 (dk_at dksX3_mayCome_1 17 rfl rfl)
theorem dX3_mayCome_44 : decode cX3_mayCome 44 = .ok (.iload_n 3, 1) := dk_29 (dk_at dksX3_mayCome_1 20 rfl rfl)
theorem dX3_mayCome_45 : decode cX3_mayCome 45 = .ok (.invokestatic 149, 3) := dk_184 0 149 (dk_at dksX3_mayCome_1 21 rfl rfl)
theorem dX3_mayCome_48 : decode cX3_mayCome 48 = .ok (.ifCond .eq 21, 3) := dk_153 0 21 (dk_at dksX3_mayCome_2 0 rfl rfl)
theorem dX3_mayCome_51 : decode cX3_mayCome 51 = .ok (.aload_n 0, 1) := dk_42 (dk_at dksX3_mayCome_2 3 rfl rfl)
theorem dX3_mayCome_52 : decode cX3_mayCome 52 = .ok (.getfield 87, 3) := dk_180 0 87 (dk_at dksX3_mayCome_2 4 rfl rfl)
theorem dX3_mayCome_55 : decode cX3_mayCome 55 = .ok (.bipush 10, 2) := dk_16 10 (dk_at dksX3_mayCome_2 7 rfl rfl)
theorem dX3_mayCome_57 : decode cX3_mayCome 57 = .ok (.iload_n 1, 1) := dk_27 (dk_at dksX3_mayCome_2 9 rfl rfl)
theorem dX3_mayCome_58 : decode cX3_mayCome 58 = .ok (.imul, 1) := dk_104 (dk_at dksX3_mayCome_2 10 rfl rfl)
theorem dX3_mayCome_59 : decode cX3_mayCome 59 = .ok (.iload_n 3, 1) := dk_29 (dk_at dksX3_mayCome_2 11 rfl rfl)
theorem dX3_mayCome_60 : decode cX3_mayCome 60 = .ok (.iadd, 1) := dk_96 (dk_at dksX3_mayCome_2 12 rfl rfl)
theorem dX3_mayCome_61 : decode cX3_mayCome 61 = .ok (.baload, 1) := dk_51 (dk_at dksX3_mayCome_2 13 rfl rfl)
theorem dX3_mayCome_62 : decode cX3_mayCome 62 = .ok (.ifCond .eq 7, 3) := dk_153 0 7 (dk_at dksX3_mayCome_2 14 rfl rfl)
theorem dX3_mayCome_65 : decode cX3_mayCome 65 = .ok (.iconst 1, 1) := dk_4 (dk_at dksX3_mayCome_2 17 rfl rfl)
theorem dX3_mayCome_66 : decode cX3_mayCome 66 = .ok (.goto 4, 3) := dk_167 0 4 (dk_at dksX3_mayCome_2 18 rfl rfl)
theorem dX3_mayCome_69 : decode cX3_mayCome 69 = .ok (.iconst 0, 1) := dk_3 (dk_at dksX3_mayCome_2 21 rfl rfl)
theorem dX3_mayCome_70 : decode cX3_mayCome 70 = .ok (.ireturn, 1) := dk_172 (dk_at dksX3_mayCome_2 22 rfl rfl)
abbrev cX3_endsAs : ByteArray := prog_13_method_28_code
def yX3_endsAs : MethodName := ⟨RX3, "endsAs", "([JII)J"⟩
def dkwX3_endsAs_2 : List UInt8 := [153, 0, 7, 10, 167, 0, 4, 9, 173]
abbrev dktX3_endsAs_2 : List UInt8 := dkwX3_endsAs_2 ++ []
def dkwX3_endsAs_1 : List UInt8 := [29, 46, 96, 47, 167, 0, 27, 42, 180, 0, 65, 16, 20, 46, 42, 180, 0, 19, 29, 46, 184, 0, 149]
abbrev dktX3_endsAs_1 : List UInt8 := dkwX3_endsAs_1 ++ dktX3_endsAs_2
def dkwX3_endsAs_0 : List UInt8 := [28, 42, 180, 0, 71, 29, 46, 100, 54, 4, 21, 4, 158, 0, 19, 43, 8, 21, 4, 104, 42, 180, 0, 19]
abbrev dktX3_endsAs_0 : List UInt8 := dkwX3_endsAs_0 ++ dktX3_endsAs_1
theorem dksX3_endsAs_0 : cX3_endsAs.data.toList.drop 0 = dktX3_endsAs_0 := by decide +kernel
theorem dksX3_endsAs_1 : cX3_endsAs.data.toList.drop 24 = dktX3_endsAs_1 := dk_seg dksX3_endsAs_0 24 rfl rfl
theorem dksX3_endsAs_2 : cX3_endsAs.data.toList.drop 47 = dktX3_endsAs_2 := dk_seg dksX3_endsAs_1 23 rfl rfl
theorem dX3_endsAs_0 : decode cX3_endsAs 0 = .ok (.iload_n 2, 1) := dk_28 (dk_at dksX3_endsAs_0 0 rfl rfl)
theorem dX3_endsAs_1 : decode cX3_endsAs 1 = .ok (.aload_n 0, 1) := dk_42 (dk_at dksX3_endsAs_0 1 rfl rfl)
theorem dX3_endsAs_2 : decode cX3_endsAs 2 = .ok (.getfield 71, 3) := dk_180 0 71 (dk_at dksX3_endsAs_0 2 rfl rfl)
theorem dX3_endsAs_5 : decode cX3_endsAs 5 = .ok (.iload_n 3, 1) := dk_29 (dk_at dksX3_endsAs_0 5 rfl rfl)
theorem dX3_endsAs_6 : decode cX3_endsAs 6 = .ok (.iaload, 1) := dk_46 (dk_at dksX3_endsAs_0 6 rfl rfl)
theorem dX3_endsAs_7 : decode cX3_endsAs 7 = .ok (.isub, 1) := dk_100 (dk_at dksX3_endsAs_0 7 rfl rfl)
theorem dX3_endsAs_8 : decode cX3_endsAs 8 = .ok (.istore 4, 2) := dk_54 4 (dk_at dksX3_endsAs_0 8 rfl rfl)
theorem dX3_endsAs_10 : decode cX3_endsAs 10 = .ok (.iload 4, 2) := dk_21 4 (dk_at dksX3_endsAs_0 10 rfl rfl)
theorem dX3_endsAs_12 : decode cX3_endsAs 12 = .ok (.ifCond .le 19, 3) := dk_158 0 19 (dk_at dksX3_endsAs_0 12 rfl rfl)
theorem dX3_endsAs_15 : decode cX3_endsAs 15 = .ok (.aload_n 1, 1) := dk_43 (dk_at dksX3_endsAs_0 15 rfl rfl)
theorem dX3_endsAs_16 : decode cX3_endsAs 16 = .ok (.iconst 5, 1) := dk_8 (dk_at dksX3_endsAs_0 16 rfl rfl)
theorem dX3_endsAs_17 : decode cX3_endsAs 17 = .ok (.iload 4, 2) := dk_21 4 (dk_at dksX3_endsAs_0 17 rfl rfl)
theorem dX3_endsAs_19 : decode cX3_endsAs 19 = .ok (.imul, 1) := dk_104 (dk_at dksX3_endsAs_0 19 rfl rfl)
theorem dX3_endsAs_20 : decode cX3_endsAs 20 = .ok (.aload_n 0, 1) := dk_42 (dk_at dksX3_endsAs_0 20 rfl rfl)
theorem dX3_endsAs_21 : decode cX3_endsAs 21 = .ok (.getfield 19, 3) := dk_180 0 19 (dk_at dksX3_endsAs_0 21 rfl rfl)
theorem dX3_endsAs_24 : decode cX3_endsAs 24 = .ok (.iload_n 3, 1) := dk_29 (dk_at dksX3_endsAs_1 0 rfl rfl)
theorem dX3_endsAs_25 : decode cX3_endsAs 25 = .ok (.iaload, 1) := dk_46 (dk_at dksX3_endsAs_1 1 rfl rfl)
theorem dX3_endsAs_26 : decode cX3_endsAs 26 = .ok (.iadd, 1) := dk_96 (dk_at dksX3_endsAs_1 2 rfl rfl)
theorem dX3_endsAs_27 : decode cX3_endsAs 27 = .ok (.laload, 1) := dk_47 (dk_at dksX3_endsAs_1 3 rfl rfl)
theorem dX3_endsAs_28 : decode cX3_endsAs 28 = .ok (.goto 27, 3) := dk_167 0 27 (dk_at dksX3_endsAs_1 4 rfl rfl)
theorem dX3_endsAs_31 : decode cX3_endsAs 31 = .ok (.aload_n 0, 1) := dk_42 (dk_at dksX3_endsAs_1 7 rfl rfl)
theorem dX3_endsAs_32 : decode cX3_endsAs 32 = .ok (.getfield 65, 3) := dk_180 0 65 (dk_at dksX3_endsAs_1 8 rfl rfl)
theorem dX3_endsAs_35 : decode cX3_endsAs 35 = .ok (.bipush 20, 2) := dk_16 20 (dk_at dksX3_endsAs_1 11 rfl rfl)
theorem dX3_endsAs_37 : decode cX3_endsAs 37 = .ok (.iaload, 1) := dk_46 (dk_at dksX3_endsAs_1 13 rfl rfl)
theorem dX3_endsAs_38 : decode cX3_endsAs 38 = .ok (.aload_n 0, 1) := dk_42 (dk_at dksX3_endsAs_1 14 rfl rfl)
theorem dX3_endsAs_39 : decode cX3_endsAs 39 = .ok (.getfield 19, 3) := dk_180 0 19 (dk_at dksX3_endsAs_1 15 rfl rfl)
theorem dX3_endsAs_42 : decode cX3_endsAs 42 = .ok (.iload_n 3, 1) := dk_29 (dk_at dksX3_endsAs_1 18 rfl rfl)
theorem dX3_endsAs_43 : decode cX3_endsAs 43 = .ok (.iaload, 1) := dk_46 (dk_at dksX3_endsAs_1 19 rfl rfl)
theorem dX3_endsAs_44 : decode cX3_endsAs 44 = .ok (.invokestatic 149, 3) := dk_184 0 149 (dk_at dksX3_endsAs_1 20 rfl rfl)
theorem dX3_endsAs_47 : decode cX3_endsAs 47 = .ok (.ifCond .eq 7, 3) := dk_153 0 7 (dk_at dksX3_endsAs_2 0 rfl rfl)
theorem dX3_endsAs_50 : decode cX3_endsAs 50 = .ok (.lconst 1, 1) := dk_10 (dk_at dksX3_endsAs_2 3 rfl rfl)
theorem dX3_endsAs_51 : decode cX3_endsAs 51 = .ok (.goto 4, 3) := dk_167 0 4 (dk_at dksX3_endsAs_2 4 rfl rfl)
theorem dX3_endsAs_54 : decode cX3_endsAs 54 = .ok (.lconst 0, 1) := dk_9 (dk_at dksX3_endsAs_2 7 rfl rfl)
theorem dX3_endsAs_55 : decode cX3_endsAs 55 = .ok (.lreturn, 1) := dk_173 (dk_at dksX3_endsAs_2 8 rfl rfl)
abbrev cX3_all : ByteArray := prog_13_method_30_code
def yX3_all : MethodName := ⟨RX3, "all", "()J"⟩
def dkwX3_all_0 : List UInt8 := [42, 180, 0, 74, 8, 42, 180, 0, 188, 104, 7, 96, 47, 173]
abbrev dktX3_all_0 : List UInt8 := dkwX3_all_0 ++ []
theorem dksX3_all_0 : cX3_all.data.toList.drop 0 = dktX3_all_0 := by decide +kernel
theorem dX3_all_0 : decode cX3_all 0 = .ok (.aload_n 0, 1) := dk_42 (dk_at dksX3_all_0 0 rfl rfl)
theorem dX3_all_1 : decode cX3_all 1 = .ok (.getfield 74, 3) := dk_180 0 74 (dk_at dksX3_all_0 1 rfl rfl)
theorem dX3_all_4 : decode cX3_all 4 = .ok (.iconst 5, 1) := dk_8 (dk_at dksX3_all_0 4 rfl rfl)
theorem dX3_all_5 : decode cX3_all 5 = .ok (.aload_n 0, 1) := dk_42 (dk_at dksX3_all_0 5 rfl rfl)
theorem dX3_all_6 : decode cX3_all 6 = .ok (.getfield 188, 3) := dk_180 0 188 (dk_at dksX3_all_0 6 rfl rfl)
theorem dX3_all_9 : decode cX3_all 9 = .ok (.imul, 1) := dk_104 (dk_at dksX3_all_0 9 rfl rfl)
theorem dX3_all_10 : decode cX3_all 10 = .ok (.iconst 4, 1) := dk_7 (dk_at dksX3_all_0 10 rfl rfl)
theorem dX3_all_11 : decode cX3_all 11 = .ok (.iadd, 1) := dk_96 (dk_at dksX3_all_0 11 rfl rfl)
theorem dX3_all_12 : decode cX3_all 12 = .ok (.laload, 1) := dk_47 (dk_at dksX3_all_0 12 rfl rfl)
theorem dX3_all_13 : decode cX3_all 13 = .ok (.lreturn, 1) := dk_173 (dk_at dksX3_all_0 13 rfl rfl)
abbrev cX3_few : ByteArray := prog_13_method_33_code
def yX3_few : MethodName := ⟨RX3, "few", "(Z)I"⟩
def dkwX3_few_1 : List UInt8 := [28, 16, 247, 160, 0, 7, 29, 167, 0, 4, 28, 61, 132, 3, 255, 167, 255, 223, 28, 172]
abbrev dktX3_few_1 : List UInt8 := dkwX3_few_1 ++ []
def dkwX3_few_0 : List UInt8 := [16, 247, 61, 16, 12, 62, 29, 158, 0, 35, 42, 29, 182, 0, 212, 9, 148, 158, 0, 17, 27, 153, 0, 9]
abbrev dktX3_few_0 : List UInt8 := dkwX3_few_0 ++ dktX3_few_1
theorem dksX3_few_0 : cX3_few.data.toList.drop 0 = dktX3_few_0 := by decide +kernel
theorem dksX3_few_1 : cX3_few.data.toList.drop 24 = dktX3_few_1 := dk_seg dksX3_few_0 24 rfl rfl
theorem dX3_few_0 : decode cX3_few 0 = .ok (.bipush (-9), 2) := dk_16 247 (dk_at dksX3_few_0 0 rfl rfl)
theorem dX3_few_2 : decode cX3_few 2 = .ok (.istore_n 2, 1) := dk_61 (dk_at dksX3_few_0 2 rfl rfl)
theorem dX3_few_3 : decode cX3_few 3 = .ok (.bipush 12, 2) := dk_16 12 (dk_at dksX3_few_0 3 rfl rfl)
theorem dX3_few_5 : decode cX3_few 5 = .ok (.istore_n 3, 1) := dk_62 (dk_at dksX3_few_0 5 rfl rfl)
theorem dX3_few_6 : decode cX3_few 6 = .ok (.iload_n 3, 1) := dk_29 (dk_at dksX3_few_0 6 rfl rfl)
theorem dX3_few_7 : decode cX3_few 7 = .ok (.ifCond .le 35, 3) := dk_158 0 35 (dk_at dksX3_few_0 7 rfl rfl)
theorem dX3_few_10 : decode cX3_few 10 = .ok (.aload_n 0, 1) := dk_42 (dk_at dksX3_few_0 10 rfl rfl)
theorem dX3_few_11 : decode cX3_few 11 = .ok (.iload_n 3, 1) := dk_29 (dk_at dksX3_few_0 11 rfl rfl)
theorem dX3_few_12 : decode cX3_few 12 = .ok (.invokevirtual 212, 3) := dk_182 0 212 (dk_at dksX3_few_0 12 rfl rfl)
theorem dX3_few_15 : decode cX3_few 15 = .ok (.lconst 0, 1) := dk_9 (dk_at dksX3_few_0 15 rfl rfl)
theorem dX3_few_16 : decode cX3_few 16 = .ok (.lcmp, 1) := dk_148 (dk_at dksX3_few_0 16 rfl rfl)
theorem dX3_few_17 : decode cX3_few 17 = .ok (.ifCond .le 17, 3) := dk_158 0 17 (dk_at dksX3_few_0 17 rfl rfl)
theorem dX3_few_20 : decode cX3_few 20 = .ok (.iload_n 1, 1) := dk_27 (dk_at dksX3_few_0 20 rfl rfl)
theorem dX3_few_21 : decode cX3_few 21 = .ok (.ifCond .eq 9, 3) := dk_153 0 9 (dk_at dksX3_few_0 21 rfl rfl)
theorem dX3_few_24 : decode cX3_few 24 = .ok (.iload_n 2, 1) := dk_28 (dk_at dksX3_few_1 0 rfl rfl)
theorem dX3_few_25 : decode cX3_few 25 = .ok (.bipush (-9), 2) := dk_16 247 (dk_at dksX3_few_1 1 rfl rfl)
theorem dX3_few_27 : decode cX3_few 27 = .ok (.if_icmp .ne 7, 3) := dk_160 0 7 (dk_at dksX3_few_1 3 rfl rfl)
theorem dX3_few_30 : decode cX3_few 30 = .ok (.iload_n 3, 1) := dk_29 (dk_at dksX3_few_1 6 rfl rfl)
theorem dX3_few_31 : decode cX3_few 31 = .ok (.goto 4, 3) := dk_167 0 4 (dk_at dksX3_few_1 7 rfl rfl)
theorem dX3_few_34 : decode cX3_few 34 = .ok (.iload_n 2, 1) := dk_28 (dk_at dksX3_few_1 10 rfl rfl)
theorem dX3_few_35 : decode cX3_few 35 = .ok (.istore_n 2, 1) := dk_61 (dk_at dksX3_few_1 11 rfl rfl)
theorem dX3_few_36 : decode cX3_few 36 = .ok (.iinc 3 (-1), 3) := dk_132 3 255 (dk_at dksX3_few_1 12 rfl rfl)
theorem dX3_few_39 : decode cX3_few 39 = .ok (.goto (-33), 3) := dk_167 255 223 (dk_at dksX3_few_1 15 rfl rfl)
theorem dX3_few_42 : decode cX3_few 42 = .ok (.iload_n 2, 1) := dk_28 (dk_at dksX3_few_1 18 rfl rfl)
theorem dX3_few_43 : decode cX3_few 43 = .ok (.ireturn, 1) := dk_172 (dk_at dksX3_few_1 19 rfl rfl)
abbrev cX3_manyBy : ByteArray := prog_13_method_32_code
def yX3_manyBy : MethodName := ⟨RX3, "manyBy", "(I)J"⟩
def dkwX3_manyBy_9 : List UInt8 := [167, 255, 71, 42, 180, 0, 78, 8, 42, 180, 0, 188, 104, 7, 96, 47, 173]
abbrev dktX3_manyBy_9 : List UInt8 := dkwX3_manyBy_9 ++ []
def dkwX3_manyBy_8 : List UInt8 := [163, 0, 21, 42, 180, 0, 78, 29, 42, 180, 0, 81, 29, 47, 80, 132, 3, 1, 167, 255, 229, 132, 2, 1]
abbrev dktX3_manyBy_8 : List UInt8 := dkwX3_manyBy_8 ++ dktX3_manyBy_9
def dkwX3_manyBy_7 : List UInt8 := [180, 0, 81, 29, 22, 4, 80, 132, 3, 1, 167, 255, 116, 3, 62, 29, 8, 42, 180, 0, 188, 104, 7, 96]
abbrev dktX3_manyBy_7 : List UInt8 := dkwX3_manyBy_7 ++ dktX3_manyBy_8
def dkwX3_manyBy_6 : List UInt8 := [21, 6, 46, 184, 0, 149, 153, 0, 7, 10, 167, 0, 4, 9, 97, 55, 4, 132, 6, 1, 167, 255, 148, 42]
abbrev dktX3_manyBy_6 : List UInt8 := dkwX3_manyBy_6 ++ dktX3_manyBy_7
def dkwX3_manyBy_5 : List UInt8 := [21, 6, 46, 96, 47, 167, 0, 33, 28, 4, 160, 0, 27, 42, 180, 0, 65, 16, 20, 46, 42, 180, 0, 19]
abbrev dktX3_manyBy_5 : List UInt8 := dkwX3_manyBy_5 ++ dktX3_manyBy_6
def dkwX3_manyBy_4 : List UInt8 := [154, 0, 7, 9, 167, 0, 58, 21, 7, 158, 0, 23, 42, 180, 0, 78, 8, 21, 7, 104, 42, 180, 0, 19]
abbrev dktX3_manyBy_4 : List UInt8 := dkwX3_manyBy_4 ++ dktX3_manyBy_5
def dkwX3_manyBy_3 : List UInt8 := [46, 100, 54, 7, 42, 29, 8, 108, 29, 8, 112, 21, 6, 182, 0, 194, 54, 8, 22, 4, 21, 8]
abbrev dktX3_manyBy_3 : List UInt8 := dkwX3_manyBy_3 ++ dktX3_manyBy_4
def dkwX3_manyBy_2 : List UInt8 := [9, 55, 4, 3, 54, 6, 21, 6, 42, 180, 0, 103, 162, 0, 105, 29, 8, 108, 42, 180, 0, 71, 21, 6]
abbrev dktX3_manyBy_2 : List UInt8 := dkwX3_manyBy_2 ++ dktX3_manyBy_3
def dkwX3_manyBy_1 : List UInt8 := [167, 255, 234, 4, 61, 28, 27, 163, 0, 186, 3, 62, 29, 8, 42, 180, 0, 188, 104, 7, 96, 163, 0, 134]
abbrev dktX3_manyBy_1 : List UInt8 := dkwX3_manyBy_1 ++ dktX3_manyBy_2
def dkwX3_manyBy_0 : List UInt8 := [3, 61, 28, 8, 42, 180, 0, 188, 104, 7, 96, 163, 0, 16, 42, 180, 0, 78, 28, 9, 80, 132, 2, 1]
abbrev dktX3_manyBy_0 : List UInt8 := dkwX3_manyBy_0 ++ dktX3_manyBy_1
theorem dksX3_manyBy_0 : cX3_manyBy.data.toList.drop 0 = dktX3_manyBy_0 := by decide +kernel
theorem dksX3_manyBy_1 : cX3_manyBy.data.toList.drop 24 = dktX3_manyBy_1 := dk_seg dksX3_manyBy_0 24 rfl rfl
theorem dksX3_manyBy_2 : cX3_manyBy.data.toList.drop 48 = dktX3_manyBy_2 := dk_seg dksX3_manyBy_1 24 rfl rfl
theorem dksX3_manyBy_3 : cX3_manyBy.data.toList.drop 72 = dktX3_manyBy_3 := dk_seg dksX3_manyBy_2 24 rfl rfl
theorem dksX3_manyBy_4 : cX3_manyBy.data.toList.drop 94 = dktX3_manyBy_4 := dk_seg dksX3_manyBy_3 22 rfl rfl
theorem dksX3_manyBy_5 : cX3_manyBy.data.toList.drop 118 = dktX3_manyBy_5 := dk_seg dksX3_manyBy_4 24 rfl rfl
theorem dksX3_manyBy_6 : cX3_manyBy.data.toList.drop 142 = dktX3_manyBy_6 := dk_seg dksX3_manyBy_5 24 rfl rfl
theorem dksX3_manyBy_7 : cX3_manyBy.data.toList.drop 166 = dktX3_manyBy_7 := dk_seg dksX3_manyBy_6 24 rfl rfl
theorem dksX3_manyBy_8 : cX3_manyBy.data.toList.drop 190 = dktX3_manyBy_8 := dk_seg dksX3_manyBy_7 24 rfl rfl
theorem dksX3_manyBy_9 : cX3_manyBy.data.toList.drop 214 = dktX3_manyBy_9 := dk_seg dksX3_manyBy_8 24 rfl rfl
theorem dX3_manyBy_0 : decode cX3_manyBy 0 = .ok (.iconst 0, 1) := dk_3 (dk_at dksX3_manyBy_0 0 rfl rfl)
theorem dX3_manyBy_1 : decode cX3_manyBy 1 = .ok (.istore_n 2, 1) := dk_61 (dk_at dksX3_manyBy_0 1 rfl rfl)
theorem dX3_manyBy_2 : decode cX3_manyBy 2 = .ok (.iload_n 2, 1) := dk_28 (dk_at dksX3_manyBy_0 2 rfl rfl)
theorem dX3_manyBy_3 : decode cX3_manyBy 3 = .ok (.iconst 5, 1) := dk_8 (dk_at dksX3_manyBy_0 3 rfl rfl)
theorem dX3_manyBy_4 : decode cX3_manyBy 4 = .ok (.aload_n 0, 1) := dk_42 (dk_at dksX3_manyBy_0 4 rfl rfl)
theorem dX3_manyBy_5 : decode cX3_manyBy 5 = .ok (.getfield 188, 3) := dk_180 0 188 (dk_at dksX3_manyBy_0 5 rfl rfl)
theorem dX3_manyBy_8 : decode cX3_manyBy 8 = .ok (.imul, 1) := dk_104 (dk_at dksX3_manyBy_0 8 rfl rfl)
theorem dX3_manyBy_9 : decode cX3_manyBy 9 = .ok (.iconst 4, 1) := dk_7 (dk_at dksX3_manyBy_0 9 rfl rfl)
theorem dX3_manyBy_10 : decode cX3_manyBy 10 = .ok (.iadd, 1) := dk_96 (dk_at dksX3_manyBy_0 10 rfl rfl)
theorem dX3_manyBy_11 : decode cX3_manyBy 11 = .ok (.if_icmp .gt 16, 3) := dk_163 0 16 (dk_at dksX3_manyBy_0 11 rfl rfl)
theorem dX3_manyBy_14 : decode cX3_manyBy 14 = .ok (.aload_n 0, 1) := dk_42 (dk_at dksX3_manyBy_0 14 rfl rfl)
theorem dX3_manyBy_15 : decode cX3_manyBy 15 = .ok (.getfield 78, 3) := dk_180 0 78 (dk_at dksX3_manyBy_0 15 rfl rfl)
theorem dX3_manyBy_18 : decode cX3_manyBy 18 = .ok (.iload_n 2, 1) := dk_28 (dk_at dksX3_manyBy_0 18 rfl rfl)
theorem dX3_manyBy_19 : decode cX3_manyBy 19 = .ok (.lconst 0, 1) := dk_9 (dk_at dksX3_manyBy_0 19 rfl rfl)
theorem dX3_manyBy_20 : decode cX3_manyBy 20 = .ok (.lastore, 1) := dk_80 (dk_at dksX3_manyBy_0 20 rfl rfl)
theorem dX3_manyBy_21 : decode cX3_manyBy 21 = .ok (.iinc 2 1, 3) := dk_132 2 1 (dk_at dksX3_manyBy_0 21 rfl rfl)
theorem dX3_manyBy_24 : decode cX3_manyBy 24 = .ok (.goto (-22), 3) := dk_167 255 234 (dk_at dksX3_manyBy_1 0 rfl rfl)
theorem dX3_manyBy_27 : decode cX3_manyBy 27 = .ok (.iconst 1, 1) := dk_4 (dk_at dksX3_manyBy_1 3 rfl rfl)
theorem dX3_manyBy_28 : decode cX3_manyBy 28 = .ok (.istore_n 2, 1) := dk_61 (dk_at dksX3_manyBy_1 4 rfl rfl)
theorem dX3_manyBy_29 : decode cX3_manyBy 29 = .ok (.iload_n 2, 1) := dk_28 (dk_at dksX3_manyBy_1 5 rfl rfl)
theorem dX3_manyBy_30 : decode cX3_manyBy 30 = .ok (.iload_n 1, 1) := dk_27 (dk_at dksX3_manyBy_1 6 rfl rfl)
theorem dX3_manyBy_31 : decode cX3_manyBy 31 = .ok (.if_icmp .gt 186, 3) := dk_163 0 186 (dk_at dksX3_manyBy_1 7 rfl rfl)
theorem dX3_manyBy_34 : decode cX3_manyBy 34 = .ok (.iconst 0, 1) := dk_3 (dk_at dksX3_manyBy_1 10 rfl rfl)
theorem dX3_manyBy_35 : decode cX3_manyBy 35 = .ok (.istore_n 3, 1) := dk_62 (dk_at dksX3_manyBy_1 11 rfl rfl)
theorem dX3_manyBy_36 : decode cX3_manyBy 36 = .ok (.iload_n 3, 1) := dk_29 (dk_at dksX3_manyBy_1 12 rfl rfl)
theorem dX3_manyBy_37 : decode cX3_manyBy 37 = .ok (.iconst 5, 1) := dk_8 (dk_at dksX3_manyBy_1 13 rfl rfl)
theorem dX3_manyBy_38 : decode cX3_manyBy 38 = .ok (.aload_n 0, 1) := dk_42 (dk_at dksX3_manyBy_1 14 rfl rfl)
theorem dX3_manyBy_39 : decode cX3_manyBy 39 = .ok (.getfield 188, 3) := dk_180 0 188 (dk_at dksX3_manyBy_1 15 rfl rfl)
theorem dX3_manyBy_42 : decode cX3_manyBy 42 = .ok (.imul, 1) := dk_104 (dk_at dksX3_manyBy_1 18 rfl rfl)
theorem dX3_manyBy_43 : decode cX3_manyBy 43 = .ok (.iconst 4, 1) := dk_7 (dk_at dksX3_manyBy_1 19 rfl rfl)
theorem dX3_manyBy_44 : decode cX3_manyBy 44 = .ok (.iadd, 1) := dk_96 (dk_at dksX3_manyBy_1 20 rfl rfl)
theorem dX3_manyBy_45 : decode cX3_manyBy 45 = .ok (.if_icmp .gt 134, 3) := dk_163 0 134 (dk_at dksX3_manyBy_1 21 rfl rfl)
theorem dX3_manyBy_48 : decode cX3_manyBy 48 = .ok (.lconst 0, 1) := dk_9 (dk_at dksX3_manyBy_2 0 rfl rfl)
theorem dX3_manyBy_49 : decode cX3_manyBy 49 = .ok (.lstore 4, 2) := dk_55 4 (dk_at dksX3_manyBy_2 1 rfl rfl)
theorem dX3_manyBy_51 : decode cX3_manyBy 51 = .ok (.iconst 0, 1) := dk_3 (dk_at dksX3_manyBy_2 3 rfl rfl)
theorem dX3_manyBy_52 : decode cX3_manyBy 52 = .ok (.istore 6, 2) := dk_54 6 (dk_at dksX3_manyBy_2 4 rfl rfl)
theorem dX3_manyBy_54 : decode cX3_manyBy 54 = .ok (.iload 6, 2) := dk_21 6 (dk_at dksX3_manyBy_2 6 rfl rfl)
theorem dX3_manyBy_56 : decode cX3_manyBy 56 = .ok (.aload_n 0, 1) := dk_42 (dk_at dksX3_manyBy_2 8 rfl rfl)
theorem dX3_manyBy_57 : decode cX3_manyBy 57 = .ok (.getfield 103, 3) := dk_180 0 103 (dk_at dksX3_manyBy_2 9 rfl rfl)
theorem dX3_manyBy_60 : decode cX3_manyBy 60 = .ok (.if_icmp .ge 105, 3) := dk_162 0 105 (dk_at dksX3_manyBy_2 12 rfl rfl)
theorem dX3_manyBy_63 : decode cX3_manyBy 63 = .ok (.iload_n 3, 1) := dk_29 (dk_at dksX3_manyBy_2 15 rfl rfl)
theorem dX3_manyBy_64 : decode cX3_manyBy 64 = .ok (.iconst 5, 1) := dk_8 (dk_at dksX3_manyBy_2 16 rfl rfl)
theorem dX3_manyBy_65 : decode cX3_manyBy 65 = .ok (.idiv, 1) := dk_108 (dk_at dksX3_manyBy_2 17 rfl rfl)
theorem dX3_manyBy_66 : decode cX3_manyBy 66 = .ok (.aload_n 0, 1) := dk_42 (dk_at dksX3_manyBy_2 18 rfl rfl)
theorem dX3_manyBy_67 : decode cX3_manyBy 67 = .ok (.getfield 71, 3) := dk_180 0 71 (dk_at dksX3_manyBy_2 19 rfl rfl)
theorem dX3_manyBy_70 : decode cX3_manyBy 70 = .ok (.iload 6, 2) := dk_21 6 (dk_at dksX3_manyBy_2 22 rfl rfl)
theorem dX3_manyBy_72 : decode cX3_manyBy 72 = .ok (.iaload, 1) := dk_46 (dk_at dksX3_manyBy_3 0 rfl rfl)
theorem dX3_manyBy_73 : decode cX3_manyBy 73 = .ok (.isub, 1) := dk_100 (dk_at dksX3_manyBy_3 1 rfl rfl)
theorem dX3_manyBy_74 : decode cX3_manyBy 74 = .ok (.istore 7, 2) := dk_54 7 (dk_at dksX3_manyBy_3 2 rfl rfl)
theorem dX3_manyBy_76 : decode cX3_manyBy 76 = .ok (.aload_n 0, 1) := dk_42 (dk_at dksX3_manyBy_3 4 rfl rfl)
theorem dX3_manyBy_77 : decode cX3_manyBy 77 = .ok (.iload_n 3, 1) := dk_29 (dk_at dksX3_manyBy_3 5 rfl rfl)
theorem dX3_manyBy_78 : decode cX3_manyBy 78 = .ok (.iconst 5, 1) := dk_8 (dk_at dksX3_manyBy_3 6 rfl rfl)
theorem dX3_manyBy_79 : decode cX3_manyBy 79 = .ok (.idiv, 1) := dk_108 (dk_at dksX3_manyBy_3 7 rfl rfl)
theorem dX3_manyBy_80 : decode cX3_manyBy 80 = .ok (.iload_n 3, 1) := dk_29 (dk_at dksX3_manyBy_3 8 rfl rfl)
theorem dX3_manyBy_81 : decode cX3_manyBy 81 = .ok (.iconst 5, 1) := dk_8 (dk_at dksX3_manyBy_3 9 rfl rfl)
theorem dX3_manyBy_82 : decode cX3_manyBy 82 = .ok (.irem, 1) := dk_112 (dk_at dksX3_manyBy_3 10 rfl rfl)
theorem dX3_manyBy_83 : decode cX3_manyBy 83 = .ok (.iload 6, 2) := dk_21 6 (dk_at dksX3_manyBy_3 11 rfl rfl)
theorem dX3_manyBy_85 : decode cX3_manyBy 85 = .ok (.invokevirtual 194, 3) := dk_182 0 194 (dk_at dksX3_manyBy_3 13 rfl rfl)
theorem dX3_manyBy_88 : decode cX3_manyBy 88 = .ok (.istore 8, 2) := dk_54 8 (dk_at dksX3_manyBy_3 16 rfl rfl)
theorem dX3_manyBy_90 : decode cX3_manyBy 90 = .ok (.lload 4, 2) := dk_22 4 (dk_at dksX3_manyBy_3 18 rfl rfl)
theorem dX3_manyBy_92 : decode cX3_manyBy 92 = .ok (.iload 8, 2) := dk_21 8 (dk_at dksX3_manyBy_3 20 rfl rfl)
theorem dX3_manyBy_94 : decode cX3_manyBy 94 = .ok (.ifCond .ne 7, 3) := dk_154 0 7 (dk_at dksX3_manyBy_4 0 rfl rfl)
theorem dX3_manyBy_97 : decode cX3_manyBy 97 = .ok (.lconst 0, 1) := dk_9 (dk_at dksX3_manyBy_4 3 rfl rfl)
theorem dX3_manyBy_98 : decode cX3_manyBy 98 = .ok (.goto 58, 3) := dk_167 0 58 (dk_at dksX3_manyBy_4 4 rfl rfl)
theorem dX3_manyBy_101 : decode cX3_manyBy 101 = .ok (.iload 7, 2) := dk_21 7 (dk_at dksX3_manyBy_4 7 rfl rfl)
theorem dX3_manyBy_103 : decode cX3_manyBy 103 = .ok (.ifCond .le 23, 3) := dk_158 0 23 (dk_at dksX3_manyBy_4 9 rfl rfl)
theorem dX3_manyBy_106 : decode cX3_manyBy 106 = .ok (.aload_n 0, 1) := dk_42 (dk_at dksX3_manyBy_4 12 rfl rfl)
theorem dX3_manyBy_107 : decode cX3_manyBy 107 = .ok (.getfield 78, 3) := dk_180 0 78 (dk_at dksX3_manyBy_4 13 rfl rfl)
theorem dX3_manyBy_110 : decode cX3_manyBy 110 = .ok (.iconst 5, 1) := dk_8 (dk_at dksX3_manyBy_4 16 rfl rfl)
theorem dX3_manyBy_111 : decode cX3_manyBy 111 = .ok (.iload 7, 2) := dk_21 7 (dk_at dksX3_manyBy_4 17 rfl rfl)
theorem dX3_manyBy_113 : decode cX3_manyBy 113 = .ok (.imul, 1) := dk_104 (dk_at dksX3_manyBy_4 19 rfl rfl)
theorem dX3_manyBy_114 : decode cX3_manyBy 114 = .ok (.aload_n 0, 1) := dk_42 (dk_at dksX3_manyBy_4 20 rfl rfl)
theorem dX3_manyBy_115 : decode cX3_manyBy 115 = .ok (.getfield 19, 3) := dk_180 0 19 (dk_at dksX3_manyBy_4 21 rfl rfl)
theorem dX3_manyBy_118 : decode cX3_manyBy 118 = .ok (.iload 6, 2) := dk_21 6 (dk_at dksX3_manyBy_5 0 rfl rfl)
theorem dX3_manyBy_120 : decode cX3_manyBy 120 = .ok (.iaload, 1) := dk_46 (dk_at dksX3_manyBy_5 2 rfl rfl)
theorem dX3_manyBy_121 : decode cX3_manyBy 121 = .ok (.iadd, 1) := dk_96 (dk_at dksX3_manyBy_5 3 rfl rfl)
theorem dX3_manyBy_122 : decode cX3_manyBy 122 = .ok (.laload, 1) := dk_47 (dk_at dksX3_manyBy_5 4 rfl rfl)
theorem dX3_manyBy_123 : decode cX3_manyBy 123 = .ok (.goto 33, 3) := dk_167 0 33 (dk_at dksX3_manyBy_5 5 rfl rfl)
theorem dX3_manyBy_126 : decode cX3_manyBy 126 = .ok (.iload_n 2, 1) := dk_28 (dk_at dksX3_manyBy_5 8 rfl rfl)
theorem dX3_manyBy_127 : decode cX3_manyBy 127 = .ok (.iconst 1, 1) := dk_4 (dk_at dksX3_manyBy_5 9 rfl rfl)
theorem dX3_manyBy_128 : decode cX3_manyBy 128 = .ok (.if_icmp .ne 27, 3) := dk_160 0 27 (dk_at dksX3_manyBy_5 10 rfl rfl)
theorem dX3_manyBy_131 : decode cX3_manyBy 131 = .ok (.aload_n 0, 1) := dk_42 (dk_at dksX3_manyBy_5 13 rfl rfl)
theorem dX3_manyBy_132 : decode cX3_manyBy 132 = .ok (.getfield 65, 3) := dk_180 0 65 (dk_at dksX3_manyBy_5 14 rfl rfl)
theorem dX3_manyBy_135 : decode cX3_manyBy 135 = .ok (.bipush 20, 2) := dk_16 20 (dk_at dksX3_manyBy_5 17 rfl rfl)
theorem dX3_manyBy_137 : decode cX3_manyBy 137 = .ok (.iaload, 1) := dk_46 (dk_at dksX3_manyBy_5 19 rfl rfl)
theorem dX3_manyBy_138 : decode cX3_manyBy 138 = .ok (.aload_n 0, 1) := dk_42 (dk_at dksX3_manyBy_5 20 rfl rfl)
theorem dX3_manyBy_139 : decode cX3_manyBy 139 = .ok (.getfield 19, 3) := dk_180 0 19 (dk_at dksX3_manyBy_5 21 rfl rfl)
theorem dX3_manyBy_142 : decode cX3_manyBy 142 = .ok (.iload 6, 2) := dk_21 6 (dk_at dksX3_manyBy_6 0 rfl rfl)
theorem dX3_manyBy_144 : decode cX3_manyBy 144 = .ok (.iaload, 1) := dk_46 (dk_at dksX3_manyBy_6 2 rfl rfl)
theorem dX3_manyBy_145 : decode cX3_manyBy 145 = .ok (.invokestatic 149, 3) := dk_184 0 149 (dk_at dksX3_manyBy_6 3 rfl rfl)
theorem dX3_manyBy_148 : decode cX3_manyBy 148 = .ok (.ifCond .eq 7, 3) := dk_153 0 7 (dk_at dksX3_manyBy_6 6 rfl rfl)
theorem dX3_manyBy_151 : decode cX3_manyBy 151 = .ok (.lconst 1, 1) := dk_10 (dk_at dksX3_manyBy_6 9 rfl rfl)
theorem dX3_manyBy_152 : decode cX3_manyBy 152 = .ok (.goto 4, 3) := dk_167 0 4 (dk_at dksX3_manyBy_6 10 rfl rfl)
theorem dX3_manyBy_155 : decode cX3_manyBy 155 = .ok (.lconst 0, 1) := dk_9 (dk_at dksX3_manyBy_6 13 rfl rfl)
theorem dX3_manyBy_156 : decode cX3_manyBy 156 = .ok (.ladd, 1) := dk_97 (dk_at dksX3_manyBy_6 14 rfl rfl)
theorem dX3_manyBy_157 : decode cX3_manyBy 157 = .ok (.lstore 4, 2) := dk_55 4 (dk_at dksX3_manyBy_6 15 rfl rfl)
theorem dX3_manyBy_159 : decode cX3_manyBy 159 = .ok (.iinc 6 1, 3) := dk_132 6 1 (dk_at dksX3_manyBy_6 17 rfl rfl)
theorem dX3_manyBy_162 : decode cX3_manyBy 162 = .ok (.goto (-108), 3) := dk_167 255 148 (dk_at dksX3_manyBy_6 20 rfl rfl)
theorem dX3_manyBy_165 : decode cX3_manyBy 165 = .ok (.aload_n 0, 1) := dk_42 (dk_at dksX3_manyBy_6 23 rfl rfl)
theorem dX3_manyBy_166 : decode cX3_manyBy 166 = .ok (.getfield 81, 3) := dk_180 0 81 (dk_at dksX3_manyBy_7 0 rfl rfl)
theorem dX3_manyBy_169 : decode cX3_manyBy 169 = .ok (.iload_n 3, 1) := dk_29 (dk_at dksX3_manyBy_7 3 rfl rfl)
theorem dX3_manyBy_170 : decode cX3_manyBy 170 = .ok (.lload 4, 2) := dk_22 4 (dk_at dksX3_manyBy_7 4 rfl rfl)
theorem dX3_manyBy_172 : decode cX3_manyBy 172 = .ok (.lastore, 1) := dk_80 (dk_at dksX3_manyBy_7 6 rfl rfl)
theorem dX3_manyBy_173 : decode cX3_manyBy 173 = .ok (.iinc 3 1, 3) := dk_132 3 1 (dk_at dksX3_manyBy_7 7 rfl rfl)
theorem dX3_manyBy_176 : decode cX3_manyBy 176 = .ok (.goto (-140), 3) := dk_167 255 116 (dk_at dksX3_manyBy_7 10 rfl rfl)
theorem dX3_manyBy_179 : decode cX3_manyBy 179 = .ok (.iconst 0, 1) := dk_3 (dk_at dksX3_manyBy_7 13 rfl rfl)
theorem dX3_manyBy_180 : decode cX3_manyBy 180 = .ok (.istore_n 3, 1) := dk_62 (dk_at dksX3_manyBy_7 14 rfl rfl)
theorem dX3_manyBy_181 : decode cX3_manyBy 181 = .ok (.iload_n 3, 1) := dk_29 (dk_at dksX3_manyBy_7 15 rfl rfl)
theorem dX3_manyBy_182 : decode cX3_manyBy 182 = .ok (.iconst 5, 1) := dk_8 (dk_at dksX3_manyBy_7 16 rfl rfl)
theorem dX3_manyBy_183 : decode cX3_manyBy 183 = .ok (.aload_n 0, 1) := dk_42 (dk_at dksX3_manyBy_7 17 rfl rfl)
theorem dX3_manyBy_184 : decode cX3_manyBy 184 = .ok (.getfield 188, 3) := dk_180 0 188 (dk_at dksX3_manyBy_7 18 rfl rfl)
theorem dX3_manyBy_187 : decode cX3_manyBy 187 = .ok (.imul, 1) := dk_104 (dk_at dksX3_manyBy_7 21 rfl rfl)
theorem dX3_manyBy_188 : decode cX3_manyBy 188 = .ok (.iconst 4, 1) := dk_7 (dk_at dksX3_manyBy_7 22 rfl rfl)
theorem dX3_manyBy_189 : decode cX3_manyBy 189 = .ok (.iadd, 1) := dk_96 (dk_at dksX3_manyBy_7 23 rfl rfl)
theorem dX3_manyBy_190 : decode cX3_manyBy 190 = .ok (.if_icmp .gt 21, 3) := dk_163 0 21 (dk_at dksX3_manyBy_8 0 rfl rfl)
theorem dX3_manyBy_193 : decode cX3_manyBy 193 = .ok (.aload_n 0, 1) := dk_42 (dk_at dksX3_manyBy_8 3 rfl rfl)
theorem dX3_manyBy_194 : decode cX3_manyBy 194 = .ok (.getfield 78, 3) := dk_180 0 78 (dk_at dksX3_manyBy_8 4 rfl rfl)
theorem dX3_manyBy_197 : decode cX3_manyBy 197 = .ok (.iload_n 3, 1) := dk_29 (dk_at dksX3_manyBy_8 7 rfl rfl)
theorem dX3_manyBy_198 : decode cX3_manyBy 198 = .ok (.aload_n 0, 1) := dk_42 (dk_at dksX3_manyBy_8 8 rfl rfl)
theorem dX3_manyBy_199 : decode cX3_manyBy 199 = .ok (.getfield 81, 3) := dk_180 0 81 (dk_at dksX3_manyBy_8 9 rfl rfl)
theorem dX3_manyBy_202 : decode cX3_manyBy 202 = .ok (.iload_n 3, 1) := dk_29 (dk_at dksX3_manyBy_8 12 rfl rfl)
theorem dX3_manyBy_203 : decode cX3_manyBy 203 = .ok (.laload, 1) := dk_47 (dk_at dksX3_manyBy_8 13 rfl rfl)
theorem dX3_manyBy_204 : decode cX3_manyBy 204 = .ok (.lastore, 1) := dk_80 (dk_at dksX3_manyBy_8 14 rfl rfl)
theorem dX3_manyBy_205 : decode cX3_manyBy 205 = .ok (.iinc 3 1, 3) := dk_132 3 1 (dk_at dksX3_manyBy_8 15 rfl rfl)
theorem dX3_manyBy_208 : decode cX3_manyBy 208 = .ok (.goto (-27), 3) := dk_167 255 229 (dk_at dksX3_manyBy_8 18 rfl rfl)
theorem dX3_manyBy_211 : decode cX3_manyBy 211 = .ok (.iinc 2 1, 3) := dk_132 2 1 (dk_at dksX3_manyBy_8 21 rfl rfl)
theorem dX3_manyBy_214 : decode cX3_manyBy 214 = .ok (.goto (-185), 3) := dk_167 255 71 (dk_at dksX3_manyBy_9 0 rfl rfl)
theorem dX3_manyBy_217 : decode cX3_manyBy 217 = .ok (.aload_n 0, 1) := dk_42 (dk_at dksX3_manyBy_9 3 rfl rfl)
theorem dX3_manyBy_218 : decode cX3_manyBy 218 = .ok (.getfield 78, 3) := dk_180 0 78 (dk_at dksX3_manyBy_9 4 rfl rfl)
theorem dX3_manyBy_221 : decode cX3_manyBy 221 = .ok (.iconst 5, 1) := dk_8 (dk_at dksX3_manyBy_9 7 rfl rfl)
theorem dX3_manyBy_222 : decode cX3_manyBy 222 = .ok (.aload_n 0, 1) := dk_42 (dk_at dksX3_manyBy_9 8 rfl rfl)
theorem dX3_manyBy_223 : decode cX3_manyBy 223 = .ok (.getfield 188, 3) := dk_180 0 188 (dk_at dksX3_manyBy_9 9 rfl rfl)
theorem dX3_manyBy_226 : decode cX3_manyBy 226 = .ok (.imul, 1) := dk_104 (dk_at dksX3_manyBy_9 12 rfl rfl)
theorem dX3_manyBy_227 : decode cX3_manyBy 227 = .ok (.iconst 4, 1) := dk_7 (dk_at dksX3_manyBy_9 13 rfl rfl)
theorem dX3_manyBy_228 : decode cX3_manyBy 228 = .ok (.iadd, 1) := dk_96 (dk_at dksX3_manyBy_9 14 rfl rfl)
theorem dX3_manyBy_229 : decode cX3_manyBy 229 = .ok (.laload, 1) := dk_47 (dk_at dksX3_manyBy_9 15 rfl rfl)
theorem dX3_manyBy_230 : decode cX3_manyBy 230 = .ok (.lreturn, 1) := dk_173 (dk_at dksX3_manyBy_9 16 rfl rfl)
abbrev cX3_word : ByteArray := prog_13_method_43_code
def yX3_word : MethodName := ⟨RX3, "word", "(II)I"⟩
def dkwX3_word_4 : List UInt8 := [42, 27, 182, 0, 220, 172, 42, 27, 182, 0, 252, 172, 16, 254, 172]
abbrev dktX3_word_4 : List UInt8 := dkwX3_word_4 ++ []
def dkwX3_word_3 : List UInt8 := [42, 180, 0, 25, 16, 8, 46, 27, 122, 4, 126, 172, 42, 27, 182, 0, 246, 172, 42, 27, 182, 0, 249, 172]
abbrev dktX3_word_3 : List UInt8 := dkwX3_word_3 ++ dktX3_word_4
def dkwX3_word_2 : List UInt8 := [42, 180, 0, 16, 27, 46, 172, 42, 180, 0, 19, 27, 46, 172, 42, 180, 0, 25, 16, 9, 27, 96, 46, 172]
abbrev dktX3_word_2 : List UInt8 := dkwX3_word_2 ++ dktX3_word_3
def dkwX3_word_1 : List UInt8 := [170, 0, 0, 0, 105, 0, 0, 0, 0, 0, 0, 0, 7, 0, 0, 0, 45, 0, 0, 0, 52, 0, 0, 0, 59, 0, 0, 0, 69, 0, 0, 0, 81, 0, 0, 0, 87, 0, 0, 0, 93, 0, 0, 0, 99]
abbrev dktX3_word_1 : List UInt8 := dkwX3_word_1 ++ dktX3_word_2
def dkwX3_word_0 : List UInt8 := [42, 27, 182, 0, 243, 154, 0, 5, 2, 172, 28]
abbrev dktX3_word_0 : List UInt8 := dkwX3_word_0 ++ dktX3_word_1
theorem dksX3_word_0 : cX3_word.data.toList.drop 0 = dktX3_word_0 := by decide +kernel
theorem dksX3_word_1 : cX3_word.data.toList.drop 11 = dktX3_word_1 := dk_seg dksX3_word_0 11 rfl rfl
theorem dksX3_word_2 : cX3_word.data.toList.drop 56 = dktX3_word_2 := dk_seg dksX3_word_1 45 rfl rfl
theorem dksX3_word_3 : cX3_word.data.toList.drop 80 = dktX3_word_3 := dk_seg dksX3_word_2 24 rfl rfl
theorem dksX3_word_4 : cX3_word.data.toList.drop 104 = dktX3_word_4 := dk_seg dksX3_word_3 24 rfl rfl
theorem dX3_word_0 : decode cX3_word 0 = .ok (.aload_n 0, 1) := dk_42 (dk_at dksX3_word_0 0 rfl rfl)
theorem dX3_word_1 : decode cX3_word 1 = .ok (.iload_n 1, 1) := dk_27 (dk_at dksX3_word_0 1 rfl rfl)
theorem dX3_word_2 : decode cX3_word 2 = .ok (.invokevirtual 243, 3) := dk_182 0 243 (dk_at dksX3_word_0 2 rfl rfl)
theorem dX3_word_5 : decode cX3_word 5 = .ok (.ifCond .ne 5, 3) := dk_154 0 5 (dk_at dksX3_word_0 5 rfl rfl)
theorem dX3_word_8 : decode cX3_word 8 = .ok (.iconst (-1), 1) := dk_2 (dk_at dksX3_word_0 8 rfl rfl)
theorem dX3_word_9 : decode cX3_word 9 = .ok (.ireturn, 1) := dk_172 (dk_at dksX3_word_0 9 rfl rfl)
theorem dX3_word_10 : decode cX3_word 10 = .ok (.iload_n 2, 1) := dk_28 (dk_at dksX3_word_0 10 rfl rfl)
theorem dX3_word_11 : decode cX3_word 11 = .ok (.tableswitch 105 0 7 #[45, 52, 59, 69, 81, 87, 93, 99], 45) := by decide +kernel
theorem dX3_word_56 : decode cX3_word 56 = .ok (.aload_n 0, 1) := dk_42 (dk_at dksX3_word_2 0 rfl rfl)
theorem dX3_word_57 : decode cX3_word 57 = .ok (.getfield 16, 3) := dk_180 0 16 (dk_at dksX3_word_2 1 rfl rfl)
theorem dX3_word_60 : decode cX3_word 60 = .ok (.iload_n 1, 1) := dk_27 (dk_at dksX3_word_2 4 rfl rfl)
theorem dX3_word_61 : decode cX3_word 61 = .ok (.iaload, 1) := dk_46 (dk_at dksX3_word_2 5 rfl rfl)
theorem dX3_word_62 : decode cX3_word 62 = .ok (.ireturn, 1) := dk_172 (dk_at dksX3_word_2 6 rfl rfl)
theorem dX3_word_63 : decode cX3_word 63 = .ok (.aload_n 0, 1) := dk_42 (dk_at dksX3_word_2 7 rfl rfl)
theorem dX3_word_64 : decode cX3_word 64 = .ok (.getfield 19, 3) := dk_180 0 19 (dk_at dksX3_word_2 8 rfl rfl)
theorem dX3_word_67 : decode cX3_word 67 = .ok (.iload_n 1, 1) := dk_27 (dk_at dksX3_word_2 11 rfl rfl)
theorem dX3_word_68 : decode cX3_word 68 = .ok (.iaload, 1) := dk_46 (dk_at dksX3_word_2 12 rfl rfl)
theorem dX3_word_69 : decode cX3_word 69 = .ok (.ireturn, 1) := dk_172 (dk_at dksX3_word_2 13 rfl rfl)
theorem dX3_word_70 : decode cX3_word 70 = .ok (.aload_n 0, 1) := dk_42 (dk_at dksX3_word_2 14 rfl rfl)
theorem dX3_word_71 : decode cX3_word 71 = .ok (.getfield 25, 3) := dk_180 0 25 (dk_at dksX3_word_2 15 rfl rfl)
theorem dX3_word_74 : decode cX3_word 74 = .ok (.bipush 9, 2) := dk_16 9 (dk_at dksX3_word_2 18 rfl rfl)
theorem dX3_word_76 : decode cX3_word 76 = .ok (.iload_n 1, 1) := dk_27 (dk_at dksX3_word_2 20 rfl rfl)
theorem dX3_word_77 : decode cX3_word 77 = .ok (.iadd, 1) := dk_96 (dk_at dksX3_word_2 21 rfl rfl)
theorem dX3_word_78 : decode cX3_word 78 = .ok (.iaload, 1) := dk_46 (dk_at dksX3_word_2 22 rfl rfl)
theorem dX3_word_79 : decode cX3_word 79 = .ok (.ireturn, 1) := dk_172 (dk_at dksX3_word_2 23 rfl rfl)
theorem dX3_word_80 : decode cX3_word 80 = .ok (.aload_n 0, 1) := dk_42 (dk_at dksX3_word_3 0 rfl rfl)
theorem dX3_word_81 : decode cX3_word 81 = .ok (.getfield 25, 3) := dk_180 0 25 (dk_at dksX3_word_3 1 rfl rfl)
theorem dX3_word_84 : decode cX3_word 84 = .ok (.bipush 8, 2) := dk_16 8 (dk_at dksX3_word_3 4 rfl rfl)
theorem dX3_word_86 : decode cX3_word 86 = .ok (.iaload, 1) := dk_46 (dk_at dksX3_word_3 6 rfl rfl)
theorem dX3_word_87 : decode cX3_word 87 = .ok (.iload_n 1, 1) := dk_27 (dk_at dksX3_word_3 7 rfl rfl)
theorem dX3_word_88 : decode cX3_word 88 = .ok (.ishr, 1) := dk_122 (dk_at dksX3_word_3 8 rfl rfl)
theorem dX3_word_89 : decode cX3_word 89 = .ok (.iconst 1, 1) := dk_4 (dk_at dksX3_word_3 9 rfl rfl)
theorem dX3_word_90 : decode cX3_word 90 = .ok (.iand, 1) := dk_126 (dk_at dksX3_word_3 10 rfl rfl)
theorem dX3_word_91 : decode cX3_word 91 = .ok (.ireturn, 1) := dk_172 (dk_at dksX3_word_3 11 rfl rfl)
theorem dX3_word_92 : decode cX3_word 92 = .ok (.aload_n 0, 1) := dk_42 (dk_at dksX3_word_3 12 rfl rfl)
theorem dX3_word_93 : decode cX3_word 93 = .ok (.iload_n 1, 1) := dk_27 (dk_at dksX3_word_3 13 rfl rfl)
theorem dX3_word_94 : decode cX3_word 94 = .ok (.invokevirtual 246, 3) := dk_182 0 246 (dk_at dksX3_word_3 14 rfl rfl)
theorem dX3_word_97 : decode cX3_word 97 = .ok (.ireturn, 1) := dk_172 (dk_at dksX3_word_3 17 rfl rfl)
theorem dX3_word_98 : decode cX3_word 98 = .ok (.aload_n 0, 1) := dk_42 (dk_at dksX3_word_3 18 rfl rfl)
theorem dX3_word_99 : decode cX3_word 99 = .ok (.iload_n 1, 1) := dk_27 (dk_at dksX3_word_3 19 rfl rfl)
theorem dX3_word_100 : decode cX3_word 100 = .ok (.invokevirtual 249, 3) := dk_182 0 249 (dk_at dksX3_word_3 20 rfl rfl)
theorem dX3_word_103 : decode cX3_word 103 = .ok (.ireturn, 1) := dk_172 (dk_at dksX3_word_3 23 rfl rfl)
theorem dX3_word_104 : decode cX3_word 104 = .ok (.aload_n 0, 1) := dk_42 (dk_at dksX3_word_4 0 rfl rfl)
theorem dX3_word_105 : decode cX3_word 105 = .ok (.iload_n 1, 1) := dk_27 (dk_at dksX3_word_4 1 rfl rfl)
theorem dX3_word_106 : decode cX3_word 106 = .ok (.invokevirtual 220, 3) := dk_182 0 220 (dk_at dksX3_word_4 2 rfl rfl)
theorem dX3_word_109 : decode cX3_word 109 = .ok (.ireturn, 1) := dk_172 (dk_at dksX3_word_4 5 rfl rfl)
theorem dX3_word_110 : decode cX3_word 110 = .ok (.aload_n 0, 1) := dk_42 (dk_at dksX3_word_4 6 rfl rfl)
theorem dX3_word_111 : decode cX3_word 111 = .ok (.iload_n 1, 1) := dk_27 (dk_at dksX3_word_4 7 rfl rfl)
theorem dX3_word_112 : decode cX3_word 112 = .ok (.invokevirtual 252, 3) := dk_182 0 252 (dk_at dksX3_word_4 8 rfl rfl)
theorem dX3_word_115 : decode cX3_word 115 = .ok (.ireturn, 1) := dk_172 (dk_at dksX3_word_4 11 rfl rfl)
theorem dX3_word_116 : decode cX3_word 116 = .ok (.bipush (-2), 2) := dk_16 254 (dk_at dksX3_word_4 12 rfl rfl)
theorem dX3_word_118 : decode cX3_word 118 = .ok (.ireturn, 1) := dk_172 (dk_at dksX3_word_4 14 rfl rfl)
abbrev cX3_isWord : ByteArray := prog_13_method_11_code
def yX3_isWord : MethodName := ⟨RX3, "isWord", "(I)Z"⟩
def dkwX3_isWord_0 : List UInt8 := [27, 133, 9, 42, 180, 0, 103, 4, 100, 133, 184, 0, 107, 172]
abbrev dktX3_isWord_0 : List UInt8 := dkwX3_isWord_0 ++ []
theorem dksX3_isWord_0 : cX3_isWord.data.toList.drop 0 = dktX3_isWord_0 := by decide +kernel
theorem dX3_isWord_0 : decode cX3_isWord 0 = .ok (.iload_n 1, 1) := dk_27 (dk_at dksX3_isWord_0 0 rfl rfl)
theorem dX3_isWord_1 : decode cX3_isWord 1 = .ok (.i2l, 1) := dk_133 (dk_at dksX3_isWord_0 1 rfl rfl)
theorem dX3_isWord_2 : decode cX3_isWord 2 = .ok (.lconst 0, 1) := dk_9 (dk_at dksX3_isWord_0 2 rfl rfl)
theorem dX3_isWord_3 : decode cX3_isWord 3 = .ok (.aload_n 0, 1) := dk_42 (dk_at dksX3_isWord_0 3 rfl rfl)
theorem dX3_isWord_4 : decode cX3_isWord 4 = .ok (.getfield 103, 3) := dk_180 0 103 (dk_at dksX3_isWord_0 4 rfl rfl)
theorem dX3_isWord_7 : decode cX3_isWord 7 = .ok (.iconst 1, 1) := dk_4 (dk_at dksX3_isWord_0 7 rfl rfl)
theorem dX3_isWord_8 : decode cX3_isWord 8 = .ok (.isub, 1) := dk_100 (dk_at dksX3_isWord_0 8 rfl rfl)
theorem dX3_isWord_9 : decode cX3_isWord 9 = .ok (.i2l, 1) := dk_133 (dk_at dksX3_isWord_0 9 rfl rfl)
theorem dX3_isWord_10 : decode cX3_isWord 10 = .ok (.invokestatic 107, 3) := dk_184 0 107 (dk_at dksX3_isWord_0 10 rfl rfl)
theorem dX3_isWord_13 : decode cX3_isWord 13 = .ok (.ireturn, 1) := dk_172 (dk_at dksX3_isWord_0 13 rfl rfl)
abbrev cX3_rarest : ByteArray := prog_13_method_39_code
def yX3_rarest : MethodName := ⟨RX3, "rarest", "(I)I"⟩
def dkwX3_rarest_2 : List UInt8 := [61, 132, 3, 255, 167, 255, 210, 28, 172]
abbrev dktX3_rarest_2 : List UInt8 := dkwX3_rarest_2 ++ []
def dkwX3_rarest_1 : List UInt8 := [28, 16, 247, 159, 0, 16, 42, 29, 182, 0, 240, 42, 28, 182, 0, 240, 163, 0, 7, 29, 167, 0, 4, 28]
abbrev dktX3_rarest_1 : List UInt8 := dkwX3_rarest_1 ++ dktX3_rarest_2
def dkwX3_rarest_0 : List UInt8 := [16, 247, 61, 16, 7, 62, 29, 155, 0, 48, 42, 180, 0, 22, 16, 8, 27, 104, 29, 96, 46, 158, 0, 26]
abbrev dktX3_rarest_0 : List UInt8 := dkwX3_rarest_0 ++ dktX3_rarest_1
theorem dksX3_rarest_0 : cX3_rarest.data.toList.drop 0 = dktX3_rarest_0 := by decide +kernel
theorem dksX3_rarest_1 : cX3_rarest.data.toList.drop 24 = dktX3_rarest_1 := dk_seg dksX3_rarest_0 24 rfl rfl
theorem dksX3_rarest_2 : cX3_rarest.data.toList.drop 48 = dktX3_rarest_2 := dk_seg dksX3_rarest_1 24 rfl rfl
theorem dX3_rarest_0 : decode cX3_rarest 0 = .ok (.bipush (-9), 2) := dk_16 247 (dk_at dksX3_rarest_0 0 rfl rfl)
theorem dX3_rarest_2 : decode cX3_rarest 2 = .ok (.istore_n 2, 1) := dk_61 (dk_at dksX3_rarest_0 2 rfl rfl)
theorem dX3_rarest_3 : decode cX3_rarest 3 = .ok (.bipush 7, 2) := dk_16 7 (dk_at dksX3_rarest_0 3 rfl rfl)
theorem dX3_rarest_5 : decode cX3_rarest 5 = .ok (.istore_n 3, 1) := dk_62 (dk_at dksX3_rarest_0 5 rfl rfl)
theorem dX3_rarest_6 : decode cX3_rarest 6 = .ok (.iload_n 3, 1) := dk_29 (dk_at dksX3_rarest_0 6 rfl rfl)
theorem dX3_rarest_7 : decode cX3_rarest 7 = .ok (.ifCond .lt 48, 3) := dk_155 0 48 (dk_at dksX3_rarest_0 7 rfl rfl)
theorem dX3_rarest_10 : decode cX3_rarest 10 = .ok (.aload_n 0, 1) := dk_42 (dk_at dksX3_rarest_0 10 rfl rfl)
theorem dX3_rarest_11 : decode cX3_rarest 11 = .ok (.getfield 22, 3) := dk_180 0 22 (dk_at dksX3_rarest_0 11 rfl rfl)
theorem dX3_rarest_14 : decode cX3_rarest 14 = .ok (.bipush 8, 2) := dk_16 8 (dk_at dksX3_rarest_0 14 rfl rfl)
theorem dX3_rarest_16 : decode cX3_rarest 16 = .ok (.iload_n 1, 1) := dk_27 (dk_at dksX3_rarest_0 16 rfl rfl)
theorem dX3_rarest_17 : decode cX3_rarest 17 = .ok (.imul, 1) := dk_104 (dk_at dksX3_rarest_0 17 rfl rfl)
theorem dX3_rarest_18 : decode cX3_rarest 18 = .ok (.iload_n 3, 1) := dk_29 (dk_at dksX3_rarest_0 18 rfl rfl)
theorem dX3_rarest_19 : decode cX3_rarest 19 = .ok (.iadd, 1) := dk_96 (dk_at dksX3_rarest_0 19 rfl rfl)
theorem dX3_rarest_20 : decode cX3_rarest 20 = .ok (.iaload, 1) := dk_46 (dk_at dksX3_rarest_0 20 rfl rfl)
theorem dX3_rarest_21 : decode cX3_rarest 21 = .ok (.ifCond .le 26, 3) := dk_158 0 26 (dk_at dksX3_rarest_0 21 rfl rfl)
theorem dX3_rarest_24 : decode cX3_rarest 24 = .ok (.iload_n 2, 1) := dk_28 (dk_at dksX3_rarest_1 0 rfl rfl)
theorem dX3_rarest_25 : decode cX3_rarest 25 = .ok (.bipush (-9), 2) := dk_16 247 (dk_at dksX3_rarest_1 1 rfl rfl)
theorem dX3_rarest_27 : decode cX3_rarest 27 = .ok (.if_icmp .eq 16, 3) := dk_159 0 16 (dk_at dksX3_rarest_1 3 rfl rfl)
theorem dX3_rarest_30 : decode cX3_rarest 30 = .ok (.aload_n 0, 1) := dk_42 (dk_at dksX3_rarest_1 6 rfl rfl)
theorem dX3_rarest_31 : decode cX3_rarest 31 = .ok (.iload_n 3, 1) := dk_29 (dk_at dksX3_rarest_1 7 rfl rfl)
theorem dX3_rarest_32 : decode cX3_rarest 32 = .ok (.invokevirtual 240, 3) := dk_182 0 240 (dk_at dksX3_rarest_1 8 rfl rfl)
theorem dX3_rarest_35 : decode cX3_rarest 35 = .ok (.aload_n 0, 1) := dk_42 (dk_at dksX3_rarest_1 11 rfl rfl)
theorem dX3_rarest_36 : decode cX3_rarest 36 = .ok (.iload_n 2, 1) := dk_28 (dk_at dksX3_rarest_1 12 rfl rfl)
theorem dX3_rarest_37 : decode cX3_rarest 37 = .ok (.invokevirtual 240, 3) := dk_182 0 240 (dk_at dksX3_rarest_1 13 rfl rfl)
theorem dX3_rarest_40 : decode cX3_rarest 40 = .ok (.if_icmp .gt 7, 3) := dk_163 0 7 (dk_at dksX3_rarest_1 16 rfl rfl)
theorem dX3_rarest_43 : decode cX3_rarest 43 = .ok (.iload_n 3, 1) := dk_29 (dk_at dksX3_rarest_1 19 rfl rfl)
theorem dX3_rarest_44 : decode cX3_rarest 44 = .ok (.goto 4, 3) := dk_167 0 4 (dk_at dksX3_rarest_1 20 rfl rfl)
theorem dX3_rarest_47 : decode cX3_rarest 47 = .ok (.iload_n 2, 1) := dk_28 (dk_at dksX3_rarest_1 23 rfl rfl)
theorem dX3_rarest_48 : decode cX3_rarest 48 = .ok (.istore_n 2, 1) := dk_61 (dk_at dksX3_rarest_2 0 rfl rfl)
theorem dX3_rarest_49 : decode cX3_rarest 49 = .ok (.iinc 3 (-1), 3) := dk_132 3 255 (dk_at dksX3_rarest_2 1 rfl rfl)
theorem dX3_rarest_52 : decode cX3_rarest 52 = .ok (.goto (-46), 3) := dk_167 255 210 (dk_at dksX3_rarest_2 4 rfl rfl)
theorem dX3_rarest_55 : decode cX3_rarest 55 = .ok (.iload_n 2, 1) := dk_28 (dk_at dksX3_rarest_2 7 rfl rfl)
theorem dX3_rarest_56 : decode cX3_rarest 56 = .ok (.ireturn, 1) := dk_172 (dk_at dksX3_rarest_2 8 rfl rfl)
abbrev cX3_havers : ByteArray := prog_13_method_38_code
def yX3_havers : MethodName := ⟨RX3, "havers", "(I)I"⟩
def dkwX3_havers_1 : List UInt8 := [158, 0, 7, 4, 167, 0, 4, 3, 96, 61, 132, 3, 1, 167, 255, 223, 28, 172]
abbrev dktX3_havers_1 : List UInt8 := dkwX3_havers_1 ++ []
def dkwX3_havers_0 : List UInt8 := [3, 61, 3, 62, 29, 42, 180, 0, 103, 162, 0, 31, 28, 42, 180, 0, 22, 16, 8, 29, 104, 27, 96, 46]
abbrev dktX3_havers_0 : List UInt8 := dkwX3_havers_0 ++ dktX3_havers_1
theorem dksX3_havers_0 : cX3_havers.data.toList.drop 0 = dktX3_havers_0 := by decide +kernel
theorem dksX3_havers_1 : cX3_havers.data.toList.drop 24 = dktX3_havers_1 := dk_seg dksX3_havers_0 24 rfl rfl
theorem dX3_havers_0 : decode cX3_havers 0 = .ok (.iconst 0, 1) := dk_3 (dk_at dksX3_havers_0 0 rfl rfl)
theorem dX3_havers_1 : decode cX3_havers 1 = .ok (.istore_n 2, 1) := dk_61 (dk_at dksX3_havers_0 1 rfl rfl)
theorem dX3_havers_2 : decode cX3_havers 2 = .ok (.iconst 0, 1) := dk_3 (dk_at dksX3_havers_0 2 rfl rfl)
theorem dX3_havers_3 : decode cX3_havers 3 = .ok (.istore_n 3, 1) := dk_62 (dk_at dksX3_havers_0 3 rfl rfl)
theorem dX3_havers_4 : decode cX3_havers 4 = .ok (.iload_n 3, 1) := dk_29 (dk_at dksX3_havers_0 4 rfl rfl)
theorem dX3_havers_5 : decode cX3_havers 5 = .ok (.aload_n 0, 1) := dk_42 (dk_at dksX3_havers_0 5 rfl rfl)
theorem dX3_havers_6 : decode cX3_havers 6 = .ok (.getfield 103, 3) := dk_180 0 103 (dk_at dksX3_havers_0 6 rfl rfl)
theorem dX3_havers_9 : decode cX3_havers 9 = .ok (.if_icmp .ge 31, 3) := dk_162 0 31 (dk_at dksX3_havers_0 9 rfl rfl)
theorem dX3_havers_12 : decode cX3_havers 12 = .ok (.iload_n 2, 1) := dk_28 (dk_at dksX3_havers_0 12 rfl rfl)
theorem dX3_havers_13 : decode cX3_havers 13 = .ok (.aload_n 0, 1) := dk_42 (dk_at dksX3_havers_0 13 rfl rfl)
theorem dX3_havers_14 : decode cX3_havers 14 = .ok (.getfield 22, 3) := dk_180 0 22 (dk_at dksX3_havers_0 14 rfl rfl)
theorem dX3_havers_17 : decode cX3_havers 17 = .ok (.bipush 8, 2) := dk_16 8 (dk_at dksX3_havers_0 17 rfl rfl)
theorem dX3_havers_19 : decode cX3_havers 19 = .ok (.iload_n 3, 1) := dk_29 (dk_at dksX3_havers_0 19 rfl rfl)
theorem dX3_havers_20 : decode cX3_havers 20 = .ok (.imul, 1) := dk_104 (dk_at dksX3_havers_0 20 rfl rfl)
theorem dX3_havers_21 : decode cX3_havers 21 = .ok (.iload_n 1, 1) := dk_27 (dk_at dksX3_havers_0 21 rfl rfl)
theorem dX3_havers_22 : decode cX3_havers 22 = .ok (.iadd, 1) := dk_96 (dk_at dksX3_havers_0 22 rfl rfl)
theorem dX3_havers_23 : decode cX3_havers 23 = .ok (.iaload, 1) := dk_46 (dk_at dksX3_havers_0 23 rfl rfl)
theorem dX3_havers_24 : decode cX3_havers 24 = .ok (.ifCond .le 7, 3) := dk_158 0 7 (dk_at dksX3_havers_1 0 rfl rfl)
theorem dX3_havers_27 : decode cX3_havers 27 = .ok (.iconst 1, 1) := dk_4 (dk_at dksX3_havers_1 3 rfl rfl)
theorem dX3_havers_28 : decode cX3_havers 28 = .ok (.goto 4, 3) := dk_167 0 4 (dk_at dksX3_havers_1 4 rfl rfl)
theorem dX3_havers_31 : decode cX3_havers 31 = .ok (.iconst 0, 1) := dk_3 (dk_at dksX3_havers_1 7 rfl rfl)
theorem dX3_havers_32 : decode cX3_havers 32 = .ok (.iadd, 1) := dk_96 (dk_at dksX3_havers_1 8 rfl rfl)
theorem dX3_havers_33 : decode cX3_havers 33 = .ok (.istore_n 2, 1) := dk_61 (dk_at dksX3_havers_1 9 rfl rfl)
theorem dX3_havers_34 : decode cX3_havers 34 = .ok (.iinc 3 1, 3) := dk_132 3 1 (dk_at dksX3_havers_1 10 rfl rfl)
theorem dX3_havers_37 : decode cX3_havers 37 = .ok (.goto (-33), 3) := dk_167 255 223 (dk_at dksX3_havers_1 13 rfl rfl)
theorem dX3_havers_40 : decode cX3_havers 40 = .ok (.iload_n 2, 1) := dk_28 (dk_at dksX3_havers_1 16 rfl rfl)
theorem dX3_havers_41 : decode cX3_havers 41 = .ok (.ireturn, 1) := dk_172 (dk_at dksX3_havers_1 17 rfl rfl)
abbrev cX3_twins : ByteArray := prog_13_method_40_code
def yX3_twins : MethodName := ⟨RX3, "twins", "(I)I"⟩
def dkwX3_twins_3 : List UInt8 := [28, 21, 4, 153, 0, 7, 4, 167, 0, 4, 3, 96, 61, 132, 3, 1, 167, 255, 174, 28, 172]
abbrev dktX3_twins_3 : List UInt8 := dkwX3_twins_3 ++ []
def dkwX3_twins_2 : List UInt8 := [16, 8, 29, 104, 21, 5, 96, 46, 160, 0, 7, 4, 167, 0, 4, 3, 54, 4, 132, 5, 1, 167, 255, 207]
abbrev dktX3_twins_2 : List UInt8 := dkwX3_twins_2 ++ dktX3_twins_3
def dkwX3_twins_1 : List UInt8 := [162, 0, 48, 21, 4, 153, 0, 34, 42, 180, 0, 22, 16, 8, 27, 104, 21, 5, 96, 46, 42, 180, 0, 22]
abbrev dktX3_twins_1 : List UInt8 := dkwX3_twins_1 ++ dktX3_twins_2
def dkwX3_twins_0 : List UInt8 := [3, 61, 3, 62, 29, 42, 180, 0, 103, 162, 0, 80, 4, 54, 4, 3, 54, 5, 21, 5, 16, 8]
abbrev dktX3_twins_0 : List UInt8 := dkwX3_twins_0 ++ dktX3_twins_1
theorem dksX3_twins_0 : cX3_twins.data.toList.drop 0 = dktX3_twins_0 := by decide +kernel
theorem dksX3_twins_1 : cX3_twins.data.toList.drop 22 = dktX3_twins_1 := dk_seg dksX3_twins_0 22 rfl rfl
theorem dksX3_twins_2 : cX3_twins.data.toList.drop 46 = dktX3_twins_2 := dk_seg dksX3_twins_1 24 rfl rfl
theorem dksX3_twins_3 : cX3_twins.data.toList.drop 70 = dktX3_twins_3 := dk_seg dksX3_twins_2 24 rfl rfl
theorem dX3_twins_0 : decode cX3_twins 0 = .ok (.iconst 0, 1) := dk_3 (dk_at dksX3_twins_0 0 rfl rfl)
theorem dX3_twins_1 : decode cX3_twins 1 = .ok (.istore_n 2, 1) := dk_61 (dk_at dksX3_twins_0 1 rfl rfl)
theorem dX3_twins_2 : decode cX3_twins 2 = .ok (.iconst 0, 1) := dk_3 (dk_at dksX3_twins_0 2 rfl rfl)
theorem dX3_twins_3 : decode cX3_twins 3 = .ok (.istore_n 3, 1) := dk_62 (dk_at dksX3_twins_0 3 rfl rfl)
theorem dX3_twins_4 : decode cX3_twins 4 = .ok (.iload_n 3, 1) := dk_29 (dk_at dksX3_twins_0 4 rfl rfl)
theorem dX3_twins_5 : decode cX3_twins 5 = .ok (.aload_n 0, 1) := dk_42 (dk_at dksX3_twins_0 5 rfl rfl)
theorem dX3_twins_6 : decode cX3_twins 6 = .ok (.getfield 103, 3) := dk_180 0 103 (dk_at dksX3_twins_0 6 rfl rfl)
theorem dX3_twins_9 : decode cX3_twins 9 = .ok (.if_icmp .ge 80, 3) := dk_162 0 80 (dk_at dksX3_twins_0 9 rfl rfl)
theorem dX3_twins_12 : decode cX3_twins 12 = .ok (.iconst 1, 1) := dk_4 (dk_at dksX3_twins_0 12 rfl rfl)
theorem dX3_twins_13 : decode cX3_twins 13 = .ok (.istore 4, 2) := dk_54 4 (dk_at dksX3_twins_0 13 rfl rfl)
theorem dX3_twins_15 : decode cX3_twins 15 = .ok (.iconst 0, 1) := dk_3 (dk_at dksX3_twins_0 15 rfl rfl)
theorem dX3_twins_16 : decode cX3_twins 16 = .ok (.istore 5, 2) := dk_54 5 (dk_at dksX3_twins_0 16 rfl rfl)
theorem dX3_twins_18 : decode cX3_twins 18 = .ok (.iload 5, 2) := dk_21 5 (dk_at dksX3_twins_0 18 rfl rfl)
theorem dX3_twins_20 : decode cX3_twins 20 = .ok (.bipush 8, 2) := dk_16 8 (dk_at dksX3_twins_0 20 rfl rfl)
theorem dX3_twins_22 : decode cX3_twins 22 = .ok (.if_icmp .ge 48, 3) := dk_162 0 48 (dk_at dksX3_twins_1 0 rfl rfl)
theorem dX3_twins_25 : decode cX3_twins 25 = .ok (.iload 4, 2) := dk_21 4 (dk_at dksX3_twins_1 3 rfl rfl)
theorem dX3_twins_27 : decode cX3_twins 27 = .ok (.ifCond .eq 34, 3) := dk_153 0 34 (dk_at dksX3_twins_1 5 rfl rfl)
theorem dX3_twins_30 : decode cX3_twins 30 = .ok (.aload_n 0, 1) := dk_42 (dk_at dksX3_twins_1 8 rfl rfl)
theorem dX3_twins_31 : decode cX3_twins 31 = .ok (.getfield 22, 3) := dk_180 0 22 (dk_at dksX3_twins_1 9 rfl rfl)
theorem dX3_twins_34 : decode cX3_twins 34 = .ok (.bipush 8, 2) := dk_16 8 (dk_at dksX3_twins_1 12 rfl rfl)
theorem dX3_twins_36 : decode cX3_twins 36 = .ok (.iload_n 1, 1) := dk_27 (dk_at dksX3_twins_1 14 rfl rfl)
theorem dX3_twins_37 : decode cX3_twins 37 = .ok (.imul, 1) := dk_104 (dk_at dksX3_twins_1 15 rfl rfl)
theorem dX3_twins_38 : decode cX3_twins 38 = .ok (.iload 5, 2) := dk_21 5 (dk_at dksX3_twins_1 16 rfl rfl)
theorem dX3_twins_40 : decode cX3_twins 40 = .ok (.iadd, 1) := dk_96 (dk_at dksX3_twins_1 18 rfl rfl)
theorem dX3_twins_41 : decode cX3_twins 41 = .ok (.iaload, 1) := dk_46 (dk_at dksX3_twins_1 19 rfl rfl)
theorem dX3_twins_42 : decode cX3_twins 42 = .ok (.aload_n 0, 1) := dk_42 (dk_at dksX3_twins_1 20 rfl rfl)
theorem dX3_twins_43 : decode cX3_twins 43 = .ok (.getfield 22, 3) := dk_180 0 22 (dk_at dksX3_twins_1 21 rfl rfl)
theorem dX3_twins_46 : decode cX3_twins 46 = .ok (.bipush 8, 2) := dk_16 8 (dk_at dksX3_twins_2 0 rfl rfl)
theorem dX3_twins_48 : decode cX3_twins 48 = .ok (.iload_n 3, 1) := dk_29 (dk_at dksX3_twins_2 2 rfl rfl)
theorem dX3_twins_49 : decode cX3_twins 49 = .ok (.imul, 1) := dk_104 (dk_at dksX3_twins_2 3 rfl rfl)
theorem dX3_twins_50 : decode cX3_twins 50 = .ok (.iload 5, 2) := dk_21 5 (dk_at dksX3_twins_2 4 rfl rfl)
theorem dX3_twins_52 : decode cX3_twins 52 = .ok (.iadd, 1) := dk_96 (dk_at dksX3_twins_2 6 rfl rfl)
theorem dX3_twins_53 : decode cX3_twins 53 = .ok (.iaload, 1) := dk_46 (dk_at dksX3_twins_2 7 rfl rfl)
theorem dX3_twins_54 : decode cX3_twins 54 = .ok (.if_icmp .ne 7, 3) := dk_160 0 7 (dk_at dksX3_twins_2 8 rfl rfl)
theorem dX3_twins_57 : decode cX3_twins 57 = .ok (.iconst 1, 1) := dk_4 (dk_at dksX3_twins_2 11 rfl rfl)
theorem dX3_twins_58 : decode cX3_twins 58 = .ok (.goto 4, 3) := dk_167 0 4 (dk_at dksX3_twins_2 12 rfl rfl)
theorem dX3_twins_61 : decode cX3_twins 61 = .ok (.iconst 0, 1) := dk_3 (dk_at dksX3_twins_2 15 rfl rfl)
theorem dX3_twins_62 : decode cX3_twins 62 = .ok (.istore 4, 2) := dk_54 4 (dk_at dksX3_twins_2 16 rfl rfl)
theorem dX3_twins_64 : decode cX3_twins 64 = .ok (.iinc 5 1, 3) := dk_132 5 1 (dk_at dksX3_twins_2 18 rfl rfl)
theorem dX3_twins_67 : decode cX3_twins 67 = .ok (.goto (-49), 3) := dk_167 255 207 (dk_at dksX3_twins_2 21 rfl rfl)
theorem dX3_twins_70 : decode cX3_twins 70 = .ok (.iload_n 2, 1) := dk_28 (dk_at dksX3_twins_3 0 rfl rfl)
theorem dX3_twins_71 : decode cX3_twins 71 = .ok (.iload 4, 2) := dk_21 4 (dk_at dksX3_twins_3 1 rfl rfl)
theorem dX3_twins_73 : decode cX3_twins 73 = .ok (.ifCond .eq 7, 3) := dk_153 0 7 (dk_at dksX3_twins_3 3 rfl rfl)
theorem dX3_twins_76 : decode cX3_twins 76 = .ok (.iconst 1, 1) := dk_4 (dk_at dksX3_twins_3 6 rfl rfl)
theorem dX3_twins_77 : decode cX3_twins 77 = .ok (.goto 4, 3) := dk_167 0 4 (dk_at dksX3_twins_3 7 rfl rfl)
theorem dX3_twins_80 : decode cX3_twins 80 = .ok (.iconst 0, 1) := dk_3 (dk_at dksX3_twins_3 10 rfl rfl)
theorem dX3_twins_81 : decode cX3_twins 81 = .ok (.iadd, 1) := dk_96 (dk_at dksX3_twins_3 11 rfl rfl)
theorem dX3_twins_82 : decode cX3_twins 82 = .ok (.istore_n 2, 1) := dk_61 (dk_at dksX3_twins_3 12 rfl rfl)
theorem dX3_twins_83 : decode cX3_twins 83 = .ok (.iinc 3 1, 3) := dk_132 3 1 (dk_at dksX3_twins_3 13 rfl rfl)
theorem dX3_twins_86 : decode cX3_twins 86 = .ok (.goto (-82), 3) := dk_167 255 174 (dk_at dksX3_twins_3 16 rfl rfl)
theorem dX3_twins_89 : decode cX3_twins 89 = .ok (.iload_n 2, 1) := dk_28 (dk_at dksX3_twins_3 19 rfl rfl)
theorem dX3_twins_90 : decode cX3_twins 90 = .ok (.ireturn, 1) := dk_172 (dk_at dksX3_twins_3 20 rfl rfl)
abbrev cX3_lettersOf : ByteArray := prog_13_method_42_code
def yX3_lettersOf : MethodName := ⟨RX3, "lettersOf", "(I)I"⟩
def dkwX3_lettersOf_1 : List UInt8 := [158, 0, 9, 4, 29, 120, 167, 0, 4, 3, 128, 61, 132, 3, 1, 167, 255, 223, 28, 172]
abbrev dktX3_lettersOf_1 : List UInt8 := dkwX3_lettersOf_1 ++ []
def dkwX3_lettersOf_0 : List UInt8 := [3, 61, 3, 62, 29, 16, 8, 162, 0, 33, 28, 42, 180, 0, 22, 16, 8, 27, 104, 29, 96, 46]
abbrev dktX3_lettersOf_0 : List UInt8 := dkwX3_lettersOf_0 ++ dktX3_lettersOf_1
theorem dksX3_lettersOf_0 : cX3_lettersOf.data.toList.drop 0 = dktX3_lettersOf_0 := by decide +kernel
theorem dksX3_lettersOf_1 : cX3_lettersOf.data.toList.drop 22 = dktX3_lettersOf_1 := dk_seg dksX3_lettersOf_0 22 rfl rfl
theorem dX3_lettersOf_0 : decode cX3_lettersOf 0 = .ok (.iconst 0, 1) := dk_3 (dk_at dksX3_lettersOf_0 0 rfl rfl)
theorem dX3_lettersOf_1 : decode cX3_lettersOf 1 = .ok (.istore_n 2, 1) := dk_61 (dk_at dksX3_lettersOf_0 1 rfl rfl)
theorem dX3_lettersOf_2 : decode cX3_lettersOf 2 = .ok (.iconst 0, 1) := dk_3 (dk_at dksX3_lettersOf_0 2 rfl rfl)
theorem dX3_lettersOf_3 : decode cX3_lettersOf 3 = .ok (.istore_n 3, 1) := dk_62 (dk_at dksX3_lettersOf_0 3 rfl rfl)
theorem dX3_lettersOf_4 : decode cX3_lettersOf 4 = .ok (.iload_n 3, 1) := dk_29 (dk_at dksX3_lettersOf_0 4 rfl rfl)
theorem dX3_lettersOf_5 : decode cX3_lettersOf 5 = .ok (.bipush 8, 2) := dk_16 8 (dk_at dksX3_lettersOf_0 5 rfl rfl)
theorem dX3_lettersOf_7 : decode cX3_lettersOf 7 = .ok (.if_icmp .ge 33, 3) := dk_162 0 33 (dk_at dksX3_lettersOf_0 7 rfl rfl)
theorem dX3_lettersOf_10 : decode cX3_lettersOf 10 = .ok (.iload_n 2, 1) := dk_28 (dk_at dksX3_lettersOf_0 10 rfl rfl)
theorem dX3_lettersOf_11 : decode cX3_lettersOf 11 = .ok (.aload_n 0, 1) := dk_42 (dk_at dksX3_lettersOf_0 11 rfl rfl)
theorem dX3_lettersOf_12 : decode cX3_lettersOf 12 = .ok (.getfield 22, 3) := dk_180 0 22 (dk_at dksX3_lettersOf_0 12 rfl rfl)
theorem dX3_lettersOf_15 : decode cX3_lettersOf 15 = .ok (.bipush 8, 2) := dk_16 8 (dk_at dksX3_lettersOf_0 15 rfl rfl)
theorem dX3_lettersOf_17 : decode cX3_lettersOf 17 = .ok (.iload_n 1, 1) := dk_27 (dk_at dksX3_lettersOf_0 17 rfl rfl)
theorem dX3_lettersOf_18 : decode cX3_lettersOf 18 = .ok (.imul, 1) := dk_104 (dk_at dksX3_lettersOf_0 18 rfl rfl)
theorem dX3_lettersOf_19 : decode cX3_lettersOf 19 = .ok (.iload_n 3, 1) := dk_29 (dk_at dksX3_lettersOf_0 19 rfl rfl)
theorem dX3_lettersOf_20 : decode cX3_lettersOf 20 = .ok (.iadd, 1) := dk_96 (dk_at dksX3_lettersOf_0 20 rfl rfl)
theorem dX3_lettersOf_21 : decode cX3_lettersOf 21 = .ok (.iaload, 1) := dk_46 (dk_at dksX3_lettersOf_0 21 rfl rfl)
theorem dX3_lettersOf_22 : decode cX3_lettersOf 22 = .ok (.ifCond .le 9, 3) := dk_158 0 9 (dk_at dksX3_lettersOf_1 0 rfl rfl)
theorem dX3_lettersOf_25 : decode cX3_lettersOf 25 = .ok (.iconst 1, 1) := dk_4 (dk_at dksX3_lettersOf_1 3 rfl rfl)
theorem dX3_lettersOf_26 : decode cX3_lettersOf 26 = .ok (.iload_n 3, 1) := dk_29 (dk_at dksX3_lettersOf_1 4 rfl rfl)
theorem dX3_lettersOf_27 : decode cX3_lettersOf 27 = .ok (.ishl, 1) := dk_120 (dk_at dksX3_lettersOf_1 5 rfl rfl)
theorem dX3_lettersOf_28 : decode cX3_lettersOf 28 = .ok (.goto 4, 3) := dk_167 0 4 (dk_at dksX3_lettersOf_1 6 rfl rfl)
theorem dX3_lettersOf_31 : decode cX3_lettersOf 31 = .ok (.iconst 0, 1) := dk_3 (dk_at dksX3_lettersOf_1 9 rfl rfl)
theorem dX3_lettersOf_32 : decode cX3_lettersOf 32 = .ok (.ior, 1) := dk_128 (dk_at dksX3_lettersOf_1 10 rfl rfl)
theorem dX3_lettersOf_33 : decode cX3_lettersOf 33 = .ok (.istore_n 2, 1) := dk_61 (dk_at dksX3_lettersOf_1 11 rfl rfl)
theorem dX3_lettersOf_34 : decode cX3_lettersOf 34 = .ok (.iinc 3 1, 3) := dk_132 3 1 (dk_at dksX3_lettersOf_1 12 rfl rfl)
theorem dX3_lettersOf_37 : decode cX3_lettersOf 37 = .ok (.goto (-33), 3) := dk_167 255 223 (dk_at dksX3_lettersOf_1 15 rfl rfl)
theorem dX3_lettersOf_40 : decode cX3_lettersOf 40 = .ok (.iload_n 2, 1) := dk_28 (dk_at dksX3_lettersOf_1 18 rfl rfl)
theorem dX3_lettersOf_41 : decode cX3_lettersOf 41 = .ok (.ireturn, 1) := dk_172 (dk_at dksX3_lettersOf_1 19 rfl rfl)
abbrev cX3_letter : ByteArray := prog_13_method_44_code
def yX3_letter : MethodName := ⟨RX3, "letter", "(II)I"⟩
def dkwX3_letter_3 : List UInt8 := [16, 254, 172]
abbrev dktX3_letter_3 : List UInt8 := dkwX3_letter_3 ++ []
def dkwX3_letter_2 : List UInt8 := [42, 180, 0, 25, 27, 46, 172, 42, 27, 182, 0, 240, 172, 42, 180, 0, 25, 16, 21, 27, 96, 46, 172]
abbrev dktX3_letter_2 : List UInt8 := dkwX3_letter_2 ++ dktX3_letter_3
def dkwX3_letter_1 : List UInt8 := [170, 0, 0, 0, 0, 49, 0, 0, 0, 0, 0, 0, 0, 2, 0, 0, 0, 26, 0, 0, 0, 33, 0, 0, 0, 39]
abbrev dktX3_letter_1 : List UInt8 := dkwX3_letter_1 ++ dktX3_letter_2
def dkwX3_letter_0 : List UInt8 := [27, 184, 0, 255, 153, 0, 15, 28, 5, 160, 0, 12, 27, 184, 0, 145, 154, 0, 5, 2, 172, 28]
abbrev dktX3_letter_0 : List UInt8 := dkwX3_letter_0 ++ dktX3_letter_1
theorem dksX3_letter_0 : cX3_letter.data.toList.drop 0 = dktX3_letter_0 := by decide +kernel
theorem dksX3_letter_1 : cX3_letter.data.toList.drop 22 = dktX3_letter_1 := dk_seg dksX3_letter_0 22 rfl rfl
theorem dksX3_letter_2 : cX3_letter.data.toList.drop 48 = dktX3_letter_2 := dk_seg dksX3_letter_1 26 rfl rfl
theorem dksX3_letter_3 : cX3_letter.data.toList.drop 71 = dktX3_letter_3 := dk_seg dksX3_letter_2 23 rfl rfl
theorem dX3_letter_0 : decode cX3_letter 0 = .ok (.iload_n 1, 1) := dk_27 (dk_at dksX3_letter_0 0 rfl rfl)
theorem dX3_letter_1 : decode cX3_letter 1 = .ok (.invokestatic 255, 3) := dk_184 0 255 (dk_at dksX3_letter_0 1 rfl rfl)
theorem dX3_letter_4 : decode cX3_letter 4 = .ok (.ifCond .eq 15, 3) := dk_153 0 15 (dk_at dksX3_letter_0 4 rfl rfl)
theorem dX3_letter_7 : decode cX3_letter 7 = .ok (.iload_n 2, 1) := dk_28 (dk_at dksX3_letter_0 7 rfl rfl)
theorem dX3_letter_8 : decode cX3_letter 8 = .ok (.iconst 2, 1) := dk_5 (dk_at dksX3_letter_0 8 rfl rfl)
theorem dX3_letter_9 : decode cX3_letter 9 = .ok (.if_icmp .ne 12, 3) := dk_160 0 12 (dk_at dksX3_letter_0 9 rfl rfl)
theorem dX3_letter_12 : decode cX3_letter 12 = .ok (.iload_n 1, 1) := dk_27 (dk_at dksX3_letter_0 12 rfl rfl)
theorem dX3_letter_13 : decode cX3_letter 13 = .ok (.invokestatic 145, 3) := dk_184 0 145 (dk_at dksX3_letter_0 13 rfl rfl)
theorem dX3_letter_16 : decode cX3_letter 16 = .ok (.ifCond .ne 5, 3) := dk_154 0 5 (dk_at dksX3_letter_0 16 rfl rfl)
theorem dX3_letter_19 : decode cX3_letter 19 = .ok (.iconst (-1), 1) := dk_2 (dk_at dksX3_letter_0 19 rfl rfl)
theorem dX3_letter_20 : decode cX3_letter 20 = .ok (.ireturn, 1) := dk_172 (dk_at dksX3_letter_0 20 rfl rfl)
theorem dX3_letter_21 : decode cX3_letter 21 = .ok (.iload_n 2, 1) := dk_28 (dk_at dksX3_letter_0 21 rfl rfl)
theorem dX3_letter_22 : decode cX3_letter 22 = .ok (.tableswitch 49 0 2 #[26, 33, 39], 26) := by decide +kernel
theorem dX3_letter_48 : decode cX3_letter 48 = .ok (.aload_n 0, 1) := dk_42 (dk_at dksX3_letter_2 0 rfl rfl)
theorem dX3_letter_49 : decode cX3_letter 49 = .ok (.getfield 25, 3) := dk_180 0 25 (dk_at dksX3_letter_2 1 rfl rfl)
theorem dX3_letter_52 : decode cX3_letter 52 = .ok (.iload_n 1, 1) := dk_27 (dk_at dksX3_letter_2 4 rfl rfl)
theorem dX3_letter_53 : decode cX3_letter 53 = .ok (.iaload, 1) := dk_46 (dk_at dksX3_letter_2 5 rfl rfl)
theorem dX3_letter_54 : decode cX3_letter 54 = .ok (.ireturn, 1) := dk_172 (dk_at dksX3_letter_2 6 rfl rfl)
theorem dX3_letter_55 : decode cX3_letter 55 = .ok (.aload_n 0, 1) := dk_42 (dk_at dksX3_letter_2 7 rfl rfl)
theorem dX3_letter_56 : decode cX3_letter 56 = .ok (.iload_n 1, 1) := dk_27 (dk_at dksX3_letter_2 8 rfl rfl)
theorem dX3_letter_57 : decode cX3_letter 57 = .ok (.invokevirtual 240, 3) := dk_182 0 240 (dk_at dksX3_letter_2 9 rfl rfl)
theorem dX3_letter_60 : decode cX3_letter 60 = .ok (.ireturn, 1) := dk_172 (dk_at dksX3_letter_2 12 rfl rfl)
theorem dX3_letter_61 : decode cX3_letter 61 = .ok (.aload_n 0, 1) := dk_42 (dk_at dksX3_letter_2 13 rfl rfl)
theorem dX3_letter_62 : decode cX3_letter 62 = .ok (.getfield 25, 3) := dk_180 0 25 (dk_at dksX3_letter_2 14 rfl rfl)
theorem dX3_letter_65 : decode cX3_letter 65 = .ok (.bipush 21, 2) := dk_16 21 (dk_at dksX3_letter_2 17 rfl rfl)
theorem dX3_letter_67 : decode cX3_letter 67 = .ok (.iload_n 1, 1) := dk_27 (dk_at dksX3_letter_2 19 rfl rfl)
theorem dX3_letter_68 : decode cX3_letter 68 = .ok (.iadd, 1) := dk_96 (dk_at dksX3_letter_2 20 rfl rfl)
theorem dX3_letter_69 : decode cX3_letter 69 = .ok (.iaload, 1) := dk_46 (dk_at dksX3_letter_2 21 rfl rfl)
theorem dX3_letter_70 : decode cX3_letter 70 = .ok (.ireturn, 1) := dk_172 (dk_at dksX3_letter_2 22 rfl rfl)
theorem dX3_letter_71 : decode cX3_letter 71 = .ok (.bipush (-2), 2) := dk_16 254 (dk_at dksX3_letter_3 0 rfl rfl)
theorem dX3_letter_73 : decode cX3_letter 73 = .ok (.ireturn, 1) := dk_172 (dk_at dksX3_letter_3 2 rfl rfl)
abbrev cX3_isLetter : ByteArray := prog_13_method_12_code
def yX3_isLetter : MethodName := ⟨RX3, "isLetter", "(I)Z"⟩
def dkwX3_isLetter_0 : List UInt8 := [26, 133, 9, 20, 0, 111, 184, 0, 107, 172]
abbrev dktX3_isLetter_0 : List UInt8 := dkwX3_isLetter_0 ++ []
theorem dksX3_isLetter_0 : cX3_isLetter.data.toList.drop 0 = dktX3_isLetter_0 := by decide +kernel
theorem dX3_isLetter_0 : decode cX3_isLetter 0 = .ok (.iload_n 0, 1) := dk_26 (dk_at dksX3_isLetter_0 0 rfl rfl)
theorem dX3_isLetter_1 : decode cX3_isLetter 1 = .ok (.i2l, 1) := dk_133 (dk_at dksX3_isLetter_0 1 rfl rfl)
theorem dX3_isLetter_2 : decode cX3_isLetter 2 = .ok (.lconst 0, 1) := dk_9 (dk_at dksX3_isLetter_0 2 rfl rfl)
theorem dX3_isLetter_3 : decode cX3_isLetter 3 = .ok (.ldc2_w 111, 3) := dk_20 0 111 (dk_at dksX3_isLetter_0 3 rfl rfl)
theorem dX3_isLetter_6 : decode cX3_isLetter 6 = .ok (.invokestatic 107, 3) := dk_184 0 107 (dk_at dksX3_isLetter_0 6 rfl rfl)
theorem dX3_isLetter_9 : decode cX3_isLetter 9 = .ok (.ireturn, 1) := dk_172 (dk_at dksX3_isLetter_0 9 rfl rfl)
abbrev cX3_put : ByteArray := prog_13_method_46_code
def yX3_put : MethodName := ⟨RX3, "put", "(I)I"⟩
def dkwX3_put_1 : List UInt8 := [42, 182, 1, 5, 42, 180, 0, 25, 27, 92, 46, 4, 96, 79, 42, 180, 0, 25, 184, 0, 129, 172]
abbrev dktX3_put_1 : List UInt8 := dkwX3_put_1 ++ []
def dkwX3_put_0 : List UInt8 := [27, 184, 0, 255, 154, 0, 5, 2, 172, 42, 180, 0, 25, 184, 0, 129, 16, 12, 160, 0, 6, 16, 252, 172]
abbrev dktX3_put_0 : List UInt8 := dkwX3_put_0 ++ dktX3_put_1
theorem dksX3_put_0 : cX3_put.data.toList.drop 0 = dktX3_put_0 := by decide +kernel
theorem dksX3_put_1 : cX3_put.data.toList.drop 24 = dktX3_put_1 := dk_seg dksX3_put_0 24 rfl rfl
theorem dX3_put_0 : decode cX3_put 0 = .ok (.iload_n 1, 1) := dk_27 (dk_at dksX3_put_0 0 rfl rfl)
theorem dX3_put_1 : decode cX3_put 1 = .ok (.invokestatic 255, 3) := dk_184 0 255 (dk_at dksX3_put_0 1 rfl rfl)
theorem dX3_put_4 : decode cX3_put 4 = .ok (.ifCond .ne 5, 3) := dk_154 0 5 (dk_at dksX3_put_0 4 rfl rfl)
theorem dX3_put_7 : decode cX3_put 7 = .ok (.iconst (-1), 1) := dk_2 (dk_at dksX3_put_0 7 rfl rfl)
theorem dX3_put_8 : decode cX3_put 8 = .ok (.ireturn, 1) := dk_172 (dk_at dksX3_put_0 8 rfl rfl)
theorem dX3_put_9 : decode cX3_put 9 = .ok (.aload_n 0, 1) := dk_42 (dk_at dksX3_put_0 9 rfl rfl)
theorem dX3_put_10 : decode cX3_put 10 = .ok (.getfield 25, 3) := dk_180 0 25 (dk_at dksX3_put_0 10 rfl rfl)
theorem dX3_put_13 : decode cX3_put 13 = .ok (.invokestatic 129, 3) := dk_184 0 129 (dk_at dksX3_put_0 13 rfl rfl)
theorem dX3_put_16 : decode cX3_put 16 = .ok (.bipush 12, 2) := dk_16 12 (dk_at dksX3_put_0 16 rfl rfl)
theorem dX3_put_18 : decode cX3_put 18 = .ok (.if_icmp .ne 6, 3) := dk_160 0 6 (dk_at dksX3_put_0 18 rfl rfl)
theorem dX3_put_21 : decode cX3_put 21 = .ok (.bipush (-4), 2) := dk_16 252 (dk_at dksX3_put_0 21 rfl rfl)
theorem dX3_put_23 : decode cX3_put 23 = .ok (.ireturn, 1) := dk_172 (dk_at dksX3_put_0 23 rfl rfl)
theorem dX3_put_24 : decode cX3_put 24 = .ok (.aload_n 0, 1) := dk_42 (dk_at dksX3_put_1 0 rfl rfl)
theorem dX3_put_25 : decode cX3_put 25 = .ok (.invokevirtual 261, 3) := dk_182 1 5 (dk_at dksX3_put_1 1 rfl rfl)
theorem dX3_put_28 : decode cX3_put 28 = .ok (.aload_n 0, 1) := dk_42 (dk_at dksX3_put_1 4 rfl rfl)
theorem dX3_put_29 : decode cX3_put 29 = .ok (.getfield 25, 3) := dk_180 0 25 (dk_at dksX3_put_1 5 rfl rfl)
theorem dX3_put_32 : decode cX3_put 32 = .ok (.iload_n 1, 1) := dk_27 (dk_at dksX3_put_1 8 rfl rfl)
theorem dX3_put_33 : decode cX3_put 33 = .ok (.dup2, 1) := dk_92 (dk_at dksX3_put_1 9 rfl rfl)
theorem dX3_put_34 : decode cX3_put 34 = .ok (.iaload, 1) := dk_46 (dk_at dksX3_put_1 10 rfl rfl)
theorem dX3_put_35 : decode cX3_put 35 = .ok (.iconst 1, 1) := dk_4 (dk_at dksX3_put_1 11 rfl rfl)
theorem dX3_put_36 : decode cX3_put 36 = .ok (.iadd, 1) := dk_96 (dk_at dksX3_put_1 12 rfl rfl)
theorem dX3_put_37 : decode cX3_put 37 = .ok (.iastore, 1) := dk_79 (dk_at dksX3_put_1 13 rfl rfl)
theorem dX3_put_38 : decode cX3_put 38 = .ok (.aload_n 0, 1) := dk_42 (dk_at dksX3_put_1 14 rfl rfl)
theorem dX3_put_39 : decode cX3_put 39 = .ok (.getfield 25, 3) := dk_180 0 25 (dk_at dksX3_put_1 15 rfl rfl)
theorem dX3_put_42 : decode cX3_put 42 = .ok (.invokestatic 129, 3) := dk_184 0 129 (dk_at dksX3_put_1 18 rfl rfl)
theorem dX3_put_45 : decode cX3_put 45 = .ok (.ireturn, 1) := dk_172 (dk_at dksX3_put_1 21 rfl rfl)
abbrev cX3_note : ByteArray := prog_13_method_45_code
def yX3_note : MethodName := ⟨RX3, "note", "()V"⟩
def dkwX3_note_3 : List UInt8 := [181, 0, 182, 177]
abbrev dktX3_note_3 : List UInt8 := dkwX3_note_3 ++ []
def dkwX3_note_2 : List UInt8 := [181, 1, 2, 42, 42, 180, 0, 182, 16, 14, 162, 0, 12, 42, 180, 0, 182, 4, 96, 167, 0, 5, 16, 14]
abbrev dktX3_note_2 : List UInt8 := dkwX3_note_2 ++ dktX3_note_3
def dkwX3_note_1 : List UInt8 := [180, 0, 25, 27, 46, 79, 132, 1, 1, 167, 255, 227, 42, 42, 180, 1, 2, 4, 96, 16, 14, 112]
abbrev dktX3_note_1 : List UInt8 := dkwX3_note_1 ++ dktX3_note_2
def dkwX3_note_0 : List UInt8 := [3, 60, 27, 16, 25, 162, 0, 29, 42, 180, 0, 31, 16, 25, 42, 180, 1, 2, 104, 27, 96, 42]
abbrev dktX3_note_0 : List UInt8 := dkwX3_note_0 ++ dktX3_note_1
theorem dksX3_note_0 : cX3_note.data.toList.drop 0 = dktX3_note_0 := by decide +kernel
theorem dksX3_note_1 : cX3_note.data.toList.drop 22 = dktX3_note_1 := dk_seg dksX3_note_0 22 rfl rfl
theorem dksX3_note_2 : cX3_note.data.toList.drop 44 = dktX3_note_2 := dk_seg dksX3_note_1 22 rfl rfl
theorem dksX3_note_3 : cX3_note.data.toList.drop 68 = dktX3_note_3 := dk_seg dksX3_note_2 24 rfl rfl
theorem dX3_note_0 : decode cX3_note 0 = .ok (.iconst 0, 1) := dk_3 (dk_at dksX3_note_0 0 rfl rfl)
theorem dX3_note_1 : decode cX3_note 1 = .ok (.istore_n 1, 1) := dk_60 (dk_at dksX3_note_0 1 rfl rfl)
theorem dX3_note_2 : decode cX3_note 2 = .ok (.iload_n 1, 1) := dk_27 (dk_at dksX3_note_0 2 rfl rfl)
theorem dX3_note_3 : decode cX3_note 3 = .ok (.bipush 25, 2) := dk_16 25 (dk_at dksX3_note_0 3 rfl rfl)
theorem dX3_note_5 : decode cX3_note 5 = .ok (.if_icmp .ge 29, 3) := dk_162 0 29 (dk_at dksX3_note_0 5 rfl rfl)
theorem dX3_note_8 : decode cX3_note 8 = .ok (.aload_n 0, 1) := dk_42 (dk_at dksX3_note_0 8 rfl rfl)
theorem dX3_note_9 : decode cX3_note 9 = .ok (.getfield 31, 3) := dk_180 0 31 (dk_at dksX3_note_0 9 rfl rfl)
theorem dX3_note_12 : decode cX3_note 12 = .ok (.bipush 25, 2) := dk_16 25 (dk_at dksX3_note_0 12 rfl rfl)
theorem dX3_note_14 : decode cX3_note 14 = .ok (.aload_n 0, 1) := dk_42 (dk_at dksX3_note_0 14 rfl rfl)
theorem dX3_note_15 : decode cX3_note 15 = .ok (.getfield 258, 3) := dk_180 1 2 (dk_at dksX3_note_0 15 rfl rfl)
theorem dX3_note_18 : decode cX3_note 18 = .ok (.imul, 1) := dk_104 (dk_at dksX3_note_0 18 rfl rfl)
theorem dX3_note_19 : decode cX3_note 19 = .ok (.iload_n 1, 1) := dk_27 (dk_at dksX3_note_0 19 rfl rfl)
theorem dX3_note_20 : decode cX3_note 20 = .ok (.iadd, 1) := dk_96 (dk_at dksX3_note_0 20 rfl rfl)
theorem dX3_note_21 : decode cX3_note 21 = .ok (.aload_n 0, 1) := dk_42 (dk_at dksX3_note_0 21 rfl rfl)
theorem dX3_note_22 : decode cX3_note 22 = .ok (.getfield 25, 3) := dk_180 0 25 (dk_at dksX3_note_1 0 rfl rfl)
theorem dX3_note_25 : decode cX3_note 25 = .ok (.iload_n 1, 1) := dk_27 (dk_at dksX3_note_1 3 rfl rfl)
theorem dX3_note_26 : decode cX3_note 26 = .ok (.iaload, 1) := dk_46 (dk_at dksX3_note_1 4 rfl rfl)
theorem dX3_note_27 : decode cX3_note 27 = .ok (.iastore, 1) := dk_79 (dk_at dksX3_note_1 5 rfl rfl)
theorem dX3_note_28 : decode cX3_note 28 = .ok (.iinc 1 1, 3) := dk_132 1 1 (dk_at dksX3_note_1 6 rfl rfl)
theorem dX3_note_31 : decode cX3_note 31 = .ok (.goto (-29), 3) := dk_167 255 227 (dk_at dksX3_note_1 9 rfl rfl)
theorem dX3_note_34 : decode cX3_note 34 = .ok (.aload_n 0, 1) := dk_42 (dk_at dksX3_note_1 12 rfl rfl)
theorem dX3_note_35 : decode cX3_note 35 = .ok (.aload_n 0, 1) := dk_42 (dk_at dksX3_note_1 13 rfl rfl)
theorem dX3_note_36 : decode cX3_note 36 = .ok (.getfield 258, 3) := dk_180 1 2 (dk_at dksX3_note_1 14 rfl rfl)
theorem dX3_note_39 : decode cX3_note 39 = .ok (.iconst 1, 1) := dk_4 (dk_at dksX3_note_1 17 rfl rfl)
theorem dX3_note_40 : decode cX3_note 40 = .ok (.iadd, 1) := dk_96 (dk_at dksX3_note_1 18 rfl rfl)
theorem dX3_note_41 : decode cX3_note 41 = .ok (.bipush 14, 2) := dk_16 14 (dk_at dksX3_note_1 19 rfl rfl)
theorem dX3_note_43 : decode cX3_note 43 = .ok (.irem, 1) := dk_112 (dk_at dksX3_note_1 21 rfl rfl)
theorem dX3_note_44 : decode cX3_note 44 = .ok (.putfield 258, 3) := dk_181 1 2 (dk_at dksX3_note_2 0 rfl rfl)
theorem dX3_note_47 : decode cX3_note 47 = .ok (.aload_n 0, 1) := dk_42 (dk_at dksX3_note_2 3 rfl rfl)
theorem dX3_note_48 : decode cX3_note 48 = .ok (.aload_n 0, 1) := dk_42 (dk_at dksX3_note_2 4 rfl rfl)
theorem dX3_note_49 : decode cX3_note 49 = .ok (.getfield 182, 3) := dk_180 0 182 (dk_at dksX3_note_2 5 rfl rfl)
theorem dX3_note_52 : decode cX3_note 52 = .ok (.bipush 14, 2) := dk_16 14 (dk_at dksX3_note_2 8 rfl rfl)
theorem dX3_note_54 : decode cX3_note 54 = .ok (.if_icmp .ge 12, 3) := dk_162 0 12 (dk_at dksX3_note_2 10 rfl rfl)
theorem dX3_note_57 : decode cX3_note 57 = .ok (.aload_n 0, 1) := dk_42 (dk_at dksX3_note_2 13 rfl rfl)
theorem dX3_note_58 : decode cX3_note 58 = .ok (.getfield 182, 3) := dk_180 0 182 (dk_at dksX3_note_2 14 rfl rfl)
theorem dX3_note_61 : decode cX3_note 61 = .ok (.iconst 1, 1) := dk_4 (dk_at dksX3_note_2 17 rfl rfl)
theorem dX3_note_62 : decode cX3_note 62 = .ok (.iadd, 1) := dk_96 (dk_at dksX3_note_2 18 rfl rfl)
theorem dX3_note_63 : decode cX3_note 63 = .ok (.goto 5, 3) := dk_167 0 5 (dk_at dksX3_note_2 19 rfl rfl)
theorem dX3_note_66 : decode cX3_note 66 = .ok (.bipush 14, 2) := dk_16 14 (dk_at dksX3_note_2 22 rfl rfl)
theorem dX3_note_68 : decode cX3_note 68 = .ok (.putfield 182, 3) := dk_181 0 182 (dk_at dksX3_note_3 0 rfl rfl)
theorem dX3_note_71 : decode cX3_note 71 = .ok (.return_, 1) := dk_177 (dk_at dksX3_note_3 3 rfl rfl)
abbrev cX3_take : ByteArray := prog_13_method_47_code
def yX3_take : MethodName := ⟨RX3, "take", "(I)I"⟩
def dkwX3_take_1 : List UInt8 := [182, 1, 5, 42, 180, 0, 25, 27, 92, 46, 4, 100, 79, 42, 180, 0, 25, 184, 0, 129, 172]
abbrev dktX3_take_1 : List UInt8 := dkwX3_take_1 ++ []
def dkwX3_take_0 : List UInt8 := [27, 184, 0, 255, 154, 0, 5, 2, 172, 42, 180, 0, 25, 27, 46, 154, 0, 6, 16, 253, 172, 42]
abbrev dktX3_take_0 : List UInt8 := dkwX3_take_0 ++ dktX3_take_1
theorem dksX3_take_0 : cX3_take.data.toList.drop 0 = dktX3_take_0 := by decide +kernel
theorem dksX3_take_1 : cX3_take.data.toList.drop 22 = dktX3_take_1 := dk_seg dksX3_take_0 22 rfl rfl
theorem dX3_take_0 : decode cX3_take 0 = .ok (.iload_n 1, 1) := dk_27 (dk_at dksX3_take_0 0 rfl rfl)
theorem dX3_take_1 : decode cX3_take 1 = .ok (.invokestatic 255, 3) := dk_184 0 255 (dk_at dksX3_take_0 1 rfl rfl)
theorem dX3_take_4 : decode cX3_take 4 = .ok (.ifCond .ne 5, 3) := dk_154 0 5 (dk_at dksX3_take_0 4 rfl rfl)
theorem dX3_take_7 : decode cX3_take 7 = .ok (.iconst (-1), 1) := dk_2 (dk_at dksX3_take_0 7 rfl rfl)
theorem dX3_take_8 : decode cX3_take 8 = .ok (.ireturn, 1) := dk_172 (dk_at dksX3_take_0 8 rfl rfl)
theorem dX3_take_9 : decode cX3_take 9 = .ok (.aload_n 0, 1) := dk_42 (dk_at dksX3_take_0 9 rfl rfl)
theorem dX3_take_10 : decode cX3_take 10 = .ok (.getfield 25, 3) := dk_180 0 25 (dk_at dksX3_take_0 10 rfl rfl)
theorem dX3_take_13 : decode cX3_take 13 = .ok (.iload_n 1, 1) := dk_27 (dk_at dksX3_take_0 13 rfl rfl)
theorem dX3_take_14 : decode cX3_take 14 = .ok (.iaload, 1) := dk_46 (dk_at dksX3_take_0 14 rfl rfl)
theorem dX3_take_15 : decode cX3_take 15 = .ok (.ifCond .ne 6, 3) := dk_154 0 6 (dk_at dksX3_take_0 15 rfl rfl)
theorem dX3_take_18 : decode cX3_take 18 = .ok (.bipush (-3), 2) := dk_16 253 (dk_at dksX3_take_0 18 rfl rfl)
theorem dX3_take_20 : decode cX3_take 20 = .ok (.ireturn, 1) := dk_172 (dk_at dksX3_take_0 20 rfl rfl)
theorem dX3_take_21 : decode cX3_take 21 = .ok (.aload_n 0, 1) := dk_42 (dk_at dksX3_take_0 21 rfl rfl)
theorem dX3_take_22 : decode cX3_take 22 = .ok (.invokevirtual 261, 3) := dk_182 1 5 (dk_at dksX3_take_1 0 rfl rfl)
theorem dX3_take_25 : decode cX3_take 25 = .ok (.aload_n 0, 1) := dk_42 (dk_at dksX3_take_1 3 rfl rfl)
theorem dX3_take_26 : decode cX3_take 26 = .ok (.getfield 25, 3) := dk_180 0 25 (dk_at dksX3_take_1 4 rfl rfl)
theorem dX3_take_29 : decode cX3_take 29 = .ok (.iload_n 1, 1) := dk_27 (dk_at dksX3_take_1 7 rfl rfl)
theorem dX3_take_30 : decode cX3_take 30 = .ok (.dup2, 1) := dk_92 (dk_at dksX3_take_1 8 rfl rfl)
theorem dX3_take_31 : decode cX3_take 31 = .ok (.iaload, 1) := dk_46 (dk_at dksX3_take_1 9 rfl rfl)
theorem dX3_take_32 : decode cX3_take 32 = .ok (.iconst 1, 1) := dk_4 (dk_at dksX3_take_1 10 rfl rfl)
theorem dX3_take_33 : decode cX3_take 33 = .ok (.isub, 1) := dk_100 (dk_at dksX3_take_1 11 rfl rfl)
theorem dX3_take_34 : decode cX3_take 34 = .ok (.iastore, 1) := dk_79 (dk_at dksX3_take_1 12 rfl rfl)
theorem dX3_take_35 : decode cX3_take 35 = .ok (.aload_n 0, 1) := dk_42 (dk_at dksX3_take_1 13 rfl rfl)
theorem dX3_take_36 : decode cX3_take 36 = .ok (.getfield 25, 3) := dk_180 0 25 (dk_at dksX3_take_1 14 rfl rfl)
theorem dX3_take_39 : decode cX3_take 39 = .ok (.invokestatic 129, 3) := dk_184 0 129 (dk_at dksX3_take_1 17 rfl rfl)
theorem dX3_take_42 : decode cX3_take 42 = .ok (.ireturn, 1) := dk_172 (dk_at dksX3_take_1 20 rfl rfl)
abbrev cX3_bar : ByteArray := prog_13_method_48_code
def yX3_bar : MethodName := ⟨RX3, "bar", "(I)I"⟩
def dkwX3_bar_1 : List UInt8 := [120, 130, 79, 42, 180, 0, 25, 16, 8, 46, 27, 122, 4, 126, 172]
abbrev dktX3_bar_1 : List UInt8 := dkwX3_bar_1 ++ []
def dkwX3_bar_0 : List UInt8 := [42, 27, 182, 0, 243, 154, 0, 5, 2, 172, 42, 182, 1, 5, 42, 180, 0, 25, 16, 8, 92, 46, 4, 27]
abbrev dktX3_bar_0 : List UInt8 := dkwX3_bar_0 ++ dktX3_bar_1
theorem dksX3_bar_0 : cX3_bar.data.toList.drop 0 = dktX3_bar_0 := by decide +kernel
theorem dksX3_bar_1 : cX3_bar.data.toList.drop 24 = dktX3_bar_1 := dk_seg dksX3_bar_0 24 rfl rfl
theorem dX3_bar_0 : decode cX3_bar 0 = .ok (.aload_n 0, 1) := dk_42 (dk_at dksX3_bar_0 0 rfl rfl)
theorem dX3_bar_1 : decode cX3_bar 1 = .ok (.iload_n 1, 1) := dk_27 (dk_at dksX3_bar_0 1 rfl rfl)
theorem dX3_bar_2 : decode cX3_bar 2 = .ok (.invokevirtual 243, 3) := dk_182 0 243 (dk_at dksX3_bar_0 2 rfl rfl)
theorem dX3_bar_5 : decode cX3_bar 5 = .ok (.ifCond .ne 5, 3) := dk_154 0 5 (dk_at dksX3_bar_0 5 rfl rfl)
theorem dX3_bar_8 : decode cX3_bar 8 = .ok (.iconst (-1), 1) := dk_2 (dk_at dksX3_bar_0 8 rfl rfl)
theorem dX3_bar_9 : decode cX3_bar 9 = .ok (.ireturn, 1) := dk_172 (dk_at dksX3_bar_0 9 rfl rfl)
theorem dX3_bar_10 : decode cX3_bar 10 = .ok (.aload_n 0, 1) := dk_42 (dk_at dksX3_bar_0 10 rfl rfl)
theorem dX3_bar_11 : decode cX3_bar 11 = .ok (.invokevirtual 261, 3) := dk_182 1 5 (dk_at dksX3_bar_0 11 rfl rfl)
theorem dX3_bar_14 : decode cX3_bar 14 = .ok (.aload_n 0, 1) := dk_42 (dk_at dksX3_bar_0 14 rfl rfl)
theorem dX3_bar_15 : decode cX3_bar 15 = .ok (.getfield 25, 3) := dk_180 0 25 (dk_at dksX3_bar_0 15 rfl rfl)
theorem dX3_bar_18 : decode cX3_bar 18 = .ok (.bipush 8, 2) := dk_16 8 (dk_at dksX3_bar_0 18 rfl rfl)
theorem dX3_bar_20 : decode cX3_bar 20 = .ok (.dup2, 1) := dk_92 (dk_at dksX3_bar_0 20 rfl rfl)
theorem dX3_bar_21 : decode cX3_bar 21 = .ok (.iaload, 1) := dk_46 (dk_at dksX3_bar_0 21 rfl rfl)
theorem dX3_bar_22 : decode cX3_bar 22 = .ok (.iconst 1, 1) := dk_4 (dk_at dksX3_bar_0 22 rfl rfl)
theorem dX3_bar_23 : decode cX3_bar 23 = .ok (.iload_n 1, 1) := dk_27 (dk_at dksX3_bar_0 23 rfl rfl)
theorem dX3_bar_24 : decode cX3_bar 24 = .ok (.ishl, 1) := dk_120 (dk_at dksX3_bar_1 0 rfl rfl)
theorem dX3_bar_25 : decode cX3_bar 25 = .ok (.ixor, 1) := dk_130 (dk_at dksX3_bar_1 1 rfl rfl)
theorem dX3_bar_26 : decode cX3_bar 26 = .ok (.iastore, 1) := dk_79 (dk_at dksX3_bar_1 2 rfl rfl)
theorem dX3_bar_27 : decode cX3_bar 27 = .ok (.aload_n 0, 1) := dk_42 (dk_at dksX3_bar_1 3 rfl rfl)
theorem dX3_bar_28 : decode cX3_bar 28 = .ok (.getfield 25, 3) := dk_180 0 25 (dk_at dksX3_bar_1 4 rfl rfl)
theorem dX3_bar_31 : decode cX3_bar 31 = .ok (.bipush 8, 2) := dk_16 8 (dk_at dksX3_bar_1 7 rfl rfl)
theorem dX3_bar_33 : decode cX3_bar 33 = .ok (.iaload, 1) := dk_46 (dk_at dksX3_bar_1 9 rfl rfl)
theorem dX3_bar_34 : decode cX3_bar 34 = .ok (.iload_n 1, 1) := dk_27 (dk_at dksX3_bar_1 10 rfl rfl)
theorem dX3_bar_35 : decode cX3_bar 35 = .ok (.ishr, 1) := dk_122 (dk_at dksX3_bar_1 11 rfl rfl)
theorem dX3_bar_36 : decode cX3_bar 36 = .ok (.iconst 1, 1) := dk_4 (dk_at dksX3_bar_1 12 rfl rfl)
theorem dX3_bar_37 : decode cX3_bar 37 = .ok (.iand, 1) := dk_126 (dk_at dksX3_bar_1 13 rfl rfl)
theorem dX3_bar_38 : decode cX3_bar 38 = .ok (.ireturn, 1) := dk_172 (dk_at dksX3_bar_1 14 rfl rfl)
abbrev cX3_rank : ByteArray := prog_13_method_49_code
def yX3_rank : MethodName := ⟨RX3, "rank", "(II)I"⟩
def dkwX3_rank_2 : List UInt8 := [79, 29, 172]
abbrev dktX3_rank_2 : List UInt8 := dkwX3_rank_2 ++ []
def dkwX3_rank_1 : List UInt8 := [172, 42, 182, 1, 5, 42, 180, 0, 25, 16, 9, 27, 96, 46, 62, 42, 180, 0, 25, 16, 9, 27, 96, 28]
abbrev dktX3_rank_1 : List UInt8 := dkwX3_rank_1 ++ dktX3_rank_2
def dkwX3_rank_0 : List UInt8 := [42, 27, 182, 0, 243, 154, 0, 5, 2, 172, 28, 133, 9, 20, 1, 8, 184, 0, 107, 154, 0, 6, 16, 254]
abbrev dktX3_rank_0 : List UInt8 := dkwX3_rank_0 ++ dktX3_rank_1
theorem dksX3_rank_0 : cX3_rank.data.toList.drop 0 = dktX3_rank_0 := by decide +kernel
theorem dksX3_rank_1 : cX3_rank.data.toList.drop 24 = dktX3_rank_1 := dk_seg dksX3_rank_0 24 rfl rfl
theorem dksX3_rank_2 : cX3_rank.data.toList.drop 48 = dktX3_rank_2 := dk_seg dksX3_rank_1 24 rfl rfl
theorem dX3_rank_0 : decode cX3_rank 0 = .ok (.aload_n 0, 1) := dk_42 (dk_at dksX3_rank_0 0 rfl rfl)
theorem dX3_rank_1 : decode cX3_rank 1 = .ok (.iload_n 1, 1) := dk_27 (dk_at dksX3_rank_0 1 rfl rfl)
theorem dX3_rank_2 : decode cX3_rank 2 = .ok (.invokevirtual 243, 3) := dk_182 0 243 (dk_at dksX3_rank_0 2 rfl rfl)
theorem dX3_rank_5 : decode cX3_rank 5 = .ok (.ifCond .ne 5, 3) := dk_154 0 5 (dk_at dksX3_rank_0 5 rfl rfl)
theorem dX3_rank_8 : decode cX3_rank 8 = .ok (.iconst (-1), 1) := dk_2 (dk_at dksX3_rank_0 8 rfl rfl)
theorem dX3_rank_9 : decode cX3_rank 9 = .ok (.ireturn, 1) := dk_172 (dk_at dksX3_rank_0 9 rfl rfl)
theorem dX3_rank_10 : decode cX3_rank 10 = .ok (.iload_n 2, 1) := dk_28 (dk_at dksX3_rank_0 10 rfl rfl)
theorem dX3_rank_11 : decode cX3_rank 11 = .ok (.i2l, 1) := dk_133 (dk_at dksX3_rank_0 11 rfl rfl)
theorem dX3_rank_12 : decode cX3_rank 12 = .ok (.lconst 0, 1) := dk_9 (dk_at dksX3_rank_0 12 rfl rfl)
theorem dX3_rank_13 : decode cX3_rank 13 = .ok (.ldc2_w 264, 3) := dk_20 1 8 (dk_at dksX3_rank_0 13 rfl rfl)
theorem dX3_rank_16 : decode cX3_rank 16 = .ok (.invokestatic 107, 3) := dk_184 0 107 (dk_at dksX3_rank_0 16 rfl rfl)
theorem dX3_rank_19 : decode cX3_rank 19 = .ok (.ifCond .ne 6, 3) := dk_154 0 6 (dk_at dksX3_rank_0 19 rfl rfl)
theorem dX3_rank_22 : decode cX3_rank 22 = .ok (.bipush (-2), 2) := dk_16 254 (dk_at dksX3_rank_0 22 rfl rfl)
theorem dX3_rank_24 : decode cX3_rank 24 = .ok (.ireturn, 1) := dk_172 (dk_at dksX3_rank_1 0 rfl rfl)
theorem dX3_rank_25 : decode cX3_rank 25 = .ok (.aload_n 0, 1) := dk_42 (dk_at dksX3_rank_1 1 rfl rfl)
theorem dX3_rank_26 : decode cX3_rank 26 = .ok (.invokevirtual 261, 3) := dk_182 1 5 (dk_at dksX3_rank_1 2 rfl rfl)
theorem dX3_rank_29 : decode cX3_rank 29 = .ok (.aload_n 0, 1) := dk_42 (dk_at dksX3_rank_1 5 rfl rfl)
theorem dX3_rank_30 : decode cX3_rank 30 = .ok (.getfield 25, 3) := dk_180 0 25 (dk_at dksX3_rank_1 6 rfl rfl)
theorem dX3_rank_33 : decode cX3_rank 33 = .ok (.bipush 9, 2) := dk_16 9 (dk_at dksX3_rank_1 9 rfl rfl)
theorem dX3_rank_35 : decode cX3_rank 35 = .ok (.iload_n 1, 1) := dk_27 (dk_at dksX3_rank_1 11 rfl rfl)
theorem dX3_rank_36 : decode cX3_rank 36 = .ok (.iadd, 1) := dk_96 (dk_at dksX3_rank_1 12 rfl rfl)
theorem dX3_rank_37 : decode cX3_rank 37 = .ok (.iaload, 1) := dk_46 (dk_at dksX3_rank_1 13 rfl rfl)
theorem dX3_rank_38 : decode cX3_rank 38 = .ok (.istore_n 3, 1) := dk_62 (dk_at dksX3_rank_1 14 rfl rfl)
theorem dX3_rank_39 : decode cX3_rank 39 = .ok (.aload_n 0, 1) := dk_42 (dk_at dksX3_rank_1 15 rfl rfl)
theorem dX3_rank_40 : decode cX3_rank 40 = .ok (.getfield 25, 3) := dk_180 0 25 (dk_at dksX3_rank_1 16 rfl rfl)
theorem dX3_rank_43 : decode cX3_rank 43 = .ok (.bipush 9, 2) := dk_16 9 (dk_at dksX3_rank_1 19 rfl rfl)
theorem dX3_rank_45 : decode cX3_rank 45 = .ok (.iload_n 1, 1) := dk_27 (dk_at dksX3_rank_1 21 rfl rfl)
theorem dX3_rank_46 : decode cX3_rank 46 = .ok (.iadd, 1) := dk_96 (dk_at dksX3_rank_1 22 rfl rfl)
theorem dX3_rank_47 : decode cX3_rank 47 = .ok (.iload_n 2, 1) := dk_28 (dk_at dksX3_rank_1 23 rfl rfl)
theorem dX3_rank_48 : decode cX3_rank 48 = .ok (.iastore, 1) := dk_79 (dk_at dksX3_rank_2 0 rfl rfl)
theorem dX3_rank_49 : decode cX3_rank 49 = .ok (.iload_n 3, 1) := dk_29 (dk_at dksX3_rank_2 1 rfl rfl)
theorem dX3_rank_50 : decode cX3_rank 50 = .ok (.ireturn, 1) := dk_172 (dk_at dksX3_rank_2 2 rfl rfl)
abbrev cX3_allow : ByteArray := prog_13_method_50_code
def yX3_allow : MethodName := ⟨RX3, "allow", "(III)I"⟩
def dkwX3_allow_4 : List UInt8 := [21, 5, 122, 4, 126, 172]
abbrev dktX3_allow_4 : List UInt8 := dkwX3_allow_4 ++ []
def dkwX3_allow_3 : List UInt8 := [54, 5, 42, 180, 0, 25, 21, 4, 92, 46, 4, 21, 5, 120, 130, 79, 42, 180, 0, 25, 21, 4, 46]
abbrev dktX3_allow_3 : List UInt8 := dkwX3_allow_3 ++ dktX3_allow_4
def dkwX3_allow_2 : List UInt8 := [160, 0, 8, 16, 20, 167, 0, 7, 16, 21, 28, 96, 54, 4, 27, 5, 160, 0, 7, 29, 167, 0, 4, 28]
abbrev dktX3_allow_2 : List UInt8 := dkwX3_allow_2 ++ dktX3_allow_3
def dkwX3_allow_1 : List UInt8 := [184, 0, 107, 154, 0, 6, 16, 254, 172, 42, 182, 1, 5, 27, 154, 0, 8, 16, 19, 167, 0, 17, 27, 4]
abbrev dktX3_allow_1 : List UInt8 := dkwX3_allow_1 ++ dktX3_allow_2
def dkwX3_allow_0 : List UInt8 := [28, 184, 0, 145, 153, 0, 10, 29, 184, 0, 145, 154, 0, 5, 2, 172, 27, 133, 9, 20, 1, 10]
abbrev dktX3_allow_0 : List UInt8 := dkwX3_allow_0 ++ dktX3_allow_1
theorem dksX3_allow_0 : cX3_allow.data.toList.drop 0 = dktX3_allow_0 := by decide +kernel
theorem dksX3_allow_1 : cX3_allow.data.toList.drop 22 = dktX3_allow_1 := dk_seg dksX3_allow_0 22 rfl rfl
theorem dksX3_allow_2 : cX3_allow.data.toList.drop 46 = dktX3_allow_2 := dk_seg dksX3_allow_1 24 rfl rfl
theorem dksX3_allow_3 : cX3_allow.data.toList.drop 70 = dktX3_allow_3 := dk_seg dksX3_allow_2 24 rfl rfl
theorem dksX3_allow_4 : cX3_allow.data.toList.drop 93 = dktX3_allow_4 := dk_seg dksX3_allow_3 23 rfl rfl
theorem dX3_allow_0 : decode cX3_allow 0 = .ok (.iload_n 2, 1) := dk_28 (dk_at dksX3_allow_0 0 rfl rfl)
theorem dX3_allow_1 : decode cX3_allow 1 = .ok (.invokestatic 145, 3) := dk_184 0 145 (dk_at dksX3_allow_0 1 rfl rfl)
theorem dX3_allow_4 : decode cX3_allow 4 = .ok (.ifCond .eq 10, 3) := dk_153 0 10 (dk_at dksX3_allow_0 4 rfl rfl)
theorem dX3_allow_7 : decode cX3_allow 7 = .ok (.iload_n 3, 1) := dk_29 (dk_at dksX3_allow_0 7 rfl rfl)
theorem dX3_allow_8 : decode cX3_allow 8 = .ok (.invokestatic 145, 3) := dk_184 0 145 (dk_at dksX3_allow_0 8 rfl rfl)
theorem dX3_allow_11 : decode cX3_allow 11 = .ok (.ifCond .ne 5, 3) := dk_154 0 5 (dk_at dksX3_allow_0 11 rfl rfl)
theorem dX3_allow_14 : decode cX3_allow 14 = .ok (.iconst (-1), 1) := dk_2 (dk_at dksX3_allow_0 14 rfl rfl)
theorem dX3_allow_15 : decode cX3_allow 15 = .ok (.ireturn, 1) := dk_172 (dk_at dksX3_allow_0 15 rfl rfl)
theorem dX3_allow_16 : decode cX3_allow 16 = .ok (.iload_n 1, 1) := dk_27 (dk_at dksX3_allow_0 16 rfl rfl)
theorem dX3_allow_17 : decode cX3_allow 17 = .ok (.i2l, 1) := dk_133 (dk_at dksX3_allow_0 17 rfl rfl)
theorem dX3_allow_18 : decode cX3_allow 18 = .ok (.lconst 0, 1) := dk_9 (dk_at dksX3_allow_0 18 rfl rfl)
theorem dX3_allow_19 : decode cX3_allow 19 = .ok (.ldc2_w 266, 3) := dk_20 1 10 (dk_at dksX3_allow_0 19 rfl rfl)
theorem dX3_allow_22 : decode cX3_allow 22 = .ok (.invokestatic 107, 3) := dk_184 0 107 (dk_at dksX3_allow_1 0 rfl rfl)
theorem dX3_allow_25 : decode cX3_allow 25 = .ok (.ifCond .ne 6, 3) := dk_154 0 6 (dk_at dksX3_allow_1 3 rfl rfl)
theorem dX3_allow_28 : decode cX3_allow 28 = .ok (.bipush (-2), 2) := dk_16 254 (dk_at dksX3_allow_1 6 rfl rfl)
theorem dX3_allow_30 : decode cX3_allow 30 = .ok (.ireturn, 1) := dk_172 (dk_at dksX3_allow_1 8 rfl rfl)
theorem dX3_allow_31 : decode cX3_allow 31 = .ok (.aload_n 0, 1) := dk_42 (dk_at dksX3_allow_1 9 rfl rfl)
theorem dX3_allow_32 : decode cX3_allow 32 = .ok (.invokevirtual 261, 3) := dk_182 1 5 (dk_at dksX3_allow_1 10 rfl rfl)
theorem dX3_allow_35 : decode cX3_allow 35 = .ok (.iload_n 1, 1) := dk_27 (dk_at dksX3_allow_1 13 rfl rfl)
theorem dX3_allow_36 : decode cX3_allow 36 = .ok (.ifCond .ne 8, 3) := dk_154 0 8 (dk_at dksX3_allow_1 14 rfl rfl)
theorem dX3_allow_39 : decode cX3_allow 39 = .ok (.bipush 19, 2) := dk_16 19 (dk_at dksX3_allow_1 17 rfl rfl)
theorem dX3_allow_41 : decode cX3_allow 41 = .ok (.goto 17, 3) := dk_167 0 17 (dk_at dksX3_allow_1 19 rfl rfl)
theorem dX3_allow_44 : decode cX3_allow 44 = .ok (.iload_n 1, 1) := dk_27 (dk_at dksX3_allow_1 22 rfl rfl)
theorem dX3_allow_45 : decode cX3_allow 45 = .ok (.iconst 1, 1) := dk_4 (dk_at dksX3_allow_1 23 rfl rfl)
theorem dX3_allow_46 : decode cX3_allow 46 = .ok (.if_icmp .ne 8, 3) := dk_160 0 8 (dk_at dksX3_allow_2 0 rfl rfl)
theorem dX3_allow_49 : decode cX3_allow 49 = .ok (.bipush 20, 2) := dk_16 20 (dk_at dksX3_allow_2 3 rfl rfl)
theorem dX3_allow_51 : decode cX3_allow 51 = .ok (.goto 7, 3) := dk_167 0 7 (dk_at dksX3_allow_2 5 rfl rfl)
theorem dX3_allow_54 : decode cX3_allow 54 = .ok (.bipush 21, 2) := dk_16 21 (dk_at dksX3_allow_2 8 rfl rfl)
theorem dX3_allow_56 : decode cX3_allow 56 = .ok (.iload_n 2, 1) := dk_28 (dk_at dksX3_allow_2 10 rfl rfl)
theorem dX3_allow_57 : decode cX3_allow 57 = .ok (.iadd, 1) := dk_96 (dk_at dksX3_allow_2 11 rfl rfl)
theorem dX3_allow_58 : decode cX3_allow 58 = .ok (.istore 4, 2) := dk_54 4 (dk_at dksX3_allow_2 12 rfl rfl)
theorem dX3_allow_60 : decode cX3_allow 60 = .ok (.iload_n 1, 1) := dk_27 (dk_at dksX3_allow_2 14 rfl rfl)
theorem dX3_allow_61 : decode cX3_allow 61 = .ok (.iconst 2, 1) := dk_5 (dk_at dksX3_allow_2 15 rfl rfl)
theorem dX3_allow_62 : decode cX3_allow 62 = .ok (.if_icmp .ne 7, 3) := dk_160 0 7 (dk_at dksX3_allow_2 16 rfl rfl)
theorem dX3_allow_65 : decode cX3_allow 65 = .ok (.iload_n 3, 1) := dk_29 (dk_at dksX3_allow_2 19 rfl rfl)
theorem dX3_allow_66 : decode cX3_allow 66 = .ok (.goto 4, 3) := dk_167 0 4 (dk_at dksX3_allow_2 20 rfl rfl)
theorem dX3_allow_69 : decode cX3_allow 69 = .ok (.iload_n 2, 1) := dk_28 (dk_at dksX3_allow_2 23 rfl rfl)
theorem dX3_allow_70 : decode cX3_allow 70 = .ok (.istore 5, 2) := dk_54 5 (dk_at dksX3_allow_3 0 rfl rfl)
theorem dX3_allow_72 : decode cX3_allow 72 = .ok (.aload_n 0, 1) := dk_42 (dk_at dksX3_allow_3 2 rfl rfl)
theorem dX3_allow_73 : decode cX3_allow 73 = .ok (.getfield 25, 3) := dk_180 0 25 (dk_at dksX3_allow_3 3 rfl rfl)
theorem dX3_allow_76 : decode cX3_allow 76 = .ok (.iload 4, 2) := dk_21 4 (dk_at dksX3_allow_3 6 rfl rfl)
theorem dX3_allow_78 : decode cX3_allow 78 = .ok (.dup2, 1) := dk_92 (dk_at dksX3_allow_3 8 rfl rfl)
theorem dX3_allow_79 : decode cX3_allow 79 = .ok (.iaload, 1) := dk_46 (dk_at dksX3_allow_3 9 rfl rfl)
theorem dX3_allow_80 : decode cX3_allow 80 = .ok (.iconst 1, 1) := dk_4 (dk_at dksX3_allow_3 10 rfl rfl)
theorem dX3_allow_81 : decode cX3_allow 81 = .ok (.iload 5, 2) := dk_21 5 (dk_at dksX3_allow_3 11 rfl rfl)
theorem dX3_allow_83 : decode cX3_allow 83 = .ok (.ishl, 1) := dk_120 (dk_at dksX3_allow_3 13 rfl rfl)
theorem dX3_allow_84 : decode cX3_allow 84 = .ok (.ixor, 1) := dk_130 (dk_at dksX3_allow_3 14 rfl rfl)
theorem dX3_allow_85 : decode cX3_allow 85 = .ok (.iastore, 1) := dk_79 (dk_at dksX3_allow_3 15 rfl rfl)
theorem dX3_allow_86 : decode cX3_allow 86 = .ok (.aload_n 0, 1) := dk_42 (dk_at dksX3_allow_3 16 rfl rfl)
theorem dX3_allow_87 : decode cX3_allow 87 = .ok (.getfield 25, 3) := dk_180 0 25 (dk_at dksX3_allow_3 17 rfl rfl)
theorem dX3_allow_90 : decode cX3_allow 90 = .ok (.iload 4, 2) := dk_21 4 (dk_at dksX3_allow_3 20 rfl rfl)
theorem dX3_allow_92 : decode cX3_allow 92 = .ok (.iaload, 1) := dk_46 (dk_at dksX3_allow_3 22 rfl rfl)
theorem dX3_allow_93 : decode cX3_allow 93 = .ok (.iload 5, 2) := dk_21 5 (dk_at dksX3_allow_4 0 rfl rfl)
theorem dX3_allow_95 : decode cX3_allow 95 = .ok (.ishr, 1) := dk_122 (dk_at dksX3_allow_4 2 rfl rfl)
theorem dX3_allow_96 : decode cX3_allow 96 = .ok (.iconst 1, 1) := dk_4 (dk_at dksX3_allow_4 3 rfl rfl)
theorem dX3_allow_97 : decode cX3_allow 97 = .ok (.iand, 1) := dk_126 (dk_at dksX3_allow_4 4 rfl rfl)
theorem dX3_allow_98 : decode cX3_allow 98 = .ok (.ireturn, 1) := dk_172 (dk_at dksX3_allow_4 5 rfl rfl)
abbrev cX3_undo : ByteArray := prog_13_method_51_code
def yX3_undo : MethodName := ⟨RX3, "undo", "()I"⟩
def dkwX3_undo_3 : List UInt8 := [167, 255, 227, 42, 180, 0, 182, 172]
abbrev dktX3_undo_3 : List UInt8 := dkwX3_undo_3 ++ []
def dkwX3_undo_2 : List UInt8 := [180, 0, 25, 27, 42, 180, 0, 31, 16, 25, 42, 180, 1, 2, 104, 27, 96, 46, 79, 132, 1, 1]
abbrev dktX3_undo_2 : List UInt8 := dkwX3_undo_2 ++ dktX3_undo_3
def dkwX3_undo_1 : List UInt8 := [180, 1, 2, 16, 14, 96, 4, 100, 16, 14, 112, 181, 1, 2, 3, 60, 27, 16, 25, 162, 0, 29, 42]
abbrev dktX3_undo_1 : List UInt8 := dkwX3_undo_1 ++ dktX3_undo_2
def dkwX3_undo_0 : List UInt8 := [42, 180, 0, 182, 154, 0, 6, 16, 253, 172, 42, 89, 180, 0, 182, 4, 100, 181, 0, 182, 42, 42]
abbrev dktX3_undo_0 : List UInt8 := dkwX3_undo_0 ++ dktX3_undo_1
theorem dksX3_undo_0 : cX3_undo.data.toList.drop 0 = dktX3_undo_0 := by decide +kernel
theorem dksX3_undo_1 : cX3_undo.data.toList.drop 22 = dktX3_undo_1 := dk_seg dksX3_undo_0 22 rfl rfl
theorem dksX3_undo_2 : cX3_undo.data.toList.drop 45 = dktX3_undo_2 := dk_seg dksX3_undo_1 23 rfl rfl
theorem dksX3_undo_3 : cX3_undo.data.toList.drop 67 = dktX3_undo_3 := dk_seg dksX3_undo_2 22 rfl rfl
theorem dX3_undo_0 : decode cX3_undo 0 = .ok (.aload_n 0, 1) := dk_42 (dk_at dksX3_undo_0 0 rfl rfl)
theorem dX3_undo_1 : decode cX3_undo 1 = .ok (.getfield 182, 3) := dk_180 0 182 (dk_at dksX3_undo_0 1 rfl rfl)
theorem dX3_undo_4 : decode cX3_undo 4 = .ok (.ifCond .ne 6, 3) := dk_154 0 6 (dk_at dksX3_undo_0 4 rfl rfl)
theorem dX3_undo_7 : decode cX3_undo 7 = .ok (.bipush (-3), 2) := dk_16 253 (dk_at dksX3_undo_0 7 rfl rfl)
theorem dX3_undo_9 : decode cX3_undo 9 = .ok (.ireturn, 1) := dk_172 (dk_at dksX3_undo_0 9 rfl rfl)
theorem dX3_undo_10 : decode cX3_undo 10 = .ok (.aload_n 0, 1) := dk_42 (dk_at dksX3_undo_0 10 rfl rfl)
theorem dX3_undo_11 : decode cX3_undo 11 = .ok (.dup, 1) := dk_89 (dk_at dksX3_undo_0 11 rfl rfl)
theorem dX3_undo_12 : decode cX3_undo 12 = .ok (.getfield 182, 3) := dk_180 0 182 (dk_at dksX3_undo_0 12 rfl rfl)
theorem dX3_undo_15 : decode cX3_undo 15 = .ok (.iconst 1, 1) := dk_4 (dk_at dksX3_undo_0 15 rfl rfl)
theorem dX3_undo_16 : decode cX3_undo 16 = .ok (.isub, 1) := dk_100 (dk_at dksX3_undo_0 16 rfl rfl)
theorem dX3_undo_17 : decode cX3_undo 17 = .ok (.putfield 182, 3) := dk_181 0 182 (dk_at dksX3_undo_0 17 rfl rfl)
theorem dX3_undo_20 : decode cX3_undo 20 = .ok (.aload_n 0, 1) := dk_42 (dk_at dksX3_undo_0 20 rfl rfl)
theorem dX3_undo_21 : decode cX3_undo 21 = .ok (.aload_n 0, 1) := dk_42 (dk_at dksX3_undo_0 21 rfl rfl)
theorem dX3_undo_22 : decode cX3_undo 22 = .ok (.getfield 258, 3) := dk_180 1 2 (dk_at dksX3_undo_1 0 rfl rfl)
theorem dX3_undo_25 : decode cX3_undo 25 = .ok (.bipush 14, 2) := dk_16 14 (dk_at dksX3_undo_1 3 rfl rfl)
theorem dX3_undo_27 : decode cX3_undo 27 = .ok (.iadd, 1) := dk_96 (dk_at dksX3_undo_1 5 rfl rfl)
theorem dX3_undo_28 : decode cX3_undo 28 = .ok (.iconst 1, 1) := dk_4 (dk_at dksX3_undo_1 6 rfl rfl)
theorem dX3_undo_29 : decode cX3_undo 29 = .ok (.isub, 1) := dk_100 (dk_at dksX3_undo_1 7 rfl rfl)
theorem dX3_undo_30 : decode cX3_undo 30 = .ok (.bipush 14, 2) := dk_16 14 (dk_at dksX3_undo_1 8 rfl rfl)
theorem dX3_undo_32 : decode cX3_undo 32 = .ok (.irem, 1) := dk_112 (dk_at dksX3_undo_1 10 rfl rfl)
theorem dX3_undo_33 : decode cX3_undo 33 = .ok (.putfield 258, 3) := dk_181 1 2 (dk_at dksX3_undo_1 11 rfl rfl)
theorem dX3_undo_36 : decode cX3_undo 36 = .ok (.iconst 0, 1) := dk_3 (dk_at dksX3_undo_1 14 rfl rfl)
theorem dX3_undo_37 : decode cX3_undo 37 = .ok (.istore_n 1, 1) := dk_60 (dk_at dksX3_undo_1 15 rfl rfl)
theorem dX3_undo_38 : decode cX3_undo 38 = .ok (.iload_n 1, 1) := dk_27 (dk_at dksX3_undo_1 16 rfl rfl)
theorem dX3_undo_39 : decode cX3_undo 39 = .ok (.bipush 25, 2) := dk_16 25 (dk_at dksX3_undo_1 17 rfl rfl)
theorem dX3_undo_41 : decode cX3_undo 41 = .ok (.if_icmp .ge 29, 3) := dk_162 0 29 (dk_at dksX3_undo_1 19 rfl rfl)
theorem dX3_undo_44 : decode cX3_undo 44 = .ok (.aload_n 0, 1) := dk_42 (dk_at dksX3_undo_1 22 rfl rfl)
theorem dX3_undo_45 : decode cX3_undo 45 = .ok (.getfield 25, 3) := dk_180 0 25 (dk_at dksX3_undo_2 0 rfl rfl)
theorem dX3_undo_48 : decode cX3_undo 48 = .ok (.iload_n 1, 1) := dk_27 (dk_at dksX3_undo_2 3 rfl rfl)
theorem dX3_undo_49 : decode cX3_undo 49 = .ok (.aload_n 0, 1) := dk_42 (dk_at dksX3_undo_2 4 rfl rfl)
theorem dX3_undo_50 : decode cX3_undo 50 = .ok (.getfield 31, 3) := dk_180 0 31 (dk_at dksX3_undo_2 5 rfl rfl)
theorem dX3_undo_53 : decode cX3_undo 53 = .ok (.bipush 25, 2) := dk_16 25 (dk_at dksX3_undo_2 8 rfl rfl)
theorem dX3_undo_55 : decode cX3_undo 55 = .ok (.aload_n 0, 1) := dk_42 (dk_at dksX3_undo_2 10 rfl rfl)
theorem dX3_undo_56 : decode cX3_undo 56 = .ok (.getfield 258, 3) := dk_180 1 2 (dk_at dksX3_undo_2 11 rfl rfl)
theorem dX3_undo_59 : decode cX3_undo 59 = .ok (.imul, 1) := dk_104 (dk_at dksX3_undo_2 14 rfl rfl)
theorem dX3_undo_60 : decode cX3_undo 60 = .ok (.iload_n 1, 1) := dk_27 (dk_at dksX3_undo_2 15 rfl rfl)
theorem dX3_undo_61 : decode cX3_undo 61 = .ok (.iadd, 1) := dk_96 (dk_at dksX3_undo_2 16 rfl rfl)
theorem dX3_undo_62 : decode cX3_undo 62 = .ok (.iaload, 1) := dk_46 (dk_at dksX3_undo_2 17 rfl rfl)
theorem dX3_undo_63 : decode cX3_undo 63 = .ok (.iastore, 1) := dk_79 (dk_at dksX3_undo_2 18 rfl rfl)
theorem dX3_undo_64 : decode cX3_undo 64 = .ok (.iinc 1 1, 3) := dk_132 1 1 (dk_at dksX3_undo_2 19 rfl rfl)
theorem dX3_undo_67 : decode cX3_undo 67 = .ok (.goto (-29), 3) := dk_167 255 227 (dk_at dksX3_undo_3 0 rfl rfl)
theorem dX3_undo_70 : decode cX3_undo 70 = .ok (.aload_n 0, 1) := dk_42 (dk_at dksX3_undo_3 3 rfl rfl)
theorem dX3_undo_71 : decode cX3_undo 71 = .ok (.getfield 182, 3) := dk_180 0 182 (dk_at dksX3_undo_3 4 rfl rfl)
theorem dX3_undo_74 : decode cX3_undo 74 = .ok (.ireturn, 1) := dk_172 (dk_at dksX3_undo_3 7 rfl rfl)
abbrev cX3_many : ByteArray := prog_13_method_52_code
def yX3_many : MethodName := ⟨RX3, "many", "(I)J"⟩
def dkwX3_many_1 : List UInt8 := [65, 27, 154, 0, 7, 32, 167, 0, 8, 42, 27, 182, 0, 212, 173]
abbrev dktX3_many_1 : List UInt8 := dkwX3_many_1 ++ []
def dkwX3_many_0 : List UInt8 := [27, 133, 9, 20, 1, 12, 184, 0, 107, 154, 0, 7, 20, 1, 14, 173, 42, 42, 180, 0, 25, 182, 1, 16]
abbrev dktX3_many_0 : List UInt8 := dkwX3_many_0 ++ dktX3_many_1
theorem dksX3_many_0 : cX3_many.data.toList.drop 0 = dktX3_many_0 := by decide +kernel
theorem dksX3_many_1 : cX3_many.data.toList.drop 24 = dktX3_many_1 := dk_seg dksX3_many_0 24 rfl rfl
theorem dX3_many_0 : decode cX3_many 0 = .ok (.iload_n 1, 1) := dk_27 (dk_at dksX3_many_0 0 rfl rfl)
theorem dX3_many_1 : decode cX3_many 1 = .ok (.i2l, 1) := dk_133 (dk_at dksX3_many_0 1 rfl rfl)
theorem dX3_many_2 : decode cX3_many 2 = .ok (.lconst 0, 1) := dk_9 (dk_at dksX3_many_0 2 rfl rfl)
theorem dX3_many_3 : decode cX3_many 3 = .ok (.ldc2_w 268, 3) := dk_20 1 12 (dk_at dksX3_many_0 3 rfl rfl)
theorem dX3_many_6 : decode cX3_many 6 = .ok (.invokestatic 107, 3) := dk_184 0 107 (dk_at dksX3_many_0 6 rfl rfl)
theorem dX3_many_9 : decode cX3_many 9 = .ok (.ifCond .ne 7, 3) := dk_154 0 7 (dk_at dksX3_many_0 9 rfl rfl)
theorem dX3_many_12 : decode cX3_many 12 = .ok (.ldc2_w 270, 3) := dk_20 1 14 (dk_at dksX3_many_0 12 rfl rfl)
theorem dX3_many_15 : decode cX3_many 15 = .ok (.lreturn, 1) := dk_173 (dk_at dksX3_many_0 15 rfl rfl)
theorem dX3_many_16 : decode cX3_many 16 = .ok (.aload_n 0, 1) := dk_42 (dk_at dksX3_many_0 16 rfl rfl)
theorem dX3_many_17 : decode cX3_many 17 = .ok (.aload_n 0, 1) := dk_42 (dk_at dksX3_many_0 17 rfl rfl)
theorem dX3_many_18 : decode cX3_many 18 = .ok (.getfield 25, 3) := dk_180 0 25 (dk_at dksX3_many_0 18 rfl rfl)
theorem dX3_many_21 : decode cX3_many 21 = .ok (.invokevirtual 272, 3) := dk_182 1 16 (dk_at dksX3_many_0 21 rfl rfl)
theorem dX3_many_24 : decode cX3_many 24 = .ok (.lstore_n 2, 1) := dk_65 (dk_at dksX3_many_1 0 rfl rfl)
theorem dX3_many_25 : decode cX3_many 25 = .ok (.iload_n 1, 1) := dk_27 (dk_at dksX3_many_1 1 rfl rfl)
theorem dX3_many_26 : decode cX3_many 26 = .ok (.ifCond .ne 7, 3) := dk_154 0 7 (dk_at dksX3_many_1 2 rfl rfl)
theorem dX3_many_29 : decode cX3_many 29 = .ok (.lload_n 2, 1) := dk_32 (dk_at dksX3_many_1 5 rfl rfl)
theorem dX3_many_30 : decode cX3_many 30 = .ok (.goto 8, 3) := dk_167 0 8 (dk_at dksX3_many_1 6 rfl rfl)
theorem dX3_many_33 : decode cX3_many 33 = .ok (.aload_n 0, 1) := dk_42 (dk_at dksX3_many_1 9 rfl rfl)
theorem dX3_many_34 : decode cX3_many 34 = .ok (.iload_n 1, 1) := dk_27 (dk_at dksX3_many_1 10 rfl rfl)
theorem dX3_many_35 : decode cX3_many 35 = .ok (.invokevirtual 212, 3) := dk_182 0 212 (dk_at dksX3_many_1 11 rfl rfl)
theorem dX3_many_38 : decode cX3_many 38 = .ok (.lreturn, 1) := dk_173 (dk_at dksX3_many_1 14 rfl rfl)
abbrev cX3_having : ByteArray := prog_13_method_54_code
def yX3_having : MethodName := ⟨RX3, "having", "(I)J"⟩
def dkwX3_having_0 : List UInt8 := [42, 27, 182, 0, 243, 153, 0, 15, 42, 42, 180, 0, 25, 27, 182, 0, 216, 167, 0, 6, 20, 1, 20, 173]
abbrev dktX3_having_0 : List UInt8 := dkwX3_having_0 ++ []
theorem dksX3_having_0 : cX3_having.data.toList.drop 0 = dktX3_having_0 := by decide +kernel
theorem dX3_having_0 : decode cX3_having 0 = .ok (.aload_n 0, 1) := dk_42 (dk_at dksX3_having_0 0 rfl rfl)
theorem dX3_having_1 : decode cX3_having 1 = .ok (.iload_n 1, 1) := dk_27 (dk_at dksX3_having_0 1 rfl rfl)
theorem dX3_having_2 : decode cX3_having 2 = .ok (.invokevirtual 243, 3) := dk_182 0 243 (dk_at dksX3_having_0 2 rfl rfl)
theorem dX3_having_5 : decode cX3_having 5 = .ok (.ifCond .eq 15, 3) := dk_153 0 15 (dk_at dksX3_having_0 5 rfl rfl)
theorem dX3_having_8 : decode cX3_having 8 = .ok (.aload_n 0, 1) := dk_42 (dk_at dksX3_having_0 8 rfl rfl)
theorem dX3_having_9 : decode cX3_having 9 = .ok (.aload_n 0, 1) := dk_42 (dk_at dksX3_having_0 9 rfl rfl)
theorem dX3_having_10 : decode cX3_having 10 = .ok (.getfield 25, 3) := dk_180 0 25 (dk_at dksX3_having_0 10 rfl rfl)
theorem dX3_having_13 : decode cX3_having 13 = .ok (.iload_n 1, 1) := dk_27 (dk_at dksX3_having_0 13 rfl rfl)
theorem dX3_having_14 : decode cX3_having 14 = .ok (.invokevirtual 216, 3) := dk_182 0 216 (dk_at dksX3_having_0 14 rfl rfl)
theorem dX3_having_17 : decode cX3_having 17 = .ok (.goto 6, 3) := dk_167 0 6 (dk_at dksX3_having_0 17 rfl rfl)
theorem dX3_having_20 : decode cX3_having 20 = .ok (.ldc2_w 276, 3) := dk_20 1 20 (dk_at dksX3_having_0 20 rfl rfl)
theorem dX3_having_23 : decode cX3_having 23 = .ok (.lreturn, 1) := dk_173 (dk_at dksX3_having_0 23 rfl rfl)
abbrev cX3_best : ByteArray := prog_13_method_59_code
def yX3_best : MethodName := ⟨RX3, "best", "(I)I"⟩
def dkwX3_best_3 : List UInt8 := [46, 172]
abbrev dktX3_best_3 : List UInt8 := dkwX3_best_3 ++ []
def dkwX3_best_2 : List UInt8 := [42, 28, 182, 1, 34, 167, 0, 20, 27, 4, 160, 0, 7, 28, 167, 0, 11, 42, 180, 0, 90, 27, 5, 100]
abbrev dktX3_best_2 : List UInt8 := dkwX3_best_2 ++ dktX3_best_3
def dkwX3_best_1 : List UInt8 := [182, 1, 31, 61, 28, 16, 247, 159, 0, 10, 27, 28, 5, 96, 161, 0, 6, 16, 247, 172, 27, 154, 0, 11]
abbrev dktX3_best_1 : List UInt8 := dkwX3_best_1 ++ dktX3_best_2
def dkwX3_best_0 : List UInt8 := [27, 133, 9, 20, 1, 29, 184, 0, 107, 154, 0, 6, 16, 254, 172, 42, 42, 180, 0, 25, 182, 0, 202, 42]
abbrev dktX3_best_0 : List UInt8 := dkwX3_best_0 ++ dktX3_best_1
theorem dksX3_best_0 : cX3_best.data.toList.drop 0 = dktX3_best_0 := by decide +kernel
theorem dksX3_best_1 : cX3_best.data.toList.drop 24 = dktX3_best_1 := dk_seg dksX3_best_0 24 rfl rfl
theorem dksX3_best_2 : cX3_best.data.toList.drop 48 = dktX3_best_2 := dk_seg dksX3_best_1 24 rfl rfl
theorem dksX3_best_3 : cX3_best.data.toList.drop 72 = dktX3_best_3 := dk_seg dksX3_best_2 24 rfl rfl
theorem dX3_best_0 : decode cX3_best 0 = .ok (.iload_n 1, 1) := dk_27 (dk_at dksX3_best_0 0 rfl rfl)
theorem dX3_best_1 : decode cX3_best 1 = .ok (.i2l, 1) := dk_133 (dk_at dksX3_best_0 1 rfl rfl)
theorem dX3_best_2 : decode cX3_best 2 = .ok (.lconst 0, 1) := dk_9 (dk_at dksX3_best_0 2 rfl rfl)
theorem dX3_best_3 : decode cX3_best 3 = .ok (.ldc2_w 285, 3) := dk_20 1 29 (dk_at dksX3_best_0 3 rfl rfl)
theorem dX3_best_6 : decode cX3_best 6 = .ok (.invokestatic 107, 3) := dk_184 0 107 (dk_at dksX3_best_0 6 rfl rfl)
theorem dX3_best_9 : decode cX3_best 9 = .ok (.ifCond .ne 6, 3) := dk_154 0 6 (dk_at dksX3_best_0 9 rfl rfl)
theorem dX3_best_12 : decode cX3_best 12 = .ok (.bipush (-2), 2) := dk_16 254 (dk_at dksX3_best_0 12 rfl rfl)
theorem dX3_best_14 : decode cX3_best 14 = .ok (.ireturn, 1) := dk_172 (dk_at dksX3_best_0 14 rfl rfl)
theorem dX3_best_15 : decode cX3_best 15 = .ok (.aload_n 0, 1) := dk_42 (dk_at dksX3_best_0 15 rfl rfl)
theorem dX3_best_16 : decode cX3_best 16 = .ok (.aload_n 0, 1) := dk_42 (dk_at dksX3_best_0 16 rfl rfl)
theorem dX3_best_17 : decode cX3_best 17 = .ok (.getfield 25, 3) := dk_180 0 25 (dk_at dksX3_best_0 17 rfl rfl)
theorem dX3_best_20 : decode cX3_best 20 = .ok (.invokevirtual 202, 3) := dk_182 0 202 (dk_at dksX3_best_0 20 rfl rfl)
theorem dX3_best_23 : decode cX3_best 23 = .ok (.aload_n 0, 1) := dk_42 (dk_at dksX3_best_0 23 rfl rfl)
theorem dX3_best_24 : decode cX3_best 24 = .ok (.invokevirtual 287, 3) := dk_182 1 31 (dk_at dksX3_best_1 0 rfl rfl)
theorem dX3_best_27 : decode cX3_best 27 = .ok (.istore_n 2, 1) := dk_61 (dk_at dksX3_best_1 3 rfl rfl)
theorem dX3_best_28 : decode cX3_best 28 = .ok (.iload_n 2, 1) := dk_28 (dk_at dksX3_best_1 4 rfl rfl)
theorem dX3_best_29 : decode cX3_best 29 = .ok (.bipush (-9), 2) := dk_16 247 (dk_at dksX3_best_1 5 rfl rfl)
theorem dX3_best_31 : decode cX3_best 31 = .ok (.if_icmp .eq 10, 3) := dk_159 0 10 (dk_at dksX3_best_1 7 rfl rfl)
theorem dX3_best_34 : decode cX3_best 34 = .ok (.iload_n 1, 1) := dk_27 (dk_at dksX3_best_1 10 rfl rfl)
theorem dX3_best_35 : decode cX3_best 35 = .ok (.iload_n 2, 1) := dk_28 (dk_at dksX3_best_1 11 rfl rfl)
theorem dX3_best_36 : decode cX3_best 36 = .ok (.iconst 2, 1) := dk_5 (dk_at dksX3_best_1 12 rfl rfl)
theorem dX3_best_37 : decode cX3_best 37 = .ok (.iadd, 1) := dk_96 (dk_at dksX3_best_1 13 rfl rfl)
theorem dX3_best_38 : decode cX3_best 38 = .ok (.if_icmp .lt 6, 3) := dk_161 0 6 (dk_at dksX3_best_1 14 rfl rfl)
theorem dX3_best_41 : decode cX3_best 41 = .ok (.bipush (-9), 2) := dk_16 247 (dk_at dksX3_best_1 17 rfl rfl)
theorem dX3_best_43 : decode cX3_best 43 = .ok (.ireturn, 1) := dk_172 (dk_at dksX3_best_1 19 rfl rfl)
theorem dX3_best_44 : decode cX3_best 44 = .ok (.iload_n 1, 1) := dk_27 (dk_at dksX3_best_1 20 rfl rfl)
theorem dX3_best_45 : decode cX3_best 45 = .ok (.ifCond .ne 11, 3) := dk_154 0 11 (dk_at dksX3_best_1 21 rfl rfl)
theorem dX3_best_48 : decode cX3_best 48 = .ok (.aload_n 0, 1) := dk_42 (dk_at dksX3_best_2 0 rfl rfl)
theorem dX3_best_49 : decode cX3_best 49 = .ok (.iload_n 2, 1) := dk_28 (dk_at dksX3_best_2 1 rfl rfl)
theorem dX3_best_50 : decode cX3_best 50 = .ok (.invokevirtual 290, 3) := dk_182 1 34 (dk_at dksX3_best_2 2 rfl rfl)
theorem dX3_best_53 : decode cX3_best 53 = .ok (.goto 20, 3) := dk_167 0 20 (dk_at dksX3_best_2 5 rfl rfl)
theorem dX3_best_56 : decode cX3_best 56 = .ok (.iload_n 1, 1) := dk_27 (dk_at dksX3_best_2 8 rfl rfl)
theorem dX3_best_57 : decode cX3_best 57 = .ok (.iconst 1, 1) := dk_4 (dk_at dksX3_best_2 9 rfl rfl)
theorem dX3_best_58 : decode cX3_best 58 = .ok (.if_icmp .ne 7, 3) := dk_160 0 7 (dk_at dksX3_best_2 10 rfl rfl)
theorem dX3_best_61 : decode cX3_best 61 = .ok (.iload_n 2, 1) := dk_28 (dk_at dksX3_best_2 13 rfl rfl)
theorem dX3_best_62 : decode cX3_best 62 = .ok (.goto 11, 3) := dk_167 0 11 (dk_at dksX3_best_2 14 rfl rfl)
theorem dX3_best_65 : decode cX3_best 65 = .ok (.aload_n 0, 1) := dk_42 (dk_at dksX3_best_2 17 rfl rfl)
theorem dX3_best_66 : decode cX3_best 66 = .ok (.getfield 90, 3) := dk_180 0 90 (dk_at dksX3_best_2 18 rfl rfl)
theorem dX3_best_69 : decode cX3_best 69 = .ok (.iload_n 1, 1) := dk_27 (dk_at dksX3_best_2 21 rfl rfl)
theorem dX3_best_70 : decode cX3_best 70 = .ok (.iconst 2, 1) := dk_5 (dk_at dksX3_best_2 22 rfl rfl)
theorem dX3_best_71 : decode cX3_best 71 = .ok (.isub, 1) := dk_100 (dk_at dksX3_best_2 23 rfl rfl)
theorem dX3_best_72 : decode cX3_best 72 = .ok (.iaload, 1) := dk_46 (dk_at dksX3_best_3 0 rfl rfl)
theorem dX3_best_73 : decode cX3_best 73 = .ok (.ireturn, 1) := dk_172 (dk_at dksX3_best_3 1 rfl rfl)
abbrev cX3_findBest : ByteArray := prog_13_method_57_code
def yX3_findBest : MethodName := ⟨RX3, "findBest", "()I"⟩
def dkwX3_findBest_4 : List UInt8 := [21, 4, 46, 61, 167, 255, 170, 29, 154, 0, 8, 16, 247, 167, 0, 4, 29, 172]
abbrev dktX3_findBest_4 : List UInt8 := dkwX3_findBest_4 ++ []
def dkwX3_findBest_3 : List UInt8 := [180, 0, 90, 29, 21, 4, 79, 132, 3, 1, 27, 42, 180, 0, 71, 21, 4, 46, 100, 60, 42, 180, 0, 19]
abbrev dktX3_findBest_3 : List UInt8 := dkwX3_findBest_3 ++ dktX3_findBest_4
def dkwX3_findBest_2 : List UInt8 := [182, 1, 22, 42, 180, 0, 84, 8, 27, 104, 28, 96, 46, 159, 0, 9, 132, 4, 1, 167, 255, 222, 42]
abbrev dktX3_findBest_2 : List UInt8 := dkwX3_findBest_2 ++ dktX3_findBest_3
def dkwX3_findBest_1 : List UInt8 := [28, 96, 46, 155, 0, 75, 3, 54, 4, 42, 27, 28, 21, 4, 182, 0, 194, 153, 0, 23, 42, 27, 21, 4]
abbrev dktX3_findBest_1 : List UInt8 := dkwX3_findBest_1 ++ dktX3_findBest_2
def dkwX3_findBest_0 : List UInt8 := [42, 182, 1, 26, 42, 180, 0, 188, 60, 7, 61, 3, 62, 27, 158, 0, 88, 42, 180, 0, 84, 8, 27, 104]
abbrev dktX3_findBest_0 : List UInt8 := dkwX3_findBest_0 ++ dktX3_findBest_1
theorem dksX3_findBest_0 : cX3_findBest.data.toList.drop 0 = dktX3_findBest_0 := by decide +kernel
theorem dksX3_findBest_1 : cX3_findBest.data.toList.drop 24 = dktX3_findBest_1 := dk_seg dksX3_findBest_0 24 rfl rfl
theorem dksX3_findBest_2 : cX3_findBest.data.toList.drop 48 = dktX3_findBest_2 := dk_seg dksX3_findBest_1 24 rfl rfl
theorem dksX3_findBest_3 : cX3_findBest.data.toList.drop 71 = dktX3_findBest_3 := dk_seg dksX3_findBest_2 23 rfl rfl
theorem dksX3_findBest_4 : cX3_findBest.data.toList.drop 95 = dktX3_findBest_4 := dk_seg dksX3_findBest_3 24 rfl rfl
theorem dX3_findBest_0 : decode cX3_findBest 0 = .ok (.aload_n 0, 1) := dk_42 (dk_at dksX3_findBest_0 0 rfl rfl)
theorem dX3_findBest_1 : decode cX3_findBest 1 = .ok (.invokevirtual 282, 3) := dk_182 1 26 (dk_at dksX3_findBest_0 1 rfl rfl)
theorem dX3_findBest_4 : decode cX3_findBest 4 = .ok (.aload_n 0, 1) := dk_42 (dk_at dksX3_findBest_0 4 rfl rfl)
theorem dX3_findBest_5 : decode cX3_findBest 5 = .ok (.getfield 188, 3) := dk_180 0 188 (dk_at dksX3_findBest_0 5 rfl rfl)
theorem dX3_findBest_8 : decode cX3_findBest 8 = .ok (.istore_n 1, 1) := dk_60 (dk_at dksX3_findBest_0 8 rfl rfl)
theorem dX3_findBest_9 : decode cX3_findBest 9 = .ok (.iconst 4, 1) := dk_7 (dk_at dksX3_findBest_0 9 rfl rfl)
theorem dX3_findBest_10 : decode cX3_findBest 10 = .ok (.istore_n 2, 1) := dk_61 (dk_at dksX3_findBest_0 10 rfl rfl)
theorem dX3_findBest_11 : decode cX3_findBest 11 = .ok (.iconst 0, 1) := dk_3 (dk_at dksX3_findBest_0 11 rfl rfl)
theorem dX3_findBest_12 : decode cX3_findBest 12 = .ok (.istore_n 3, 1) := dk_62 (dk_at dksX3_findBest_0 12 rfl rfl)
theorem dX3_findBest_13 : decode cX3_findBest 13 = .ok (.iload_n 1, 1) := dk_27 (dk_at dksX3_findBest_0 13 rfl rfl)
theorem dX3_findBest_14 : decode cX3_findBest 14 = .ok (.ifCond .le 88, 3) := dk_158 0 88 (dk_at dksX3_findBest_0 14 rfl rfl)
theorem dX3_findBest_17 : decode cX3_findBest 17 = .ok (.aload_n 0, 1) := dk_42 (dk_at dksX3_findBest_0 17 rfl rfl)
theorem dX3_findBest_18 : decode cX3_findBest 18 = .ok (.getfield 84, 3) := dk_180 0 84 (dk_at dksX3_findBest_0 18 rfl rfl)
theorem dX3_findBest_21 : decode cX3_findBest 21 = .ok (.iconst 5, 1) := dk_8 (dk_at dksX3_findBest_0 21 rfl rfl)
theorem dX3_findBest_22 : decode cX3_findBest 22 = .ok (.iload_n 1, 1) := dk_27 (dk_at dksX3_findBest_0 22 rfl rfl)
theorem dX3_findBest_23 : decode cX3_findBest 23 = .ok (.imul, 1) := dk_104 (dk_at dksX3_findBest_0 23 rfl rfl)
theorem dX3_findBest_24 : decode cX3_findBest 24 = .ok (.iload_n 2, 1) := dk_28 (dk_at dksX3_findBest_1 0 rfl rfl)
theorem dX3_findBest_25 : decode cX3_findBest 25 = .ok (.iadd, 1) := dk_96 (dk_at dksX3_findBest_1 1 rfl rfl)
theorem dX3_findBest_26 : decode cX3_findBest 26 = .ok (.iaload, 1) := dk_46 (dk_at dksX3_findBest_1 2 rfl rfl)
theorem dX3_findBest_27 : decode cX3_findBest 27 = .ok (.ifCond .lt 75, 3) := dk_155 0 75 (dk_at dksX3_findBest_1 3 rfl rfl)
theorem dX3_findBest_30 : decode cX3_findBest 30 = .ok (.iconst 0, 1) := dk_3 (dk_at dksX3_findBest_1 6 rfl rfl)
theorem dX3_findBest_31 : decode cX3_findBest 31 = .ok (.istore 4, 2) := dk_54 4 (dk_at dksX3_findBest_1 7 rfl rfl)
theorem dX3_findBest_33 : decode cX3_findBest 33 = .ok (.aload_n 0, 1) := dk_42 (dk_at dksX3_findBest_1 9 rfl rfl)
theorem dX3_findBest_34 : decode cX3_findBest 34 = .ok (.iload_n 1, 1) := dk_27 (dk_at dksX3_findBest_1 10 rfl rfl)
theorem dX3_findBest_35 : decode cX3_findBest 35 = .ok (.iload_n 2, 1) := dk_28 (dk_at dksX3_findBest_1 11 rfl rfl)
theorem dX3_findBest_36 : decode cX3_findBest 36 = .ok (.iload 4, 2) := dk_21 4 (dk_at dksX3_findBest_1 12 rfl rfl)
theorem dX3_findBest_38 : decode cX3_findBest 38 = .ok (.invokevirtual 194, 3) := dk_182 0 194 (dk_at dksX3_findBest_1 14 rfl rfl)
theorem dX3_findBest_41 : decode cX3_findBest 41 = .ok (.ifCond .eq 23, 3) := dk_153 0 23 (dk_at dksX3_findBest_1 17 rfl rfl)
theorem dX3_findBest_44 : decode cX3_findBest 44 = .ok (.aload_n 0, 1) := dk_42 (dk_at dksX3_findBest_1 20 rfl rfl)
theorem dX3_findBest_45 : decode cX3_findBest 45 = .ok (.iload_n 1, 1) := dk_27 (dk_at dksX3_findBest_1 21 rfl rfl)
theorem dX3_findBest_46 : decode cX3_findBest 46 = .ok (.iload 4, 2) := dk_21 4 (dk_at dksX3_findBest_1 22 rfl rfl)
theorem dX3_findBest_48 : decode cX3_findBest 48 = .ok (.invokevirtual 278, 3) := dk_182 1 22 (dk_at dksX3_findBest_2 0 rfl rfl)
theorem dX3_findBest_51 : decode cX3_findBest 51 = .ok (.aload_n 0, 1) := dk_42 (dk_at dksX3_findBest_2 3 rfl rfl)
theorem dX3_findBest_52 : decode cX3_findBest 52 = .ok (.getfield 84, 3) := dk_180 0 84 (dk_at dksX3_findBest_2 4 rfl rfl)
theorem dX3_findBest_55 : decode cX3_findBest 55 = .ok (.iconst 5, 1) := dk_8 (dk_at dksX3_findBest_2 7 rfl rfl)
theorem dX3_findBest_56 : decode cX3_findBest 56 = .ok (.iload_n 1, 1) := dk_27 (dk_at dksX3_findBest_2 8 rfl rfl)
theorem dX3_findBest_57 : decode cX3_findBest 57 = .ok (.imul, 1) := dk_104 (dk_at dksX3_findBest_2 9 rfl rfl)
theorem dX3_findBest_58 : decode cX3_findBest 58 = .ok (.iload_n 2, 1) := dk_28 (dk_at dksX3_findBest_2 10 rfl rfl)
theorem dX3_findBest_59 : decode cX3_findBest 59 = .ok (.iadd, 1) := dk_96 (dk_at dksX3_findBest_2 11 rfl rfl)
theorem dX3_findBest_60 : decode cX3_findBest 60 = .ok (.iaload, 1) := dk_46 (dk_at dksX3_findBest_2 12 rfl rfl)
theorem dX3_findBest_61 : decode cX3_findBest 61 = .ok (.if_icmp .eq 9, 3) := dk_159 0 9 (dk_at dksX3_findBest_2 13 rfl rfl)
theorem dX3_findBest_64 : decode cX3_findBest 64 = .ok (.iinc 4 1, 3) := dk_132 4 1 (dk_at dksX3_findBest_2 16 rfl rfl)
theorem dX3_findBest_67 : decode cX3_findBest 67 = .ok (.goto (-34), 3) := dk_167 255 222 (dk_at dksX3_findBest_2 19 rfl rfl)
theorem dX3_findBest_70 : decode cX3_findBest 70 = .ok (.aload_n 0, 1) := dk_42 (dk_at dksX3_findBest_2 22 rfl rfl)
theorem dX3_findBest_71 : decode cX3_findBest 71 = .ok (.getfield 90, 3) := dk_180 0 90 (dk_at dksX3_findBest_3 0 rfl rfl)
theorem dX3_findBest_74 : decode cX3_findBest 74 = .ok (.iload_n 3, 1) := dk_29 (dk_at dksX3_findBest_3 3 rfl rfl)
theorem dX3_findBest_75 : decode cX3_findBest 75 = .ok (.iload 4, 2) := dk_21 4 (dk_at dksX3_findBest_3 4 rfl rfl)
theorem dX3_findBest_77 : decode cX3_findBest 77 = .ok (.iastore, 1) := dk_79 (dk_at dksX3_findBest_3 6 rfl rfl)
theorem dX3_findBest_78 : decode cX3_findBest 78 = .ok (.iinc 3 1, 3) := dk_132 3 1 (dk_at dksX3_findBest_3 7 rfl rfl)
theorem dX3_findBest_81 : decode cX3_findBest 81 = .ok (.iload_n 1, 1) := dk_27 (dk_at dksX3_findBest_3 10 rfl rfl)
theorem dX3_findBest_82 : decode cX3_findBest 82 = .ok (.aload_n 0, 1) := dk_42 (dk_at dksX3_findBest_3 11 rfl rfl)
theorem dX3_findBest_83 : decode cX3_findBest 83 = .ok (.getfield 71, 3) := dk_180 0 71 (dk_at dksX3_findBest_3 12 rfl rfl)
theorem dX3_findBest_86 : decode cX3_findBest 86 = .ok (.iload 4, 2) := dk_21 4 (dk_at dksX3_findBest_3 15 rfl rfl)
theorem dX3_findBest_88 : decode cX3_findBest 88 = .ok (.iaload, 1) := dk_46 (dk_at dksX3_findBest_3 17 rfl rfl)
theorem dX3_findBest_89 : decode cX3_findBest 89 = .ok (.isub, 1) := dk_100 (dk_at dksX3_findBest_3 18 rfl rfl)
theorem dX3_findBest_90 : decode cX3_findBest 90 = .ok (.istore_n 1, 1) := dk_60 (dk_at dksX3_findBest_3 19 rfl rfl)
theorem dX3_findBest_91 : decode cX3_findBest 91 = .ok (.aload_n 0, 1) := dk_42 (dk_at dksX3_findBest_3 20 rfl rfl)
theorem dX3_findBest_92 : decode cX3_findBest 92 = .ok (.getfield 19, 3) := dk_180 0 19 (dk_at dksX3_findBest_3 21 rfl rfl)
theorem dX3_findBest_95 : decode cX3_findBest 95 = .ok (.iload 4, 2) := dk_21 4 (dk_at dksX3_findBest_4 0 rfl rfl)
theorem dX3_findBest_97 : decode cX3_findBest 97 = .ok (.iaload, 1) := dk_46 (dk_at dksX3_findBest_4 2 rfl rfl)
theorem dX3_findBest_98 : decode cX3_findBest 98 = .ok (.istore_n 2, 1) := dk_61 (dk_at dksX3_findBest_4 3 rfl rfl)
theorem dX3_findBest_99 : decode cX3_findBest 99 = .ok (.goto (-86), 3) := dk_167 255 170 (dk_at dksX3_findBest_4 4 rfl rfl)
theorem dX3_findBest_102 : decode cX3_findBest 102 = .ok (.iload_n 3, 1) := dk_29 (dk_at dksX3_findBest_4 7 rfl rfl)
theorem dX3_findBest_103 : decode cX3_findBest 103 = .ok (.ifCond .ne 8, 3) := dk_154 0 8 (dk_at dksX3_findBest_4 8 rfl rfl)
theorem dX3_findBest_106 : decode cX3_findBest 106 = .ok (.bipush (-9), 2) := dk_16 247 (dk_at dksX3_findBest_4 11 rfl rfl)
theorem dX3_findBest_108 : decode cX3_findBest 108 = .ok (.goto 4, 3) := dk_167 0 4 (dk_at dksX3_findBest_4 13 rfl rfl)
theorem dX3_findBest_111 : decode cX3_findBest 111 = .ok (.iload_n 3, 1) := dk_29 (dk_at dksX3_findBest_4 16 rfl rfl)
theorem dX3_findBest_112 : decode cX3_findBest 112 = .ok (.ireturn, 1) := dk_172 (dk_at dksX3_findBest_4 17 rfl rfl)
abbrev cX3_layBest : ByteArray := prog_13_method_55_code
def yX3_layBest : MethodName := ⟨RX3, "layBest", "()V"⟩
def dkwX3_layBest_4 : List UInt8 := [167, 255, 163, 177]
abbrev dktX3_layBest_4 : List UInt8 := dkwX3_layBest_4 ++ []
def dkwX3_layBest_3 : List UInt8 := [164, 0, 7, 29, 167, 0, 9, 42, 180, 0, 84, 27, 46, 79, 132, 2, 1, 167, 255, 191, 132, 1, 1]
abbrev dktX3_layBest_3 : List UInt8 := dkwX3_layBest_3 ++ dktX3_layBest_4
def dkwX3_layBest_2 : List UInt8 := [8, 108, 28, 182, 1, 22, 167, 0, 5, 16, 247, 62, 42, 180, 0, 84, 27, 29, 42, 180, 0, 84, 27, 46]
abbrev dktX3_layBest_2 : List UInt8 := dkwX3_layBest_2 ++ dktX3_layBest_3
def dkwX3_layBest_1 : List UInt8 := [28, 42, 180, 0, 103, 162, 0, 63, 42, 27, 8, 108, 27, 8, 112, 28, 182, 0, 194, 153, 0, 14, 42, 27]
abbrev dktX3_layBest_1 : List UInt8 := dkwX3_layBest_1 ++ dktX3_layBest_2
def dkwX3_layBest_0 : List UInt8 := [3, 60, 27, 8, 42, 180, 0, 188, 104, 7, 96, 163, 0, 87, 42, 180, 0, 84, 27, 16, 247, 79, 3, 61]
abbrev dktX3_layBest_0 : List UInt8 := dkwX3_layBest_0 ++ dktX3_layBest_1
theorem dksX3_layBest_0 : cX3_layBest.data.toList.drop 0 = dktX3_layBest_0 := by decide +kernel
theorem dksX3_layBest_1 : cX3_layBest.data.toList.drop 24 = dktX3_layBest_1 := dk_seg dksX3_layBest_0 24 rfl rfl
theorem dksX3_layBest_2 : cX3_layBest.data.toList.drop 48 = dktX3_layBest_2 := dk_seg dksX3_layBest_1 24 rfl rfl
theorem dksX3_layBest_3 : cX3_layBest.data.toList.drop 72 = dktX3_layBest_3 := dk_seg dksX3_layBest_2 24 rfl rfl
theorem dksX3_layBest_4 : cX3_layBest.data.toList.drop 95 = dktX3_layBest_4 := dk_seg dksX3_layBest_3 23 rfl rfl
theorem dX3_layBest_0 : decode cX3_layBest 0 = .ok (.iconst 0, 1) := dk_3 (dk_at dksX3_layBest_0 0 rfl rfl)
theorem dX3_layBest_1 : decode cX3_layBest 1 = .ok (.istore_n 1, 1) := dk_60 (dk_at dksX3_layBest_0 1 rfl rfl)
theorem dX3_layBest_2 : decode cX3_layBest 2 = .ok (.iload_n 1, 1) := dk_27 (dk_at dksX3_layBest_0 2 rfl rfl)
theorem dX3_layBest_3 : decode cX3_layBest 3 = .ok (.iconst 5, 1) := dk_8 (dk_at dksX3_layBest_0 3 rfl rfl)
theorem dX3_layBest_4 : decode cX3_layBest 4 = .ok (.aload_n 0, 1) := dk_42 (dk_at dksX3_layBest_0 4 rfl rfl)
theorem dX3_layBest_5 : decode cX3_layBest 5 = .ok (.getfield 188, 3) := dk_180 0 188 (dk_at dksX3_layBest_0 5 rfl rfl)
theorem dX3_layBest_8 : decode cX3_layBest 8 = .ok (.imul, 1) := dk_104 (dk_at dksX3_layBest_0 8 rfl rfl)
theorem dX3_layBest_9 : decode cX3_layBest 9 = .ok (.iconst 4, 1) := dk_7 (dk_at dksX3_layBest_0 9 rfl rfl)
theorem dX3_layBest_10 : decode cX3_layBest 10 = .ok (.iadd, 1) := dk_96 (dk_at dksX3_layBest_0 10 rfl rfl)
theorem dX3_layBest_11 : decode cX3_layBest 11 = .ok (.if_icmp .gt 87, 3) := dk_163 0 87 (dk_at dksX3_layBest_0 11 rfl rfl)
theorem dX3_layBest_14 : decode cX3_layBest 14 = .ok (.aload_n 0, 1) := dk_42 (dk_at dksX3_layBest_0 14 rfl rfl)
theorem dX3_layBest_15 : decode cX3_layBest 15 = .ok (.getfield 84, 3) := dk_180 0 84 (dk_at dksX3_layBest_0 15 rfl rfl)
theorem dX3_layBest_18 : decode cX3_layBest 18 = .ok (.iload_n 1, 1) := dk_27 (dk_at dksX3_layBest_0 18 rfl rfl)
theorem dX3_layBest_19 : decode cX3_layBest 19 = .ok (.bipush (-9), 2) := dk_16 247 (dk_at dksX3_layBest_0 19 rfl rfl)
theorem dX3_layBest_21 : decode cX3_layBest 21 = .ok (.iastore, 1) := dk_79 (dk_at dksX3_layBest_0 21 rfl rfl)
theorem dX3_layBest_22 : decode cX3_layBest 22 = .ok (.iconst 0, 1) := dk_3 (dk_at dksX3_layBest_0 22 rfl rfl)
theorem dX3_layBest_23 : decode cX3_layBest 23 = .ok (.istore_n 2, 1) := dk_61 (dk_at dksX3_layBest_0 23 rfl rfl)
theorem dX3_layBest_24 : decode cX3_layBest 24 = .ok (.iload_n 2, 1) := dk_28 (dk_at dksX3_layBest_1 0 rfl rfl)
theorem dX3_layBest_25 : decode cX3_layBest 25 = .ok (.aload_n 0, 1) := dk_42 (dk_at dksX3_layBest_1 1 rfl rfl)
theorem dX3_layBest_26 : decode cX3_layBest 26 = .ok (.getfield 103, 3) := dk_180 0 103 (dk_at dksX3_layBest_1 2 rfl rfl)
theorem dX3_layBest_29 : decode cX3_layBest 29 = .ok (.if_icmp .ge 63, 3) := dk_162 0 63 (dk_at dksX3_layBest_1 5 rfl rfl)
theorem dX3_layBest_32 : decode cX3_layBest 32 = .ok (.aload_n 0, 1) := dk_42 (dk_at dksX3_layBest_1 8 rfl rfl)
theorem dX3_layBest_33 : decode cX3_layBest 33 = .ok (.iload_n 1, 1) := dk_27 (dk_at dksX3_layBest_1 9 rfl rfl)
theorem dX3_layBest_34 : decode cX3_layBest 34 = .ok (.iconst 5, 1) := dk_8 (dk_at dksX3_layBest_1 10 rfl rfl)
theorem dX3_layBest_35 : decode cX3_layBest 35 = .ok (.idiv, 1) := dk_108 (dk_at dksX3_layBest_1 11 rfl rfl)
theorem dX3_layBest_36 : decode cX3_layBest 36 = .ok (.iload_n 1, 1) := dk_27 (dk_at dksX3_layBest_1 12 rfl rfl)
theorem dX3_layBest_37 : decode cX3_layBest 37 = .ok (.iconst 5, 1) := dk_8 (dk_at dksX3_layBest_1 13 rfl rfl)
theorem dX3_layBest_38 : decode cX3_layBest 38 = .ok (.irem, 1) := dk_112 (dk_at dksX3_layBest_1 14 rfl rfl)
theorem dX3_layBest_39 : decode cX3_layBest 39 = .ok (.iload_n 2, 1) := dk_28 (dk_at dksX3_layBest_1 15 rfl rfl)
theorem dX3_layBest_40 : decode cX3_layBest 40 = .ok (.invokevirtual 194, 3) := dk_182 0 194 (dk_at dksX3_layBest_1 16 rfl rfl)
theorem dX3_layBest_43 : decode cX3_layBest 43 = .ok (.ifCond .eq 14, 3) := dk_153 0 14 (dk_at dksX3_layBest_1 19 rfl rfl)
theorem dX3_layBest_46 : decode cX3_layBest 46 = .ok (.aload_n 0, 1) := dk_42 (dk_at dksX3_layBest_1 22 rfl rfl)
theorem dX3_layBest_47 : decode cX3_layBest 47 = .ok (.iload_n 1, 1) := dk_27 (dk_at dksX3_layBest_1 23 rfl rfl)
theorem dX3_layBest_48 : decode cX3_layBest 48 = .ok (.iconst 5, 1) := dk_8 (dk_at dksX3_layBest_2 0 rfl rfl)
theorem dX3_layBest_49 : decode cX3_layBest 49 = .ok (.idiv, 1) := dk_108 (dk_at dksX3_layBest_2 1 rfl rfl)
theorem dX3_layBest_50 : decode cX3_layBest 50 = .ok (.iload_n 2, 1) := dk_28 (dk_at dksX3_layBest_2 2 rfl rfl)
theorem dX3_layBest_51 : decode cX3_layBest 51 = .ok (.invokevirtual 278, 3) := dk_182 1 22 (dk_at dksX3_layBest_2 3 rfl rfl)
theorem dX3_layBest_54 : decode cX3_layBest 54 = .ok (.goto 5, 3) := dk_167 0 5 (dk_at dksX3_layBest_2 6 rfl rfl)
theorem dX3_layBest_57 : decode cX3_layBest 57 = .ok (.bipush (-9), 2) := dk_16 247 (dk_at dksX3_layBest_2 9 rfl rfl)
theorem dX3_layBest_59 : decode cX3_layBest 59 = .ok (.istore_n 3, 1) := dk_62 (dk_at dksX3_layBest_2 11 rfl rfl)
theorem dX3_layBest_60 : decode cX3_layBest 60 = .ok (.aload_n 0, 1) := dk_42 (dk_at dksX3_layBest_2 12 rfl rfl)
theorem dX3_layBest_61 : decode cX3_layBest 61 = .ok (.getfield 84, 3) := dk_180 0 84 (dk_at dksX3_layBest_2 13 rfl rfl)
theorem dX3_layBest_64 : decode cX3_layBest 64 = .ok (.iload_n 1, 1) := dk_27 (dk_at dksX3_layBest_2 16 rfl rfl)
theorem dX3_layBest_65 : decode cX3_layBest 65 = .ok (.iload_n 3, 1) := dk_29 (dk_at dksX3_layBest_2 17 rfl rfl)
theorem dX3_layBest_66 : decode cX3_layBest 66 = .ok (.aload_n 0, 1) := dk_42 (dk_at dksX3_layBest_2 18 rfl rfl)
theorem dX3_layBest_67 : decode cX3_layBest 67 = .ok (.getfield 84, 3) := dk_180 0 84 (dk_at dksX3_layBest_2 19 rfl rfl)
theorem dX3_layBest_70 : decode cX3_layBest 70 = .ok (.iload_n 1, 1) := dk_27 (dk_at dksX3_layBest_2 22 rfl rfl)
theorem dX3_layBest_71 : decode cX3_layBest 71 = .ok (.iaload, 1) := dk_46 (dk_at dksX3_layBest_2 23 rfl rfl)
theorem dX3_layBest_72 : decode cX3_layBest 72 = .ok (.if_icmp .le 7, 3) := dk_164 0 7 (dk_at dksX3_layBest_3 0 rfl rfl)
theorem dX3_layBest_75 : decode cX3_layBest 75 = .ok (.iload_n 3, 1) := dk_29 (dk_at dksX3_layBest_3 3 rfl rfl)
theorem dX3_layBest_76 : decode cX3_layBest 76 = .ok (.goto 9, 3) := dk_167 0 9 (dk_at dksX3_layBest_3 4 rfl rfl)
theorem dX3_layBest_79 : decode cX3_layBest 79 = .ok (.aload_n 0, 1) := dk_42 (dk_at dksX3_layBest_3 7 rfl rfl)
theorem dX3_layBest_80 : decode cX3_layBest 80 = .ok (.getfield 84, 3) := dk_180 0 84 (dk_at dksX3_layBest_3 8 rfl rfl)
theorem dX3_layBest_83 : decode cX3_layBest 83 = .ok (.iload_n 1, 1) := dk_27 (dk_at dksX3_layBest_3 11 rfl rfl)
theorem dX3_layBest_84 : decode cX3_layBest 84 = .ok (.iaload, 1) := dk_46 (dk_at dksX3_layBest_3 12 rfl rfl)
theorem dX3_layBest_85 : decode cX3_layBest 85 = .ok (.iastore, 1) := dk_79 (dk_at dksX3_layBest_3 13 rfl rfl)
theorem dX3_layBest_86 : decode cX3_layBest 86 = .ok (.iinc 2 1, 3) := dk_132 2 1 (dk_at dksX3_layBest_3 14 rfl rfl)
theorem dX3_layBest_89 : decode cX3_layBest 89 = .ok (.goto (-65), 3) := dk_167 255 191 (dk_at dksX3_layBest_3 17 rfl rfl)
theorem dX3_layBest_92 : decode cX3_layBest 92 = .ok (.iinc 1 1, 3) := dk_132 1 1 (dk_at dksX3_layBest_3 20 rfl rfl)
theorem dX3_layBest_95 : decode cX3_layBest 95 = .ok (.goto (-93), 3) := dk_167 255 163 (dk_at dksX3_layBest_4 0 rfl rfl)
theorem dX3_layBest_98 : decode cX3_layBest 98 = .ok (.return_, 1) := dk_177 (dk_at dksX3_layBest_4 3 rfl rfl)
abbrev cX3_bestWith : ByteArray := prog_13_method_56_code
def yX3_bestWith : MethodName := ⟨RX3, "bestWith", "(II)I"⟩
def dkwX3_bestWith_4 : List UInt8 := [172]
abbrev dktX3_bestWith_4 : List UInt8 := dkwX3_bestWith_4 ++ []
def dkwX3_bestWith_3 : List UInt8 := [180, 0, 84, 8, 29, 104, 42, 180, 0, 19, 28, 46, 96, 46, 42, 180, 0, 65, 16, 9, 28, 96, 46, 96]
abbrev dktX3_bestWith_3 : List UInt8 := dkwX3_bestWith_3 ++ dktX3_bestWith_4
def dkwX3_bestWith_2 : List UInt8 := [180, 0, 84, 8, 29, 104, 42, 180, 0, 19, 28, 46, 96, 46, 156, 0, 8, 16, 247, 167, 0, 28, 42]
abbrev dktX3_bestWith_2 : List UInt8 := dkwX3_bestWith_2 ++ dktX3_bestWith_3
def dkwX3_bestWith_1 : List UInt8 := [28, 46, 184, 0, 149, 153, 0, 15, 42, 180, 0, 65, 16, 9, 28, 96, 46, 167, 0, 5, 16, 247, 172, 42]
abbrev dktX3_bestWith_1 : List UInt8 := dkwX3_bestWith_1 ++ dktX3_bestWith_2
def dkwX3_bestWith_0 : List UInt8 := [27, 42, 180, 0, 71, 28, 46, 100, 62, 29, 154, 0, 37, 42, 180, 0, 65, 16, 20, 46, 42, 180, 0, 19]
abbrev dktX3_bestWith_0 : List UInt8 := dkwX3_bestWith_0 ++ dktX3_bestWith_1
theorem dksX3_bestWith_0 : cX3_bestWith.data.toList.drop 0 = dktX3_bestWith_0 := by decide +kernel
theorem dksX3_bestWith_1 : cX3_bestWith.data.toList.drop 24 = dktX3_bestWith_1 := dk_seg dksX3_bestWith_0 24 rfl rfl
theorem dksX3_bestWith_2 : cX3_bestWith.data.toList.drop 48 = dktX3_bestWith_2 := dk_seg dksX3_bestWith_1 24 rfl rfl
theorem dksX3_bestWith_3 : cX3_bestWith.data.toList.drop 71 = dktX3_bestWith_3 := dk_seg dksX3_bestWith_2 23 rfl rfl
theorem dksX3_bestWith_4 : cX3_bestWith.data.toList.drop 95 = dktX3_bestWith_4 := dk_seg dksX3_bestWith_3 24 rfl rfl
theorem dX3_bestWith_0 : decode cX3_bestWith 0 = .ok (.iload_n 1, 1) := dk_27 (dk_at dksX3_bestWith_0 0 rfl rfl)
theorem dX3_bestWith_1 : decode cX3_bestWith 1 = .ok (.aload_n 0, 1) := dk_42 (dk_at dksX3_bestWith_0 1 rfl rfl)
theorem dX3_bestWith_2 : decode cX3_bestWith 2 = .ok (.getfield 71, 3) := dk_180 0 71 (dk_at dksX3_bestWith_0 2 rfl rfl)
theorem dX3_bestWith_5 : decode cX3_bestWith 5 = .ok (.iload_n 2, 1) := dk_28 (dk_at dksX3_bestWith_0 5 rfl rfl)
theorem dX3_bestWith_6 : decode cX3_bestWith 6 = .ok (.iaload, 1) := dk_46 (dk_at dksX3_bestWith_0 6 rfl rfl)
theorem dX3_bestWith_7 : decode cX3_bestWith 7 = .ok (.isub, 1) := dk_100 (dk_at dksX3_bestWith_0 7 rfl rfl)
theorem dX3_bestWith_8 : decode cX3_bestWith 8 = .ok (.istore_n 3, 1) := dk_62 (dk_at dksX3_bestWith_0 8 rfl rfl)
theorem dX3_bestWith_9 : decode cX3_bestWith 9 = .ok (.iload_n 3, 1) := dk_29 (dk_at dksX3_bestWith_0 9 rfl rfl)
theorem dX3_bestWith_10 : decode cX3_bestWith 10 = .ok (.ifCond .ne 37, 3) := dk_154 0 37 (dk_at dksX3_bestWith_0 10 rfl rfl)
theorem dX3_bestWith_13 : decode cX3_bestWith 13 = .ok (.aload_n 0, 1) := dk_42 (dk_at dksX3_bestWith_0 13 rfl rfl)
theorem dX3_bestWith_14 : decode cX3_bestWith 14 = .ok (.getfield 65, 3) := dk_180 0 65 (dk_at dksX3_bestWith_0 14 rfl rfl)
theorem dX3_bestWith_17 : decode cX3_bestWith 17 = .ok (.bipush 20, 2) := dk_16 20 (dk_at dksX3_bestWith_0 17 rfl rfl)
theorem dX3_bestWith_19 : decode cX3_bestWith 19 = .ok (.iaload, 1) := dk_46 (dk_at dksX3_bestWith_0 19 rfl rfl)
theorem dX3_bestWith_20 : decode cX3_bestWith 20 = .ok (.aload_n 0, 1) := dk_42 (dk_at dksX3_bestWith_0 20 rfl rfl)
theorem dX3_bestWith_21 : decode cX3_bestWith 21 = .ok (.getfield 19, 3) := dk_180 0 19 (dk_at dksX3_bestWith_0 21 rfl rfl)
theorem dX3_bestWith_24 : decode cX3_bestWith 24 = .ok (.iload_n 2, 1) := dk_28 (dk_at dksX3_bestWith_1 0 rfl rfl)
theorem dX3_bestWith_25 : decode cX3_bestWith 25 = .ok (.iaload, 1) := dk_46 (dk_at dksX3_bestWith_1 1 rfl rfl)
theorem dX3_bestWith_26 : decode cX3_bestWith 26 = .ok (.invokestatic 149, 3) := dk_184 0 149 (dk_at dksX3_bestWith_1 2 rfl rfl)
theorem dX3_bestWith_29 : decode cX3_bestWith 29 = .ok (.ifCond .eq 15, 3) := dk_153 0 15 (dk_at dksX3_bestWith_1 5 rfl rfl)
theorem dX3_bestWith_32 : decode cX3_bestWith 32 = .ok (.aload_n 0, 1) := dk_42 (dk_at dksX3_bestWith_1 8 rfl rfl)
theorem dX3_bestWith_33 : decode cX3_bestWith 33 = .ok (.getfield 65, 3) := dk_180 0 65 (dk_at dksX3_bestWith_1 9 rfl rfl)
theorem dX3_bestWith_36 : decode cX3_bestWith 36 = .ok (.bipush 9, 2) := dk_16 9 (dk_at dksX3_bestWith_1 12 rfl rfl)
theorem dX3_bestWith_38 : decode cX3_bestWith 38 = .ok (.iload_n 2, 1) := dk_28 (dk_at dksX3_bestWith_1 14 rfl rfl)
theorem dX3_bestWith_39 : decode cX3_bestWith 39 = .ok (.iadd, 1) := dk_96 (dk_at dksX3_bestWith_1 15 rfl rfl)
theorem dX3_bestWith_40 : decode cX3_bestWith 40 = .ok (.iaload, 1) := dk_46 (dk_at dksX3_bestWith_1 16 rfl rfl)
theorem dX3_bestWith_41 : decode cX3_bestWith 41 = .ok (.goto 5, 3) := dk_167 0 5 (dk_at dksX3_bestWith_1 17 rfl rfl)
theorem dX3_bestWith_44 : decode cX3_bestWith 44 = .ok (.bipush (-9), 2) := dk_16 247 (dk_at dksX3_bestWith_1 20 rfl rfl)
theorem dX3_bestWith_46 : decode cX3_bestWith 46 = .ok (.ireturn, 1) := dk_172 (dk_at dksX3_bestWith_1 22 rfl rfl)
theorem dX3_bestWith_47 : decode cX3_bestWith 47 = .ok (.aload_n 0, 1) := dk_42 (dk_at dksX3_bestWith_1 23 rfl rfl)
theorem dX3_bestWith_48 : decode cX3_bestWith 48 = .ok (.getfield 84, 3) := dk_180 0 84 (dk_at dksX3_bestWith_2 0 rfl rfl)
theorem dX3_bestWith_51 : decode cX3_bestWith 51 = .ok (.iconst 5, 1) := dk_8 (dk_at dksX3_bestWith_2 3 rfl rfl)
theorem dX3_bestWith_52 : decode cX3_bestWith 52 = .ok (.iload_n 3, 1) := dk_29 (dk_at dksX3_bestWith_2 4 rfl rfl)
theorem dX3_bestWith_53 : decode cX3_bestWith 53 = .ok (.imul, 1) := dk_104 (dk_at dksX3_bestWith_2 5 rfl rfl)
theorem dX3_bestWith_54 : decode cX3_bestWith 54 = .ok (.aload_n 0, 1) := dk_42 (dk_at dksX3_bestWith_2 6 rfl rfl)
theorem dX3_bestWith_55 : decode cX3_bestWith 55 = .ok (.getfield 19, 3) := dk_180 0 19 (dk_at dksX3_bestWith_2 7 rfl rfl)
theorem dX3_bestWith_58 : decode cX3_bestWith 58 = .ok (.iload_n 2, 1) := dk_28 (dk_at dksX3_bestWith_2 10 rfl rfl)
theorem dX3_bestWith_59 : decode cX3_bestWith 59 = .ok (.iaload, 1) := dk_46 (dk_at dksX3_bestWith_2 11 rfl rfl)
theorem dX3_bestWith_60 : decode cX3_bestWith 60 = .ok (.iadd, 1) := dk_96 (dk_at dksX3_bestWith_2 12 rfl rfl)
theorem dX3_bestWith_61 : decode cX3_bestWith 61 = .ok (.iaload, 1) := dk_46 (dk_at dksX3_bestWith_2 13 rfl rfl)
theorem dX3_bestWith_62 : decode cX3_bestWith 62 = .ok (.ifCond .ge 8, 3) := dk_156 0 8 (dk_at dksX3_bestWith_2 14 rfl rfl)
theorem dX3_bestWith_65 : decode cX3_bestWith 65 = .ok (.bipush (-9), 2) := dk_16 247 (dk_at dksX3_bestWith_2 17 rfl rfl)
theorem dX3_bestWith_67 : decode cX3_bestWith 67 = .ok (.goto 28, 3) := dk_167 0 28 (dk_at dksX3_bestWith_2 19 rfl rfl)
theorem dX3_bestWith_70 : decode cX3_bestWith 70 = .ok (.aload_n 0, 1) := dk_42 (dk_at dksX3_bestWith_2 22 rfl rfl)
theorem dX3_bestWith_71 : decode cX3_bestWith 71 = .ok (.getfield 84, 3) := dk_180 0 84 (dk_at dksX3_bestWith_3 0 rfl rfl)
theorem dX3_bestWith_74 : decode cX3_bestWith 74 = .ok (.iconst 5, 1) := dk_8 (dk_at dksX3_bestWith_3 3 rfl rfl)
theorem dX3_bestWith_75 : decode cX3_bestWith 75 = .ok (.iload_n 3, 1) := dk_29 (dk_at dksX3_bestWith_3 4 rfl rfl)
theorem dX3_bestWith_76 : decode cX3_bestWith 76 = .ok (.imul, 1) := dk_104 (dk_at dksX3_bestWith_3 5 rfl rfl)
theorem dX3_bestWith_77 : decode cX3_bestWith 77 = .ok (.aload_n 0, 1) := dk_42 (dk_at dksX3_bestWith_3 6 rfl rfl)
theorem dX3_bestWith_78 : decode cX3_bestWith 78 = .ok (.getfield 19, 3) := dk_180 0 19 (dk_at dksX3_bestWith_3 7 rfl rfl)
theorem dX3_bestWith_81 : decode cX3_bestWith 81 = .ok (.iload_n 2, 1) := dk_28 (dk_at dksX3_bestWith_3 10 rfl rfl)
theorem dX3_bestWith_82 : decode cX3_bestWith 82 = .ok (.iaload, 1) := dk_46 (dk_at dksX3_bestWith_3 11 rfl rfl)
theorem dX3_bestWith_83 : decode cX3_bestWith 83 = .ok (.iadd, 1) := dk_96 (dk_at dksX3_bestWith_3 12 rfl rfl)
theorem dX3_bestWith_84 : decode cX3_bestWith 84 = .ok (.iaload, 1) := dk_46 (dk_at dksX3_bestWith_3 13 rfl rfl)
theorem dX3_bestWith_85 : decode cX3_bestWith 85 = .ok (.aload_n 0, 1) := dk_42 (dk_at dksX3_bestWith_3 14 rfl rfl)
theorem dX3_bestWith_86 : decode cX3_bestWith 86 = .ok (.getfield 65, 3) := dk_180 0 65 (dk_at dksX3_bestWith_3 15 rfl rfl)
theorem dX3_bestWith_89 : decode cX3_bestWith 89 = .ok (.bipush 9, 2) := dk_16 9 (dk_at dksX3_bestWith_3 18 rfl rfl)
theorem dX3_bestWith_91 : decode cX3_bestWith 91 = .ok (.iload_n 2, 1) := dk_28 (dk_at dksX3_bestWith_3 20 rfl rfl)
theorem dX3_bestWith_92 : decode cX3_bestWith 92 = .ok (.iadd, 1) := dk_96 (dk_at dksX3_bestWith_3 21 rfl rfl)
theorem dX3_bestWith_93 : decode cX3_bestWith 93 = .ok (.iaload, 1) := dk_46 (dk_at dksX3_bestWith_3 22 rfl rfl)
theorem dX3_bestWith_94 : decode cX3_bestWith 94 = .ok (.iadd, 1) := dk_96 (dk_at dksX3_bestWith_3 23 rfl rfl)
theorem dX3_bestWith_95 : decode cX3_bestWith 95 = .ok (.ireturn, 1) := dk_172 (dk_at dksX3_bestWith_4 0 rfl rfl)
abbrev cX3_worthOf : ByteArray := prog_13_method_58_code
def yX3_worthOf : MethodName := ⟨RX3, "worthOf", "(I)I"⟩
def dkwX3_worthOf_1 : List UInt8 := [96, 61, 132, 3, 1, 167, 255, 231, 28, 172]
abbrev dktX3_worthOf_1 : List UInt8 := dkwX3_worthOf_1 ++ []
def dkwX3_worthOf_0 : List UInt8 := [3, 61, 3, 62, 29, 27, 162, 0, 26, 28, 42, 180, 0, 65, 16, 9, 42, 180, 0, 90, 29, 46, 96, 46]
abbrev dktX3_worthOf_0 : List UInt8 := dkwX3_worthOf_0 ++ dktX3_worthOf_1
theorem dksX3_worthOf_0 : cX3_worthOf.data.toList.drop 0 = dktX3_worthOf_0 := by decide +kernel
theorem dksX3_worthOf_1 : cX3_worthOf.data.toList.drop 24 = dktX3_worthOf_1 := dk_seg dksX3_worthOf_0 24 rfl rfl
theorem dX3_worthOf_0 : decode cX3_worthOf 0 = .ok (.iconst 0, 1) := dk_3 (dk_at dksX3_worthOf_0 0 rfl rfl)
theorem dX3_worthOf_1 : decode cX3_worthOf 1 = .ok (.istore_n 2, 1) := dk_61 (dk_at dksX3_worthOf_0 1 rfl rfl)
theorem dX3_worthOf_2 : decode cX3_worthOf 2 = .ok (.iconst 0, 1) := dk_3 (dk_at dksX3_worthOf_0 2 rfl rfl)
theorem dX3_worthOf_3 : decode cX3_worthOf 3 = .ok (.istore_n 3, 1) := dk_62 (dk_at dksX3_worthOf_0 3 rfl rfl)
theorem dX3_worthOf_4 : decode cX3_worthOf 4 = .ok (.iload_n 3, 1) := dk_29 (dk_at dksX3_worthOf_0 4 rfl rfl)
theorem dX3_worthOf_5 : decode cX3_worthOf 5 = .ok (.iload_n 1, 1) := dk_27 (dk_at dksX3_worthOf_0 5 rfl rfl)
theorem dX3_worthOf_6 : decode cX3_worthOf 6 = .ok (.if_icmp .ge 26, 3) := dk_162 0 26 (dk_at dksX3_worthOf_0 6 rfl rfl)
theorem dX3_worthOf_9 : decode cX3_worthOf 9 = .ok (.iload_n 2, 1) := dk_28 (dk_at dksX3_worthOf_0 9 rfl rfl)
theorem dX3_worthOf_10 : decode cX3_worthOf 10 = .ok (.aload_n 0, 1) := dk_42 (dk_at dksX3_worthOf_0 10 rfl rfl)
theorem dX3_worthOf_11 : decode cX3_worthOf 11 = .ok (.getfield 65, 3) := dk_180 0 65 (dk_at dksX3_worthOf_0 11 rfl rfl)
theorem dX3_worthOf_14 : decode cX3_worthOf 14 = .ok (.bipush 9, 2) := dk_16 9 (dk_at dksX3_worthOf_0 14 rfl rfl)
theorem dX3_worthOf_16 : decode cX3_worthOf 16 = .ok (.aload_n 0, 1) := dk_42 (dk_at dksX3_worthOf_0 16 rfl rfl)
theorem dX3_worthOf_17 : decode cX3_worthOf 17 = .ok (.getfield 90, 3) := dk_180 0 90 (dk_at dksX3_worthOf_0 17 rfl rfl)
theorem dX3_worthOf_20 : decode cX3_worthOf 20 = .ok (.iload_n 3, 1) := dk_29 (dk_at dksX3_worthOf_0 20 rfl rfl)
theorem dX3_worthOf_21 : decode cX3_worthOf 21 = .ok (.iaload, 1) := dk_46 (dk_at dksX3_worthOf_0 21 rfl rfl)
theorem dX3_worthOf_22 : decode cX3_worthOf 22 = .ok (.iadd, 1) := dk_96 (dk_at dksX3_worthOf_0 22 rfl rfl)
theorem dX3_worthOf_23 : decode cX3_worthOf 23 = .ok (.iaload, 1) := dk_46 (dk_at dksX3_worthOf_0 23 rfl rfl)
theorem dX3_worthOf_24 : decode cX3_worthOf 24 = .ok (.iadd, 1) := dk_96 (dk_at dksX3_worthOf_1 0 rfl rfl)
theorem dX3_worthOf_25 : decode cX3_worthOf 25 = .ok (.istore_n 2, 1) := dk_61 (dk_at dksX3_worthOf_1 1 rfl rfl)
theorem dX3_worthOf_26 : decode cX3_worthOf 26 = .ok (.iinc 3 1, 3) := dk_132 3 1 (dk_at dksX3_worthOf_1 2 rfl rfl)
theorem dX3_worthOf_29 : decode cX3_worthOf 29 = .ok (.goto (-25), 3) := dk_167 255 231 (dk_at dksX3_worthOf_1 5 rfl rfl)
theorem dX3_worthOf_32 : decode cX3_worthOf 32 = .ok (.iload_n 2, 1) := dk_28 (dk_at dksX3_worthOf_1 8 rfl rfl)
theorem dX3_worthOf_33 : decode cX3_worthOf 33 = .ok (.ireturn, 1) := dk_172 (dk_at dksX3_worthOf_1 9 rfl rfl)
abbrev cX3_phrase : ByteArray := prog_13_method_61_code
def yX3_phrase : MethodName := ⟨RX3, "phrase", "(JI)I"⟩
def dkwX3_phrase_3 : List UInt8 := [163, 0, 14, 42, 180, 0, 90, 29, 4, 100, 46, 167, 0, 5, 16, 247, 172]
abbrev dktX3_phrase_3 : List UInt8 := dkwX3_phrase_3 ++ []
def dkwX3_phrase_2 : List UInt8 := [21, 4, 167, 0, 37, 29, 16, 13, 160, 0, 12, 42, 21, 4, 182, 1, 34, 167, 0, 22, 29, 21, 4]
abbrev dktX3_phrase_2 : List UInt8 := dkwX3_phrase_2 ++ dktX3_phrase_3
def dkwX3_phrase_1 : List UInt8 := [20, 1, 29, 184, 0, 107, 154, 0, 6, 16, 254, 172, 42, 31, 182, 1, 37, 54, 4, 29, 154, 0, 8]
abbrev dktX3_phrase_1 : List UInt8 := dkwX3_phrase_1 ++ dktX3_phrase_2
def dkwX3_phrase_0 : List UInt8 := [31, 9, 42, 42, 180, 0, 25, 182, 1, 16, 10, 101, 184, 0, 107, 154, 0, 5, 2, 172, 29, 133, 9]
abbrev dktX3_phrase_0 : List UInt8 := dkwX3_phrase_0 ++ dktX3_phrase_1
theorem dksX3_phrase_0 : cX3_phrase.data.toList.drop 0 = dktX3_phrase_0 := by decide +kernel
theorem dksX3_phrase_1 : cX3_phrase.data.toList.drop 23 = dktX3_phrase_1 := dk_seg dksX3_phrase_0 23 rfl rfl
theorem dksX3_phrase_2 : cX3_phrase.data.toList.drop 46 = dktX3_phrase_2 := dk_seg dksX3_phrase_1 23 rfl rfl
theorem dksX3_phrase_3 : cX3_phrase.data.toList.drop 69 = dktX3_phrase_3 := dk_seg dksX3_phrase_2 23 rfl rfl
theorem dX3_phrase_0 : decode cX3_phrase 0 = .ok (.lload_n 1, 1) := dk_31 (dk_at dksX3_phrase_0 0 rfl rfl)
theorem dX3_phrase_1 : decode cX3_phrase 1 = .ok (.lconst 0, 1) := dk_9 (dk_at dksX3_phrase_0 1 rfl rfl)
theorem dX3_phrase_2 : decode cX3_phrase 2 = .ok (.aload_n 0, 1) := dk_42 (dk_at dksX3_phrase_0 2 rfl rfl)
theorem dX3_phrase_3 : decode cX3_phrase 3 = .ok (.aload_n 0, 1) := dk_42 (dk_at dksX3_phrase_0 3 rfl rfl)
theorem dX3_phrase_4 : decode cX3_phrase 4 = .ok (.getfield 25, 3) := dk_180 0 25 (dk_at dksX3_phrase_0 4 rfl rfl)
theorem dX3_phrase_7 : decode cX3_phrase 7 = .ok (.invokevirtual 272, 3) := dk_182 1 16 (dk_at dksX3_phrase_0 7 rfl rfl)
theorem dX3_phrase_10 : decode cX3_phrase 10 = .ok (.lconst 1, 1) := dk_10 (dk_at dksX3_phrase_0 10 rfl rfl)
theorem dX3_phrase_11 : decode cX3_phrase 11 = .ok (.lsub, 1) := dk_101 (dk_at dksX3_phrase_0 11 rfl rfl)
theorem dX3_phrase_12 : decode cX3_phrase 12 = .ok (.invokestatic 107, 3) := dk_184 0 107 (dk_at dksX3_phrase_0 12 rfl rfl)
theorem dX3_phrase_15 : decode cX3_phrase 15 = .ok (.ifCond .ne 5, 3) := dk_154 0 5 (dk_at dksX3_phrase_0 15 rfl rfl)
theorem dX3_phrase_18 : decode cX3_phrase 18 = .ok (.iconst (-1), 1) := dk_2 (dk_at dksX3_phrase_0 18 rfl rfl)
theorem dX3_phrase_19 : decode cX3_phrase 19 = .ok (.ireturn, 1) := dk_172 (dk_at dksX3_phrase_0 19 rfl rfl)
theorem dX3_phrase_20 : decode cX3_phrase 20 = .ok (.iload_n 3, 1) := dk_29 (dk_at dksX3_phrase_0 20 rfl rfl)
theorem dX3_phrase_21 : decode cX3_phrase 21 = .ok (.i2l, 1) := dk_133 (dk_at dksX3_phrase_0 21 rfl rfl)
theorem dX3_phrase_22 : decode cX3_phrase 22 = .ok (.lconst 0, 1) := dk_9 (dk_at dksX3_phrase_0 22 rfl rfl)
theorem dX3_phrase_23 : decode cX3_phrase 23 = .ok (.ldc2_w 285, 3) := dk_20 1 29 (dk_at dksX3_phrase_1 0 rfl rfl)
theorem dX3_phrase_26 : decode cX3_phrase 26 = .ok (.invokestatic 107, 3) := dk_184 0 107 (dk_at dksX3_phrase_1 3 rfl rfl)
theorem dX3_phrase_29 : decode cX3_phrase 29 = .ok (.ifCond .ne 6, 3) := dk_154 0 6 (dk_at dksX3_phrase_1 6 rfl rfl)
theorem dX3_phrase_32 : decode cX3_phrase 32 = .ok (.bipush (-2), 2) := dk_16 254 (dk_at dksX3_phrase_1 9 rfl rfl)
theorem dX3_phrase_34 : decode cX3_phrase 34 = .ok (.ireturn, 1) := dk_172 (dk_at dksX3_phrase_1 11 rfl rfl)
theorem dX3_phrase_35 : decode cX3_phrase 35 = .ok (.aload_n 0, 1) := dk_42 (dk_at dksX3_phrase_1 12 rfl rfl)
theorem dX3_phrase_36 : decode cX3_phrase 36 = .ok (.lload_n 1, 1) := dk_31 (dk_at dksX3_phrase_1 13 rfl rfl)
theorem dX3_phrase_37 : decode cX3_phrase 37 = .ok (.invokevirtual 293, 3) := dk_182 1 37 (dk_at dksX3_phrase_1 14 rfl rfl)
theorem dX3_phrase_40 : decode cX3_phrase 40 = .ok (.istore 4, 2) := dk_54 4 (dk_at dksX3_phrase_1 17 rfl rfl)
theorem dX3_phrase_42 : decode cX3_phrase 42 = .ok (.iload_n 3, 1) := dk_29 (dk_at dksX3_phrase_1 19 rfl rfl)
theorem dX3_phrase_43 : decode cX3_phrase 43 = .ok (.ifCond .ne 8, 3) := dk_154 0 8 (dk_at dksX3_phrase_1 20 rfl rfl)
theorem dX3_phrase_46 : decode cX3_phrase 46 = .ok (.iload 4, 2) := dk_21 4 (dk_at dksX3_phrase_2 0 rfl rfl)
theorem dX3_phrase_48 : decode cX3_phrase 48 = .ok (.goto 37, 3) := dk_167 0 37 (dk_at dksX3_phrase_2 2 rfl rfl)
theorem dX3_phrase_51 : decode cX3_phrase 51 = .ok (.iload_n 3, 1) := dk_29 (dk_at dksX3_phrase_2 5 rfl rfl)
theorem dX3_phrase_52 : decode cX3_phrase 52 = .ok (.bipush 13, 2) := dk_16 13 (dk_at dksX3_phrase_2 6 rfl rfl)
theorem dX3_phrase_54 : decode cX3_phrase 54 = .ok (.if_icmp .ne 12, 3) := dk_160 0 12 (dk_at dksX3_phrase_2 8 rfl rfl)
theorem dX3_phrase_57 : decode cX3_phrase 57 = .ok (.aload_n 0, 1) := dk_42 (dk_at dksX3_phrase_2 11 rfl rfl)
theorem dX3_phrase_58 : decode cX3_phrase 58 = .ok (.iload 4, 2) := dk_21 4 (dk_at dksX3_phrase_2 12 rfl rfl)
theorem dX3_phrase_60 : decode cX3_phrase 60 = .ok (.invokevirtual 290, 3) := dk_182 1 34 (dk_at dksX3_phrase_2 14 rfl rfl)
theorem dX3_phrase_63 : decode cX3_phrase 63 = .ok (.goto 22, 3) := dk_167 0 22 (dk_at dksX3_phrase_2 17 rfl rfl)
theorem dX3_phrase_66 : decode cX3_phrase 66 = .ok (.iload_n 3, 1) := dk_29 (dk_at dksX3_phrase_2 20 rfl rfl)
theorem dX3_phrase_67 : decode cX3_phrase 67 = .ok (.iload 4, 2) := dk_21 4 (dk_at dksX3_phrase_2 21 rfl rfl)
theorem dX3_phrase_69 : decode cX3_phrase 69 = .ok (.if_icmp .gt 14, 3) := dk_163 0 14 (dk_at dksX3_phrase_3 0 rfl rfl)
theorem dX3_phrase_72 : decode cX3_phrase 72 = .ok (.aload_n 0, 1) := dk_42 (dk_at dksX3_phrase_3 3 rfl rfl)
theorem dX3_phrase_73 : decode cX3_phrase 73 = .ok (.getfield 90, 3) := dk_180 0 90 (dk_at dksX3_phrase_3 4 rfl rfl)
theorem dX3_phrase_76 : decode cX3_phrase 76 = .ok (.iload_n 3, 1) := dk_29 (dk_at dksX3_phrase_3 7 rfl rfl)
theorem dX3_phrase_77 : decode cX3_phrase 77 = .ok (.iconst 1, 1) := dk_4 (dk_at dksX3_phrase_3 8 rfl rfl)
theorem dX3_phrase_78 : decode cX3_phrase 78 = .ok (.isub, 1) := dk_100 (dk_at dksX3_phrase_3 9 rfl rfl)
theorem dX3_phrase_79 : decode cX3_phrase 79 = .ok (.iaload, 1) := dk_46 (dk_at dksX3_phrase_3 10 rfl rfl)
theorem dX3_phrase_80 : decode cX3_phrase 80 = .ok (.goto 5, 3) := dk_167 0 5 (dk_at dksX3_phrase_3 11 rfl rfl)
theorem dX3_phrase_83 : decode cX3_phrase 83 = .ok (.bipush (-9), 2) := dk_16 247 (dk_at dksX3_phrase_3 14 rfl rfl)
theorem dX3_phrase_85 : decode cX3_phrase 85 = .ok (.ireturn, 1) := dk_172 (dk_at dksX3_phrase_3 16 rfl rfl)
abbrev cX3_find : ByteArray := prog_13_method_60_code
def yX3_find : MethodName := ⟨RX3, "find", "(J)I"⟩
def dkwX3_find_4 : List UInt8 := [42, 180, 0, 19, 21, 8, 46, 54, 6, 167, 255, 166, 21, 7, 172]
abbrev dktX3_find_4 : List UInt8 := dkwX3_find_4 ++ []
def dkwX3_find_3 : List UInt8 := [42, 180, 0, 90, 21, 7, 21, 8, 79, 132, 7, 1, 21, 5, 42, 180, 0, 71, 21, 8, 46, 100, 54, 5]
abbrev dktX3_find_3 : List UInt8 := dkwX3_find_3 ++ dktX3_find_4
def dkwX3_find_2 : List UInt8 := [42, 180, 0, 74, 21, 5, 21, 8, 182, 0, 198, 167, 0, 4, 9, 55, 9, 33, 22, 9, 148, 156, 255, 213]
abbrev dktX3_find_2 : List UInt8 := dkwX3_find_2 ++ dktX3_find_3
def dkwX3_find_1 : List UInt8 := [55, 9, 33, 22, 9, 101, 66, 132, 8, 1, 42, 21, 5, 21, 6, 21, 8, 182, 0, 194, 153, 0, 18, 42]
abbrev dktX3_find_1 : List UInt8 := dkwX3_find_1 ++ dktX3_find_2
def dkwX3_find_0 : List UInt8 := [31, 66, 42, 180, 0, 188, 54, 5, 7, 54, 6, 3, 54, 7, 21, 5, 158, 0, 91, 2, 54, 8, 9]
abbrev dktX3_find_0 : List UInt8 := dkwX3_find_0 ++ dktX3_find_1
theorem dksX3_find_0 : cX3_find.data.toList.drop 0 = dktX3_find_0 := by decide +kernel
theorem dksX3_find_1 : cX3_find.data.toList.drop 23 = dktX3_find_1 := dk_seg dksX3_find_0 23 rfl rfl
theorem dksX3_find_2 : cX3_find.data.toList.drop 47 = dktX3_find_2 := dk_seg dksX3_find_1 24 rfl rfl
theorem dksX3_find_3 : cX3_find.data.toList.drop 71 = dktX3_find_3 := dk_seg dksX3_find_2 24 rfl rfl
theorem dksX3_find_4 : cX3_find.data.toList.drop 95 = dktX3_find_4 := dk_seg dksX3_find_3 24 rfl rfl
theorem dX3_find_0 : decode cX3_find 0 = .ok (.lload_n 1, 1) := dk_31 (dk_at dksX3_find_0 0 rfl rfl)
theorem dX3_find_1 : decode cX3_find 1 = .ok (.lstore_n 3, 1) := dk_66 (dk_at dksX3_find_0 1 rfl rfl)
theorem dX3_find_2 : decode cX3_find 2 = .ok (.aload_n 0, 1) := dk_42 (dk_at dksX3_find_0 2 rfl rfl)
theorem dX3_find_3 : decode cX3_find 3 = .ok (.getfield 188, 3) := dk_180 0 188 (dk_at dksX3_find_0 3 rfl rfl)
theorem dX3_find_6 : decode cX3_find 6 = .ok (.istore 5, 2) := dk_54 5 (dk_at dksX3_find_0 6 rfl rfl)
theorem dX3_find_8 : decode cX3_find 8 = .ok (.iconst 4, 1) := dk_7 (dk_at dksX3_find_0 8 rfl rfl)
theorem dX3_find_9 : decode cX3_find 9 = .ok (.istore 6, 2) := dk_54 6 (dk_at dksX3_find_0 9 rfl rfl)
theorem dX3_find_11 : decode cX3_find 11 = .ok (.iconst 0, 1) := dk_3 (dk_at dksX3_find_0 11 rfl rfl)
theorem dX3_find_12 : decode cX3_find 12 = .ok (.istore 7, 2) := dk_54 7 (dk_at dksX3_find_0 12 rfl rfl)
theorem dX3_find_14 : decode cX3_find 14 = .ok (.iload 5, 2) := dk_21 5 (dk_at dksX3_find_0 14 rfl rfl)
theorem dX3_find_16 : decode cX3_find 16 = .ok (.ifCond .le 91, 3) := dk_158 0 91 (dk_at dksX3_find_0 16 rfl rfl)
theorem dX3_find_19 : decode cX3_find 19 = .ok (.iconst (-1), 1) := dk_2 (dk_at dksX3_find_0 19 rfl rfl)
theorem dX3_find_20 : decode cX3_find 20 = .ok (.istore 8, 2) := dk_54 8 (dk_at dksX3_find_0 20 rfl rfl)
theorem dX3_find_22 : decode cX3_find 22 = .ok (.lconst 0, 1) := dk_9 (dk_at dksX3_find_0 22 rfl rfl)
theorem dX3_find_23 : decode cX3_find 23 = .ok (.lstore 9, 2) := dk_55 9 (dk_at dksX3_find_1 0 rfl rfl)
theorem dX3_find_25 : decode cX3_find 25 = .ok (.lload_n 3, 1) := dk_33 (dk_at dksX3_find_1 2 rfl rfl)
theorem dX3_find_26 : decode cX3_find 26 = .ok (.lload 9, 2) := dk_22 9 (dk_at dksX3_find_1 3 rfl rfl)
theorem dX3_find_28 : decode cX3_find 28 = .ok (.lsub, 1) := dk_101 (dk_at dksX3_find_1 5 rfl rfl)
theorem dX3_find_29 : decode cX3_find 29 = .ok (.lstore_n 3, 1) := dk_66 (dk_at dksX3_find_1 6 rfl rfl)
theorem dX3_find_30 : decode cX3_find 30 = .ok (.iinc 8 1, 3) := dk_132 8 1 (dk_at dksX3_find_1 7 rfl rfl)
theorem dX3_find_33 : decode cX3_find 33 = .ok (.aload_n 0, 1) := dk_42 (dk_at dksX3_find_1 10 rfl rfl)
theorem dX3_find_34 : decode cX3_find 34 = .ok (.iload 5, 2) := dk_21 5 (dk_at dksX3_find_1 11 rfl rfl)
theorem dX3_find_36 : decode cX3_find 36 = .ok (.iload 6, 2) := dk_21 6 (dk_at dksX3_find_1 13 rfl rfl)
theorem dX3_find_38 : decode cX3_find 38 = .ok (.iload 8, 2) := dk_21 8 (dk_at dksX3_find_1 15 rfl rfl)
theorem dX3_find_40 : decode cX3_find 40 = .ok (.invokevirtual 194, 3) := dk_182 0 194 (dk_at dksX3_find_1 17 rfl rfl)
theorem dX3_find_43 : decode cX3_find 43 = .ok (.ifCond .eq 18, 3) := dk_153 0 18 (dk_at dksX3_find_1 20 rfl rfl)
theorem dX3_find_46 : decode cX3_find 46 = .ok (.aload_n 0, 1) := dk_42 (dk_at dksX3_find_1 23 rfl rfl)
theorem dX3_find_47 : decode cX3_find 47 = .ok (.aload_n 0, 1) := dk_42 (dk_at dksX3_find_2 0 rfl rfl)
theorem dX3_find_48 : decode cX3_find 48 = .ok (.getfield 74, 3) := dk_180 0 74 (dk_at dksX3_find_2 1 rfl rfl)
theorem dX3_find_51 : decode cX3_find 51 = .ok (.iload 5, 2) := dk_21 5 (dk_at dksX3_find_2 4 rfl rfl)
theorem dX3_find_53 : decode cX3_find 53 = .ok (.iload 8, 2) := dk_21 8 (dk_at dksX3_find_2 6 rfl rfl)
theorem dX3_find_55 : decode cX3_find 55 = .ok (.invokevirtual 198, 3) := dk_182 0 198 (dk_at dksX3_find_2 8 rfl rfl)
theorem dX3_find_58 : decode cX3_find 58 = .ok (.goto 4, 3) := dk_167 0 4 (dk_at dksX3_find_2 11 rfl rfl)
theorem dX3_find_61 : decode cX3_find 61 = .ok (.lconst 0, 1) := dk_9 (dk_at dksX3_find_2 14 rfl rfl)
theorem dX3_find_62 : decode cX3_find 62 = .ok (.lstore 9, 2) := dk_55 9 (dk_at dksX3_find_2 15 rfl rfl)
theorem dX3_find_64 : decode cX3_find 64 = .ok (.lload_n 3, 1) := dk_33 (dk_at dksX3_find_2 17 rfl rfl)
theorem dX3_find_65 : decode cX3_find 65 = .ok (.lload 9, 2) := dk_22 9 (dk_at dksX3_find_2 18 rfl rfl)
theorem dX3_find_67 : decode cX3_find 67 = .ok (.lcmp, 1) := dk_148 (dk_at dksX3_find_2 20 rfl rfl)
theorem dX3_find_68 : decode cX3_find 68 = .ok (.ifCond .ge (-43), 3) := dk_156 255 213 (dk_at dksX3_find_2 21 rfl rfl)
theorem dX3_find_71 : decode cX3_find 71 = .ok (.aload_n 0, 1) := dk_42 (dk_at dksX3_find_3 0 rfl rfl)
theorem dX3_find_72 : decode cX3_find 72 = .ok (.getfield 90, 3) := dk_180 0 90 (dk_at dksX3_find_3 1 rfl rfl)
theorem dX3_find_75 : decode cX3_find 75 = .ok (.iload 7, 2) := dk_21 7 (dk_at dksX3_find_3 4 rfl rfl)
theorem dX3_find_77 : decode cX3_find 77 = .ok (.iload 8, 2) := dk_21 8 (dk_at dksX3_find_3 6 rfl rfl)
theorem dX3_find_79 : decode cX3_find 79 = .ok (.iastore, 1) := dk_79 (dk_at dksX3_find_3 8 rfl rfl)
theorem dX3_find_80 : decode cX3_find 80 = .ok (.iinc 7 1, 3) := dk_132 7 1 (dk_at dksX3_find_3 9 rfl rfl)
theorem dX3_find_83 : decode cX3_find 83 = .ok (.iload 5, 2) := dk_21 5 (dk_at dksX3_find_3 12 rfl rfl)
theorem dX3_find_85 : decode cX3_find 85 = .ok (.aload_n 0, 1) := dk_42 (dk_at dksX3_find_3 14 rfl rfl)
theorem dX3_find_86 : decode cX3_find 86 = .ok (.getfield 71, 3) := dk_180 0 71 (dk_at dksX3_find_3 15 rfl rfl)
theorem dX3_find_89 : decode cX3_find 89 = .ok (.iload 8, 2) := dk_21 8 (dk_at dksX3_find_3 18 rfl rfl)
theorem dX3_find_91 : decode cX3_find 91 = .ok (.iaload, 1) := dk_46 (dk_at dksX3_find_3 20 rfl rfl)
theorem dX3_find_92 : decode cX3_find 92 = .ok (.isub, 1) := dk_100 (dk_at dksX3_find_3 21 rfl rfl)
theorem dX3_find_93 : decode cX3_find 93 = .ok (.istore 5, 2) := dk_54 5 (dk_at dksX3_find_3 22 rfl rfl)
theorem dX3_find_95 : decode cX3_find 95 = .ok (.aload_n 0, 1) := dk_42 (dk_at dksX3_find_4 0 rfl rfl)
theorem dX3_find_96 : decode cX3_find 96 = .ok (.getfield 19, 3) := dk_180 0 19 (dk_at dksX3_find_4 1 rfl rfl)
theorem dX3_find_99 : decode cX3_find 99 = .ok (.iload 8, 2) := dk_21 8 (dk_at dksX3_find_4 4 rfl rfl)
theorem dX3_find_101 : decode cX3_find 101 = .ok (.iaload, 1) := dk_46 (dk_at dksX3_find_4 6 rfl rfl)
theorem dX3_find_102 : decode cX3_find 102 = .ok (.istore 6, 2) := dk_54 6 (dk_at dksX3_find_4 7 rfl rfl)
theorem dX3_find_104 : decode cX3_find 104 = .ok (.goto (-90), 3) := dk_167 255 166 (dk_at dksX3_find_4 9 rfl rfl)
theorem dX3_find_107 : decode cX3_find 107 = .ok (.iload 7, 2) := dk_21 7 (dk_at dksX3_find_4 12 rfl rfl)
theorem dX3_find_109 : decode cX3_find 109 = .ok (.ireturn, 1) := dk_172 (dk_at dksX3_find_4 14 rfl rfl)
abbrev cX3_tell : ByteArray := prog_13_method_62_code
def yX3_tell : MethodName := ⟨RX3, "tell", "(I)I"⟩
def dkwX3_tell_1 : List UInt8 := [180, 0, 41, 42, 180, 0, 185, 27, 79, 42, 89, 180, 0, 185, 4, 96, 181, 0, 185, 42, 180, 0, 185, 172]
abbrev dktX3_tell_1 : List UInt8 := dkwX3_tell_1 ++ []
def dkwX3_tell_0 : List UInt8 := [42, 27, 182, 0, 243, 154, 0, 5, 2, 172, 42, 180, 0, 185, 16, 12, 160, 0, 6, 16, 252, 172, 42]
abbrev dktX3_tell_0 : List UInt8 := dkwX3_tell_0 ++ dktX3_tell_1
theorem dksX3_tell_0 : cX3_tell.data.toList.drop 0 = dktX3_tell_0 := by decide +kernel
theorem dksX3_tell_1 : cX3_tell.data.toList.drop 23 = dktX3_tell_1 := dk_seg dksX3_tell_0 23 rfl rfl
theorem dX3_tell_0 : decode cX3_tell 0 = .ok (.aload_n 0, 1) := dk_42 (dk_at dksX3_tell_0 0 rfl rfl)
theorem dX3_tell_1 : decode cX3_tell 1 = .ok (.iload_n 1, 1) := dk_27 (dk_at dksX3_tell_0 1 rfl rfl)
theorem dX3_tell_2 : decode cX3_tell 2 = .ok (.invokevirtual 243, 3) := dk_182 0 243 (dk_at dksX3_tell_0 2 rfl rfl)
theorem dX3_tell_5 : decode cX3_tell 5 = .ok (.ifCond .ne 5, 3) := dk_154 0 5 (dk_at dksX3_tell_0 5 rfl rfl)
theorem dX3_tell_8 : decode cX3_tell 8 = .ok (.iconst (-1), 1) := dk_2 (dk_at dksX3_tell_0 8 rfl rfl)
theorem dX3_tell_9 : decode cX3_tell 9 = .ok (.ireturn, 1) := dk_172 (dk_at dksX3_tell_0 9 rfl rfl)
theorem dX3_tell_10 : decode cX3_tell 10 = .ok (.aload_n 0, 1) := dk_42 (dk_at dksX3_tell_0 10 rfl rfl)
theorem dX3_tell_11 : decode cX3_tell 11 = .ok (.getfield 185, 3) := dk_180 0 185 (dk_at dksX3_tell_0 11 rfl rfl)
theorem dX3_tell_14 : decode cX3_tell 14 = .ok (.bipush 12, 2) := dk_16 12 (dk_at dksX3_tell_0 14 rfl rfl)
theorem dX3_tell_16 : decode cX3_tell 16 = .ok (.if_icmp .ne 6, 3) := dk_160 0 6 (dk_at dksX3_tell_0 16 rfl rfl)
theorem dX3_tell_19 : decode cX3_tell 19 = .ok (.bipush (-4), 2) := dk_16 252 (dk_at dksX3_tell_0 19 rfl rfl)
theorem dX3_tell_21 : decode cX3_tell 21 = .ok (.ireturn, 1) := dk_172 (dk_at dksX3_tell_0 21 rfl rfl)
theorem dX3_tell_22 : decode cX3_tell 22 = .ok (.aload_n 0, 1) := dk_42 (dk_at dksX3_tell_0 22 rfl rfl)
theorem dX3_tell_23 : decode cX3_tell 23 = .ok (.getfield 41, 3) := dk_180 0 41 (dk_at dksX3_tell_1 0 rfl rfl)
theorem dX3_tell_26 : decode cX3_tell 26 = .ok (.aload_n 0, 1) := dk_42 (dk_at dksX3_tell_1 3 rfl rfl)
theorem dX3_tell_27 : decode cX3_tell 27 = .ok (.getfield 185, 3) := dk_180 0 185 (dk_at dksX3_tell_1 4 rfl rfl)
theorem dX3_tell_30 : decode cX3_tell 30 = .ok (.iload_n 1, 1) := dk_27 (dk_at dksX3_tell_1 7 rfl rfl)
theorem dX3_tell_31 : decode cX3_tell 31 = .ok (.iastore, 1) := dk_79 (dk_at dksX3_tell_1 8 rfl rfl)
theorem dX3_tell_32 : decode cX3_tell 32 = .ok (.aload_n 0, 1) := dk_42 (dk_at dksX3_tell_1 9 rfl rfl)
theorem dX3_tell_33 : decode cX3_tell 33 = .ok (.dup, 1) := dk_89 (dk_at dksX3_tell_1 10 rfl rfl)
theorem dX3_tell_34 : decode cX3_tell 34 = .ok (.getfield 185, 3) := dk_180 0 185 (dk_at dksX3_tell_1 11 rfl rfl)
theorem dX3_tell_37 : decode cX3_tell 37 = .ok (.iconst 1, 1) := dk_4 (dk_at dksX3_tell_1 14 rfl rfl)
theorem dX3_tell_38 : decode cX3_tell 38 = .ok (.iadd, 1) := dk_96 (dk_at dksX3_tell_1 15 rfl rfl)
theorem dX3_tell_39 : decode cX3_tell 39 = .ok (.putfield 185, 3) := dk_181 0 185 (dk_at dksX3_tell_1 16 rfl rfl)
theorem dX3_tell_42 : decode cX3_tell 42 = .ok (.aload_n 0, 1) := dk_42 (dk_at dksX3_tell_1 19 rfl rfl)
theorem dX3_tell_43 : decode cX3_tell 43 = .ok (.getfield 185, 3) := dk_180 0 185 (dk_at dksX3_tell_1 20 rfl rfl)
theorem dX3_tell_46 : decode cX3_tell 46 = .ok (.ireturn, 1) := dk_172 (dk_at dksX3_tell_1 23 rfl rfl)
abbrev cX3_clear : ByteArray := prog_13_method_63_code
def yX3_clear : MethodName := ⟨RX3, "clear", "()I"⟩
def dkwX3_clear_0 : List UInt8 := [42, 180, 0, 185, 60, 42, 3, 181, 0, 185, 27, 172]
abbrev dktX3_clear_0 : List UInt8 := dkwX3_clear_0 ++ []
theorem dksX3_clear_0 : cX3_clear.data.toList.drop 0 = dktX3_clear_0 := by decide +kernel
theorem dX3_clear_0 : decode cX3_clear 0 = .ok (.aload_n 0, 1) := dk_42 (dk_at dksX3_clear_0 0 rfl rfl)
theorem dX3_clear_1 : decode cX3_clear 1 = .ok (.getfield 185, 3) := dk_180 0 185 (dk_at dksX3_clear_0 1 rfl rfl)
theorem dX3_clear_4 : decode cX3_clear 4 = .ok (.istore_n 1, 1) := dk_60 (dk_at dksX3_clear_0 4 rfl rfl)
theorem dX3_clear_5 : decode cX3_clear 5 = .ok (.aload_n 0, 1) := dk_42 (dk_at dksX3_clear_0 5 rfl rfl)
theorem dX3_clear_6 : decode cX3_clear 6 = .ok (.iconst 0, 1) := dk_3 (dk_at dksX3_clear_0 6 rfl rfl)
theorem dX3_clear_7 : decode cX3_clear 7 = .ok (.putfield 185, 3) := dk_181 0 185 (dk_at dksX3_clear_0 7 rfl rfl)
theorem dX3_clear_10 : decode cX3_clear 10 = .ok (.iload_n 1, 1) := dk_27 (dk_at dksX3_clear_0 10 rfl rfl)
theorem dX3_clear_11 : decode cX3_clear 11 = .ok (.ireturn, 1) := dk_172 (dk_at dksX3_clear_0 11 rfl rfl)
abbrev cX3_why : ByteArray := prog_13_method_66_code
def yX3_why : MethodName := ⟨RX3, "why", "(I)I"⟩
def dkwX3_why_2 : List UInt8 := [180, 1, 41, 167, 0, 7, 42, 180, 1, 44, 172]
abbrev dktX3_why_2 : List UInt8 := dkwX3_why_2 ++ []
def dkwX3_why_1 : List UInt8 := [28, 167, 0, 31, 27, 4, 160, 0, 10, 42, 180, 1, 47, 167, 0, 19, 27, 5, 160, 0, 10, 42]
abbrev dktX3_why_1 : List UInt8 := dkwX3_why_1 ++ dktX3_why_2
def dkwX3_why_0 : List UInt8 := [27, 133, 9, 20, 0, 113, 184, 0, 107, 154, 0, 6, 16, 254, 172, 42, 182, 1, 53, 61, 27, 154, 0, 7]
abbrev dktX3_why_0 : List UInt8 := dkwX3_why_0 ++ dktX3_why_1
theorem dksX3_why_0 : cX3_why.data.toList.drop 0 = dktX3_why_0 := by decide +kernel
theorem dksX3_why_1 : cX3_why.data.toList.drop 24 = dktX3_why_1 := dk_seg dksX3_why_0 24 rfl rfl
theorem dksX3_why_2 : cX3_why.data.toList.drop 46 = dktX3_why_2 := dk_seg dksX3_why_1 22 rfl rfl
theorem dX3_why_0 : decode cX3_why 0 = .ok (.iload_n 1, 1) := dk_27 (dk_at dksX3_why_0 0 rfl rfl)
theorem dX3_why_1 : decode cX3_why 1 = .ok (.i2l, 1) := dk_133 (dk_at dksX3_why_0 1 rfl rfl)
theorem dX3_why_2 : decode cX3_why 2 = .ok (.lconst 0, 1) := dk_9 (dk_at dksX3_why_0 2 rfl rfl)
theorem dX3_why_3 : decode cX3_why 3 = .ok (.ldc2_w 113, 3) := dk_20 0 113 (dk_at dksX3_why_0 3 rfl rfl)
theorem dX3_why_6 : decode cX3_why 6 = .ok (.invokestatic 107, 3) := dk_184 0 107 (dk_at dksX3_why_0 6 rfl rfl)
theorem dX3_why_9 : decode cX3_why 9 = .ok (.ifCond .ne 6, 3) := dk_154 0 6 (dk_at dksX3_why_0 9 rfl rfl)
theorem dX3_why_12 : decode cX3_why 12 = .ok (.bipush (-2), 2) := dk_16 254 (dk_at dksX3_why_0 12 rfl rfl)
theorem dX3_why_14 : decode cX3_why 14 = .ok (.ireturn, 1) := dk_172 (dk_at dksX3_why_0 14 rfl rfl)
theorem dX3_why_15 : decode cX3_why 15 = .ok (.aload_n 0, 1) := dk_42 (dk_at dksX3_why_0 15 rfl rfl)
theorem dX3_why_16 : decode cX3_why 16 = .ok (.invokevirtual 309, 3) := dk_182 1 53 (dk_at dksX3_why_0 16 rfl rfl)
theorem dX3_why_19 : decode cX3_why 19 = .ok (.istore_n 2, 1) := dk_61 (dk_at dksX3_why_0 19 rfl rfl)
theorem dX3_why_20 : decode cX3_why 20 = .ok (.iload_n 1, 1) := dk_27 (dk_at dksX3_why_0 20 rfl rfl)
theorem dX3_why_21 : decode cX3_why 21 = .ok (.ifCond .ne 7, 3) := dk_154 0 7 (dk_at dksX3_why_0 21 rfl rfl)
theorem dX3_why_24 : decode cX3_why 24 = .ok (.iload_n 2, 1) := dk_28 (dk_at dksX3_why_1 0 rfl rfl)
theorem dX3_why_25 : decode cX3_why 25 = .ok (.goto 31, 3) := dk_167 0 31 (dk_at dksX3_why_1 1 rfl rfl)
theorem dX3_why_28 : decode cX3_why 28 = .ok (.iload_n 1, 1) := dk_27 (dk_at dksX3_why_1 4 rfl rfl)
theorem dX3_why_29 : decode cX3_why 29 = .ok (.iconst 1, 1) := dk_4 (dk_at dksX3_why_1 5 rfl rfl)
theorem dX3_why_30 : decode cX3_why 30 = .ok (.if_icmp .ne 10, 3) := dk_160 0 10 (dk_at dksX3_why_1 6 rfl rfl)
theorem dX3_why_33 : decode cX3_why 33 = .ok (.aload_n 0, 1) := dk_42 (dk_at dksX3_why_1 9 rfl rfl)
theorem dX3_why_34 : decode cX3_why 34 = .ok (.getfield 303, 3) := dk_180 1 47 (dk_at dksX3_why_1 10 rfl rfl)
theorem dX3_why_37 : decode cX3_why 37 = .ok (.goto 19, 3) := dk_167 0 19 (dk_at dksX3_why_1 13 rfl rfl)
theorem dX3_why_40 : decode cX3_why 40 = .ok (.iload_n 1, 1) := dk_27 (dk_at dksX3_why_1 16 rfl rfl)
theorem dX3_why_41 : decode cX3_why 41 = .ok (.iconst 2, 1) := dk_5 (dk_at dksX3_why_1 17 rfl rfl)
theorem dX3_why_42 : decode cX3_why 42 = .ok (.if_icmp .ne 10, 3) := dk_160 0 10 (dk_at dksX3_why_1 18 rfl rfl)
theorem dX3_why_45 : decode cX3_why 45 = .ok (.aload_n 0, 1) := dk_42 (dk_at dksX3_why_1 21 rfl rfl)
theorem dX3_why_46 : decode cX3_why 46 = .ok (.getfield 297, 3) := dk_180 1 41 (dk_at dksX3_why_2 0 rfl rfl)
theorem dX3_why_49 : decode cX3_why 49 = .ok (.goto 7, 3) := dk_167 0 7 (dk_at dksX3_why_2 3 rfl rfl)
theorem dX3_why_52 : decode cX3_why 52 = .ok (.aload_n 0, 1) := dk_42 (dk_at dksX3_why_2 6 rfl rfl)
theorem dX3_why_53 : decode cX3_why 53 = .ok (.getfield 300, 3) := dk_180 1 44 (dk_at dksX3_why_2 7 rfl rfl)
theorem dX3_why_56 : decode cX3_why 56 = .ok (.ireturn, 1) := dk_172 (dk_at dksX3_why_2 10 rfl rfl)
abbrev cX3_reason : ByteArray := prog_13_method_65_code
def yX3_reason : MethodName := ⟨RX3, "reason", "()I"⟩
def dkwX3_reason_13 : List UInt8 := [181, 1, 47, 3, 172]
abbrev dktX3_reason_13 : List UInt8 := dkwX3_reason_13 ++ []
def dkwX3_reason_12 : List UInt8 := [42, 180, 0, 41, 42, 180, 0, 185, 4, 100, 46, 46, 184, 0, 149, 154, 0, 5, 8, 172, 42, 16, 247]
abbrev dktX3_reason_12 : List UInt8 := dkwX3_reason_12 ++ dktX3_reason_13
def dkwX3_reason_11 : List UInt8 := [27, 46, 181, 1, 44, 7, 172, 132, 1, 1, 167, 255, 221, 42, 180, 0, 25, 16, 20, 46, 42, 180, 0, 19]
abbrev dktX3_reason_11 : List UInt8 := dkwX3_reason_11 ++ dktX3_reason_12
def dkwX3_reason_10 : List UInt8 := [16, 8, 162, 0, 35, 42, 180, 0, 93, 27, 46, 158, 0, 20, 42, 27, 181, 1, 41, 42, 42, 180, 0, 93]
abbrev dktX3_reason_10 : List UInt8 := dkwX3_reason_10 ++ dktX3_reason_11
def dkwX3_reason_9 : List UInt8 := [167, 255, 89, 42, 42, 180, 0, 185, 181, 1, 47, 42, 180, 0, 185, 154, 0, 6, 16, 6, 172, 3, 60, 27]
abbrev dktX3_reason_9 : List UInt8 := dkwX3_reason_9 ++ dktX3_reason_10
def dkwX3_reason_8 : List UInt8 := [180, 0, 22, 16, 8, 28, 104, 21, 4, 96, 46, 100, 79, 132, 4, 1, 167, 255, 224, 132, 1, 1]
abbrev dktX3_reason_8 : List UInt8 := dkwX3_reason_8 ++ dktX3_reason_9
def dkwX3_reason_7 : List UInt8 := [181, 1, 44, 6, 172, 3, 54, 4, 21, 4, 16, 8, 162, 0, 31, 42, 180, 0, 93, 21, 4, 92, 46, 42]
abbrev dktX3_reason_7 : List UInt8 := dkwX3_reason_7 ++ dktX3_reason_8
def dkwX3_reason_6 : List UInt8 := [181, 1, 41, 42, 42, 180, 0, 22, 16, 8, 28, 104, 29, 96, 46, 42, 180, 0, 93, 29, 46, 100]
abbrev dktX3_reason_6 : List UInt8 := dkwX3_reason_6 ++ dktX3_reason_7
def dkwX3_reason_5 : List UInt8 := [184, 0, 149, 154, 0, 5, 5, 172, 42, 28, 182, 1, 50, 62, 29, 16, 247, 159, 0, 32, 42, 29]
abbrev dktX3_reason_5 : List UInt8 := dkwX3_reason_5 ++ dktX3_reason_6
def dkwX3_reason_4 : List UInt8 := [16, 21, 42, 180, 0, 19, 42, 180, 0, 41, 27, 4, 100, 46, 46, 96, 46, 42, 180, 0, 19, 28, 46]
abbrev dktX3_reason_4 : List UInt8 := dkwX3_reason_4 ++ dktX3_reason_5
def dkwX3_reason_3 : List UInt8 := [153, 0, 5, 4, 172, 27, 154, 0, 13, 42, 180, 0, 25, 16, 19, 46, 167, 0, 24, 42, 180, 0, 25]
abbrev dktX3_reason_3 : List UInt8 := dkwX3_reason_3 ++ dktX3_reason_4
def dkwX3_reason_2 : List UInt8 := [180, 0, 41, 27, 46, 61, 42, 27, 181, 1, 47, 42, 180, 0, 25, 16, 8, 46, 28, 184, 0, 149]
abbrev dktX3_reason_2 : List UInt8 := dkwX3_reason_2 ++ dktX3_reason_3
def dkwX3_reason_1 : List UInt8 := [42, 180, 0, 25, 27, 46, 79, 132, 1, 1, 167, 255, 235, 3, 60, 27, 42, 180, 0, 185, 162, 0, 165, 42]
abbrev dktX3_reason_1 : List UInt8 := dkwX3_reason_1 ++ dktX3_reason_2
def dkwX3_reason_0 : List UInt8 := [42, 16, 247, 181, 1, 41, 42, 3, 181, 1, 44, 3, 60, 27, 16, 8, 162, 0, 21, 42, 180, 0, 93, 27]
abbrev dktX3_reason_0 : List UInt8 := dkwX3_reason_0 ++ dktX3_reason_1
theorem dksX3_reason_0 : cX3_reason.data.toList.drop 0 = dktX3_reason_0 := by decide +kernel
theorem dksX3_reason_1 : cX3_reason.data.toList.drop 24 = dktX3_reason_1 := dk_seg dksX3_reason_0 24 rfl rfl
theorem dksX3_reason_2 : cX3_reason.data.toList.drop 48 = dktX3_reason_2 := dk_seg dksX3_reason_1 24 rfl rfl
theorem dksX3_reason_3 : cX3_reason.data.toList.drop 70 = dktX3_reason_3 := dk_seg dksX3_reason_2 22 rfl rfl
theorem dksX3_reason_4 : cX3_reason.data.toList.drop 93 = dktX3_reason_4 := dk_seg dksX3_reason_3 23 rfl rfl
theorem dksX3_reason_5 : cX3_reason.data.toList.drop 116 = dktX3_reason_5 := dk_seg dksX3_reason_4 23 rfl rfl
theorem dksX3_reason_6 : cX3_reason.data.toList.drop 138 = dktX3_reason_6 := dk_seg dksX3_reason_5 22 rfl rfl
theorem dksX3_reason_7 : cX3_reason.data.toList.drop 160 = dktX3_reason_7 := dk_seg dksX3_reason_6 22 rfl rfl
theorem dksX3_reason_8 : cX3_reason.data.toList.drop 184 = dktX3_reason_8 := dk_seg dksX3_reason_7 24 rfl rfl
theorem dksX3_reason_9 : cX3_reason.data.toList.drop 206 = dktX3_reason_9 := dk_seg dksX3_reason_8 22 rfl rfl
theorem dksX3_reason_10 : cX3_reason.data.toList.drop 230 = dktX3_reason_10 := dk_seg dksX3_reason_9 24 rfl rfl
theorem dksX3_reason_11 : cX3_reason.data.toList.drop 254 = dktX3_reason_11 := dk_seg dksX3_reason_10 24 rfl rfl
theorem dksX3_reason_12 : cX3_reason.data.toList.drop 278 = dktX3_reason_12 := dk_seg dksX3_reason_11 24 rfl rfl
theorem dksX3_reason_13 : cX3_reason.data.toList.drop 301 = dktX3_reason_13 := dk_seg dksX3_reason_12 23 rfl rfl
theorem dX3_reason_0 : decode cX3_reason 0 = .ok (.aload_n 0, 1) := dk_42 (dk_at dksX3_reason_0 0 rfl rfl)
theorem dX3_reason_1 : decode cX3_reason 1 = .ok (.bipush (-9), 2) := dk_16 247 (dk_at dksX3_reason_0 1 rfl rfl)
theorem dX3_reason_3 : decode cX3_reason 3 = .ok (.putfield 297, 3) := dk_181 1 41 (dk_at dksX3_reason_0 3 rfl rfl)
theorem dX3_reason_6 : decode cX3_reason 6 = .ok (.aload_n 0, 1) := dk_42 (dk_at dksX3_reason_0 6 rfl rfl)
theorem dX3_reason_7 : decode cX3_reason 7 = .ok (.iconst 0, 1) := dk_3 (dk_at dksX3_reason_0 7 rfl rfl)
theorem dX3_reason_8 : decode cX3_reason 8 = .ok (.putfield 300, 3) := dk_181 1 44 (dk_at dksX3_reason_0 8 rfl rfl)
theorem dX3_reason_11 : decode cX3_reason 11 = .ok (.iconst 0, 1) := dk_3 (dk_at dksX3_reason_0 11 rfl rfl)
theorem dX3_reason_12 : decode cX3_reason 12 = .ok (.istore_n 1, 1) := dk_60 (dk_at dksX3_reason_0 12 rfl rfl)
theorem dX3_reason_13 : decode cX3_reason 13 = .ok (.iload_n 1, 1) := dk_27 (dk_at dksX3_reason_0 13 rfl rfl)
theorem dX3_reason_14 : decode cX3_reason 14 = .ok (.bipush 8, 2) := dk_16 8 (dk_at dksX3_reason_0 14 rfl rfl)
theorem dX3_reason_16 : decode cX3_reason 16 = .ok (.if_icmp .ge 21, 3) := dk_162 0 21 (dk_at dksX3_reason_0 16 rfl rfl)
theorem dX3_reason_19 : decode cX3_reason 19 = .ok (.aload_n 0, 1) := dk_42 (dk_at dksX3_reason_0 19 rfl rfl)
theorem dX3_reason_20 : decode cX3_reason 20 = .ok (.getfield 93, 3) := dk_180 0 93 (dk_at dksX3_reason_0 20 rfl rfl)
theorem dX3_reason_23 : decode cX3_reason 23 = .ok (.iload_n 1, 1) := dk_27 (dk_at dksX3_reason_0 23 rfl rfl)
theorem dX3_reason_24 : decode cX3_reason 24 = .ok (.aload_n 0, 1) := dk_42 (dk_at dksX3_reason_1 0 rfl rfl)
theorem dX3_reason_25 : decode cX3_reason 25 = .ok (.getfield 25, 3) := dk_180 0 25 (dk_at dksX3_reason_1 1 rfl rfl)
theorem dX3_reason_28 : decode cX3_reason 28 = .ok (.iload_n 1, 1) := dk_27 (dk_at dksX3_reason_1 4 rfl rfl)
theorem dX3_reason_29 : decode cX3_reason 29 = .ok (.iaload, 1) := dk_46 (dk_at dksX3_reason_1 5 rfl rfl)
theorem dX3_reason_30 : decode cX3_reason 30 = .ok (.iastore, 1) := dk_79 (dk_at dksX3_reason_1 6 rfl rfl)
theorem dX3_reason_31 : decode cX3_reason 31 = .ok (.iinc 1 1, 3) := dk_132 1 1 (dk_at dksX3_reason_1 7 rfl rfl)
theorem dX3_reason_34 : decode cX3_reason 34 = .ok (.goto (-21), 3) := dk_167 255 235 (dk_at dksX3_reason_1 10 rfl rfl)
theorem dX3_reason_37 : decode cX3_reason 37 = .ok (.iconst 0, 1) := dk_3 (dk_at dksX3_reason_1 13 rfl rfl)
theorem dX3_reason_38 : decode cX3_reason 38 = .ok (.istore_n 1, 1) := dk_60 (dk_at dksX3_reason_1 14 rfl rfl)
theorem dX3_reason_39 : decode cX3_reason 39 = .ok (.iload_n 1, 1) := dk_27 (dk_at dksX3_reason_1 15 rfl rfl)
theorem dX3_reason_40 : decode cX3_reason 40 = .ok (.aload_n 0, 1) := dk_42 (dk_at dksX3_reason_1 16 rfl rfl)
theorem dX3_reason_41 : decode cX3_reason 41 = .ok (.getfield 185, 3) := dk_180 0 185 (dk_at dksX3_reason_1 17 rfl rfl)
theorem dX3_reason_44 : decode cX3_reason 44 = .ok (.if_icmp .ge 165, 3) := dk_162 0 165 (dk_at dksX3_reason_1 20 rfl rfl)
theorem dX3_reason_47 : decode cX3_reason 47 = .ok (.aload_n 0, 1) := dk_42 (dk_at dksX3_reason_1 23 rfl rfl)
theorem dX3_reason_48 : decode cX3_reason 48 = .ok (.getfield 41, 3) := dk_180 0 41 (dk_at dksX3_reason_2 0 rfl rfl)
theorem dX3_reason_51 : decode cX3_reason 51 = .ok (.iload_n 1, 1) := dk_27 (dk_at dksX3_reason_2 3 rfl rfl)
theorem dX3_reason_52 : decode cX3_reason 52 = .ok (.iaload, 1) := dk_46 (dk_at dksX3_reason_2 4 rfl rfl)
theorem dX3_reason_53 : decode cX3_reason 53 = .ok (.istore_n 2, 1) := dk_61 (dk_at dksX3_reason_2 5 rfl rfl)
theorem dX3_reason_54 : decode cX3_reason 54 = .ok (.aload_n 0, 1) := dk_42 (dk_at dksX3_reason_2 6 rfl rfl)
theorem dX3_reason_55 : decode cX3_reason 55 = .ok (.iload_n 1, 1) := dk_27 (dk_at dksX3_reason_2 7 rfl rfl)
theorem dX3_reason_56 : decode cX3_reason 56 = .ok (.putfield 303, 3) := dk_181 1 47 (dk_at dksX3_reason_2 8 rfl rfl)
theorem dX3_reason_59 : decode cX3_reason 59 = .ok (.aload_n 0, 1) := dk_42 (dk_at dksX3_reason_2 11 rfl rfl)
theorem dX3_reason_60 : decode cX3_reason 60 = .ok (.getfield 25, 3) := dk_180 0 25 (dk_at dksX3_reason_2 12 rfl rfl)
theorem dX3_reason_63 : decode cX3_reason 63 = .ok (.bipush 8, 2) := dk_16 8 (dk_at dksX3_reason_2 15 rfl rfl)
theorem dX3_reason_65 : decode cX3_reason 65 = .ok (.iaload, 1) := dk_46 (dk_at dksX3_reason_2 17 rfl rfl)
theorem dX3_reason_66 : decode cX3_reason 66 = .ok (.iload_n 2, 1) := dk_28 (dk_at dksX3_reason_2 18 rfl rfl)
theorem dX3_reason_67 : decode cX3_reason 67 = .ok (.invokestatic 149, 3) := dk_184 0 149 (dk_at dksX3_reason_2 19 rfl rfl)
theorem dX3_reason_70 : decode cX3_reason 70 = .ok (.ifCond .eq 5, 3) := dk_153 0 5 (dk_at dksX3_reason_3 0 rfl rfl)
theorem dX3_reason_73 : decode cX3_reason 73 = .ok (.iconst 1, 1) := dk_4 (dk_at dksX3_reason_3 3 rfl rfl)
theorem dX3_reason_74 : decode cX3_reason 74 = .ok (.ireturn, 1) := dk_172 (dk_at dksX3_reason_3 4 rfl rfl)
theorem dX3_reason_75 : decode cX3_reason 75 = .ok (.iload_n 1, 1) := dk_27 (dk_at dksX3_reason_3 5 rfl rfl)
theorem dX3_reason_76 : decode cX3_reason 76 = .ok (.ifCond .ne 13, 3) := dk_154 0 13 (dk_at dksX3_reason_3 6 rfl rfl)
theorem dX3_reason_79 : decode cX3_reason 79 = .ok (.aload_n 0, 1) := dk_42 (dk_at dksX3_reason_3 9 rfl rfl)
theorem dX3_reason_80 : decode cX3_reason 80 = .ok (.getfield 25, 3) := dk_180 0 25 (dk_at dksX3_reason_3 10 rfl rfl)
theorem dX3_reason_83 : decode cX3_reason 83 = .ok (.bipush 19, 2) := dk_16 19 (dk_at dksX3_reason_3 13 rfl rfl)
theorem dX3_reason_85 : decode cX3_reason 85 = .ok (.iaload, 1) := dk_46 (dk_at dksX3_reason_3 15 rfl rfl)
theorem dX3_reason_86 : decode cX3_reason 86 = .ok (.goto 24, 3) := dk_167 0 24 (dk_at dksX3_reason_3 16 rfl rfl)
theorem dX3_reason_89 : decode cX3_reason 89 = .ok (.aload_n 0, 1) := dk_42 (dk_at dksX3_reason_3 19 rfl rfl)
theorem dX3_reason_90 : decode cX3_reason 90 = .ok (.getfield 25, 3) := dk_180 0 25 (dk_at dksX3_reason_3 20 rfl rfl)
theorem dX3_reason_93 : decode cX3_reason 93 = .ok (.bipush 21, 2) := dk_16 21 (dk_at dksX3_reason_4 0 rfl rfl)
theorem dX3_reason_95 : decode cX3_reason 95 = .ok (.aload_n 0, 1) := dk_42 (dk_at dksX3_reason_4 2 rfl rfl)
theorem dX3_reason_96 : decode cX3_reason 96 = .ok (.getfield 19, 3) := dk_180 0 19 (dk_at dksX3_reason_4 3 rfl rfl)
theorem dX3_reason_99 : decode cX3_reason 99 = .ok (.aload_n 0, 1) := dk_42 (dk_at dksX3_reason_4 6 rfl rfl)
theorem dX3_reason_100 : decode cX3_reason 100 = .ok (.getfield 41, 3) := dk_180 0 41 (dk_at dksX3_reason_4 7 rfl rfl)
theorem dX3_reason_103 : decode cX3_reason 103 = .ok (.iload_n 1, 1) := dk_27 (dk_at dksX3_reason_4 10 rfl rfl)
theorem dX3_reason_104 : decode cX3_reason 104 = .ok (.iconst 1, 1) := dk_4 (dk_at dksX3_reason_4 11 rfl rfl)
theorem dX3_reason_105 : decode cX3_reason 105 = .ok (.isub, 1) := dk_100 (dk_at dksX3_reason_4 12 rfl rfl)
theorem dX3_reason_106 : decode cX3_reason 106 = .ok (.iaload, 1) := dk_46 (dk_at dksX3_reason_4 13 rfl rfl)
theorem dX3_reason_107 : decode cX3_reason 107 = .ok (.iaload, 1) := dk_46 (dk_at dksX3_reason_4 14 rfl rfl)
theorem dX3_reason_108 : decode cX3_reason 108 = .ok (.iadd, 1) := dk_96 (dk_at dksX3_reason_4 15 rfl rfl)
theorem dX3_reason_109 : decode cX3_reason 109 = .ok (.iaload, 1) := dk_46 (dk_at dksX3_reason_4 16 rfl rfl)
theorem dX3_reason_110 : decode cX3_reason 110 = .ok (.aload_n 0, 1) := dk_42 (dk_at dksX3_reason_4 17 rfl rfl)
theorem dX3_reason_111 : decode cX3_reason 111 = .ok (.getfield 19, 3) := dk_180 0 19 (dk_at dksX3_reason_4 18 rfl rfl)
theorem dX3_reason_114 : decode cX3_reason 114 = .ok (.iload_n 2, 1) := dk_28 (dk_at dksX3_reason_4 21 rfl rfl)
theorem dX3_reason_115 : decode cX3_reason 115 = .ok (.iaload, 1) := dk_46 (dk_at dksX3_reason_4 22 rfl rfl)
theorem dX3_reason_116 : decode cX3_reason 116 = .ok (.invokestatic 149, 3) := dk_184 0 149 (dk_at dksX3_reason_5 0 rfl rfl)
theorem dX3_reason_119 : decode cX3_reason 119 = .ok (.ifCond .ne 5, 3) := dk_154 0 5 (dk_at dksX3_reason_5 3 rfl rfl)
theorem dX3_reason_122 : decode cX3_reason 122 = .ok (.iconst 2, 1) := dk_5 (dk_at dksX3_reason_5 6 rfl rfl)
theorem dX3_reason_123 : decode cX3_reason 123 = .ok (.ireturn, 1) := dk_172 (dk_at dksX3_reason_5 7 rfl rfl)
theorem dX3_reason_124 : decode cX3_reason 124 = .ok (.aload_n 0, 1) := dk_42 (dk_at dksX3_reason_5 8 rfl rfl)
theorem dX3_reason_125 : decode cX3_reason 125 = .ok (.iload_n 2, 1) := dk_28 (dk_at dksX3_reason_5 9 rfl rfl)
theorem dX3_reason_126 : decode cX3_reason 126 = .ok (.invokevirtual 306, 3) := dk_182 1 50 (dk_at dksX3_reason_5 10 rfl rfl)
theorem dX3_reason_129 : decode cX3_reason 129 = .ok (.istore_n 3, 1) := dk_62 (dk_at dksX3_reason_5 13 rfl rfl)
theorem dX3_reason_130 : decode cX3_reason 130 = .ok (.iload_n 3, 1) := dk_29 (dk_at dksX3_reason_5 14 rfl rfl)
theorem dX3_reason_131 : decode cX3_reason 131 = .ok (.bipush (-9), 2) := dk_16 247 (dk_at dksX3_reason_5 15 rfl rfl)
theorem dX3_reason_133 : decode cX3_reason 133 = .ok (.if_icmp .eq 32, 3) := dk_159 0 32 (dk_at dksX3_reason_5 17 rfl rfl)
theorem dX3_reason_136 : decode cX3_reason 136 = .ok (.aload_n 0, 1) := dk_42 (dk_at dksX3_reason_5 20 rfl rfl)
theorem dX3_reason_137 : decode cX3_reason 137 = .ok (.iload_n 3, 1) := dk_29 (dk_at dksX3_reason_5 21 rfl rfl)
theorem dX3_reason_138 : decode cX3_reason 138 = .ok (.putfield 297, 3) := dk_181 1 41 (dk_at dksX3_reason_6 0 rfl rfl)
theorem dX3_reason_141 : decode cX3_reason 141 = .ok (.aload_n 0, 1) := dk_42 (dk_at dksX3_reason_6 3 rfl rfl)
theorem dX3_reason_142 : decode cX3_reason 142 = .ok (.aload_n 0, 1) := dk_42 (dk_at dksX3_reason_6 4 rfl rfl)
theorem dX3_reason_143 : decode cX3_reason 143 = .ok (.getfield 22, 3) := dk_180 0 22 (dk_at dksX3_reason_6 5 rfl rfl)
theorem dX3_reason_146 : decode cX3_reason 146 = .ok (.bipush 8, 2) := dk_16 8 (dk_at dksX3_reason_6 8 rfl rfl)
theorem dX3_reason_148 : decode cX3_reason 148 = .ok (.iload_n 2, 1) := dk_28 (dk_at dksX3_reason_6 10 rfl rfl)
theorem dX3_reason_149 : decode cX3_reason 149 = .ok (.imul, 1) := dk_104 (dk_at dksX3_reason_6 11 rfl rfl)
theorem dX3_reason_150 : decode cX3_reason 150 = .ok (.iload_n 3, 1) := dk_29 (dk_at dksX3_reason_6 12 rfl rfl)
theorem dX3_reason_151 : decode cX3_reason 151 = .ok (.iadd, 1) := dk_96 (dk_at dksX3_reason_6 13 rfl rfl)
theorem dX3_reason_152 : decode cX3_reason 152 = .ok (.iaload, 1) := dk_46 (dk_at dksX3_reason_6 14 rfl rfl)
theorem dX3_reason_153 : decode cX3_reason 153 = .ok (.aload_n 0, 1) := dk_42 (dk_at dksX3_reason_6 15 rfl rfl)
theorem dX3_reason_154 : decode cX3_reason 154 = .ok (.getfield 93, 3) := dk_180 0 93 (dk_at dksX3_reason_6 16 rfl rfl)
theorem dX3_reason_157 : decode cX3_reason 157 = .ok (.iload_n 3, 1) := dk_29 (dk_at dksX3_reason_6 19 rfl rfl)
theorem dX3_reason_158 : decode cX3_reason 158 = .ok (.iaload, 1) := dk_46 (dk_at dksX3_reason_6 20 rfl rfl)
theorem dX3_reason_159 : decode cX3_reason 159 = .ok (.isub, 1) := dk_100 (dk_at dksX3_reason_6 21 rfl rfl)
theorem dX3_reason_160 : decode cX3_reason 160 = .ok (.putfield 300, 3) := dk_181 1 44 (dk_at dksX3_reason_7 0 rfl rfl)
theorem dX3_reason_163 : decode cX3_reason 163 = .ok (.iconst 3, 1) := dk_6 (dk_at dksX3_reason_7 3 rfl rfl)
theorem dX3_reason_164 : decode cX3_reason 164 = .ok (.ireturn, 1) := dk_172 (dk_at dksX3_reason_7 4 rfl rfl)
theorem dX3_reason_165 : decode cX3_reason 165 = .ok (.iconst 0, 1) := dk_3 (dk_at dksX3_reason_7 5 rfl rfl)
theorem dX3_reason_166 : decode cX3_reason 166 = .ok (.istore 4, 2) := dk_54 4 (dk_at dksX3_reason_7 6 rfl rfl)
theorem dX3_reason_168 : decode cX3_reason 168 = .ok (.iload 4, 2) := dk_21 4 (dk_at dksX3_reason_7 8 rfl rfl)
theorem dX3_reason_170 : decode cX3_reason 170 = .ok (.bipush 8, 2) := dk_16 8 (dk_at dksX3_reason_7 10 rfl rfl)
theorem dX3_reason_172 : decode cX3_reason 172 = .ok (.if_icmp .ge 31, 3) := dk_162 0 31 (dk_at dksX3_reason_7 12 rfl rfl)
theorem dX3_reason_175 : decode cX3_reason 175 = .ok (.aload_n 0, 1) := dk_42 (dk_at dksX3_reason_7 15 rfl rfl)
theorem dX3_reason_176 : decode cX3_reason 176 = .ok (.getfield 93, 3) := dk_180 0 93 (dk_at dksX3_reason_7 16 rfl rfl)
theorem dX3_reason_179 : decode cX3_reason 179 = .ok (.iload 4, 2) := dk_21 4 (dk_at dksX3_reason_7 19 rfl rfl)
theorem dX3_reason_181 : decode cX3_reason 181 = .ok (.dup2, 1) := dk_92 (dk_at dksX3_reason_7 21 rfl rfl)
theorem dX3_reason_182 : decode cX3_reason 182 = .ok (.iaload, 1) := dk_46 (dk_at dksX3_reason_7 22 rfl rfl)
theorem dX3_reason_183 : decode cX3_reason 183 = .ok (.aload_n 0, 1) := dk_42 (dk_at dksX3_reason_7 23 rfl rfl)
theorem dX3_reason_184 : decode cX3_reason 184 = .ok (.getfield 22, 3) := dk_180 0 22 (dk_at dksX3_reason_8 0 rfl rfl)
theorem dX3_reason_187 : decode cX3_reason 187 = .ok (.bipush 8, 2) := dk_16 8 (dk_at dksX3_reason_8 3 rfl rfl)
theorem dX3_reason_189 : decode cX3_reason 189 = .ok (.iload_n 2, 1) := dk_28 (dk_at dksX3_reason_8 5 rfl rfl)
theorem dX3_reason_190 : decode cX3_reason 190 = .ok (.imul, 1) := dk_104 (dk_at dksX3_reason_8 6 rfl rfl)
theorem dX3_reason_191 : decode cX3_reason 191 = .ok (.iload 4, 2) := dk_21 4 (dk_at dksX3_reason_8 7 rfl rfl)
theorem dX3_reason_193 : decode cX3_reason 193 = .ok (.iadd, 1) := dk_96 (dk_at dksX3_reason_8 9 rfl rfl)
theorem dX3_reason_194 : decode cX3_reason 194 = .ok (.iaload, 1) := dk_46 (dk_at dksX3_reason_8 10 rfl rfl)
theorem dX3_reason_195 : decode cX3_reason 195 = .ok (.isub, 1) := dk_100 (dk_at dksX3_reason_8 11 rfl rfl)
theorem dX3_reason_196 : decode cX3_reason 196 = .ok (.iastore, 1) := dk_79 (dk_at dksX3_reason_8 12 rfl rfl)
theorem dX3_reason_197 : decode cX3_reason 197 = .ok (.iinc 4 1, 3) := dk_132 4 1 (dk_at dksX3_reason_8 13 rfl rfl)
theorem dX3_reason_200 : decode cX3_reason 200 = .ok (.goto (-32), 3) := dk_167 255 224 (dk_at dksX3_reason_8 16 rfl rfl)
theorem dX3_reason_203 : decode cX3_reason 203 = .ok (.iinc 1 1, 3) := dk_132 1 1 (dk_at dksX3_reason_8 19 rfl rfl)
theorem dX3_reason_206 : decode cX3_reason 206 = .ok (.goto (-167), 3) := dk_167 255 89 (dk_at dksX3_reason_9 0 rfl rfl)
theorem dX3_reason_209 : decode cX3_reason 209 = .ok (.aload_n 0, 1) := dk_42 (dk_at dksX3_reason_9 3 rfl rfl)
theorem dX3_reason_210 : decode cX3_reason 210 = .ok (.aload_n 0, 1) := dk_42 (dk_at dksX3_reason_9 4 rfl rfl)
theorem dX3_reason_211 : decode cX3_reason 211 = .ok (.getfield 185, 3) := dk_180 0 185 (dk_at dksX3_reason_9 5 rfl rfl)
theorem dX3_reason_214 : decode cX3_reason 214 = .ok (.putfield 303, 3) := dk_181 1 47 (dk_at dksX3_reason_9 8 rfl rfl)
theorem dX3_reason_217 : decode cX3_reason 217 = .ok (.aload_n 0, 1) := dk_42 (dk_at dksX3_reason_9 11 rfl rfl)
theorem dX3_reason_218 : decode cX3_reason 218 = .ok (.getfield 185, 3) := dk_180 0 185 (dk_at dksX3_reason_9 12 rfl rfl)
theorem dX3_reason_221 : decode cX3_reason 221 = .ok (.ifCond .ne 6, 3) := dk_154 0 6 (dk_at dksX3_reason_9 15 rfl rfl)
theorem dX3_reason_224 : decode cX3_reason 224 = .ok (.bipush 6, 2) := dk_16 6 (dk_at dksX3_reason_9 18 rfl rfl)
theorem dX3_reason_226 : decode cX3_reason 226 = .ok (.ireturn, 1) := dk_172 (dk_at dksX3_reason_9 20 rfl rfl)
theorem dX3_reason_227 : decode cX3_reason 227 = .ok (.iconst 0, 1) := dk_3 (dk_at dksX3_reason_9 21 rfl rfl)
theorem dX3_reason_228 : decode cX3_reason 228 = .ok (.istore_n 1, 1) := dk_60 (dk_at dksX3_reason_9 22 rfl rfl)
theorem dX3_reason_229 : decode cX3_reason 229 = .ok (.iload_n 1, 1) := dk_27 (dk_at dksX3_reason_9 23 rfl rfl)
theorem dX3_reason_230 : decode cX3_reason 230 = .ok (.bipush 8, 2) := dk_16 8 (dk_at dksX3_reason_10 0 rfl rfl)
theorem dX3_reason_232 : decode cX3_reason 232 = .ok (.if_icmp .ge 35, 3) := dk_162 0 35 (dk_at dksX3_reason_10 2 rfl rfl)
theorem dX3_reason_235 : decode cX3_reason 235 = .ok (.aload_n 0, 1) := dk_42 (dk_at dksX3_reason_10 5 rfl rfl)
theorem dX3_reason_236 : decode cX3_reason 236 = .ok (.getfield 93, 3) := dk_180 0 93 (dk_at dksX3_reason_10 6 rfl rfl)
theorem dX3_reason_239 : decode cX3_reason 239 = .ok (.iload_n 1, 1) := dk_27 (dk_at dksX3_reason_10 9 rfl rfl)
theorem dX3_reason_240 : decode cX3_reason 240 = .ok (.iaload, 1) := dk_46 (dk_at dksX3_reason_10 10 rfl rfl)
theorem dX3_reason_241 : decode cX3_reason 241 = .ok (.ifCond .le 20, 3) := dk_158 0 20 (dk_at dksX3_reason_10 11 rfl rfl)
theorem dX3_reason_244 : decode cX3_reason 244 = .ok (.aload_n 0, 1) := dk_42 (dk_at dksX3_reason_10 14 rfl rfl)
theorem dX3_reason_245 : decode cX3_reason 245 = .ok (.iload_n 1, 1) := dk_27 (dk_at dksX3_reason_10 15 rfl rfl)
theorem dX3_reason_246 : decode cX3_reason 246 = .ok (.putfield 297, 3) := dk_181 1 41 (dk_at dksX3_reason_10 16 rfl rfl)
theorem dX3_reason_249 : decode cX3_reason 249 = .ok (.aload_n 0, 1) := dk_42 (dk_at dksX3_reason_10 19 rfl rfl)
theorem dX3_reason_250 : decode cX3_reason 250 = .ok (.aload_n 0, 1) := dk_42 (dk_at dksX3_reason_10 20 rfl rfl)
theorem dX3_reason_251 : decode cX3_reason 251 = .ok (.getfield 93, 3) := dk_180 0 93 (dk_at dksX3_reason_10 21 rfl rfl)
theorem dX3_reason_254 : decode cX3_reason 254 = .ok (.iload_n 1, 1) := dk_27 (dk_at dksX3_reason_11 0 rfl rfl)
theorem dX3_reason_255 : decode cX3_reason 255 = .ok (.iaload, 1) := dk_46 (dk_at dksX3_reason_11 1 rfl rfl)
theorem dX3_reason_256 : decode cX3_reason 256 = .ok (.putfield 300, 3) := dk_181 1 44 (dk_at dksX3_reason_11 2 rfl rfl)
theorem dX3_reason_259 : decode cX3_reason 259 = .ok (.iconst 4, 1) := dk_7 (dk_at dksX3_reason_11 5 rfl rfl)
theorem dX3_reason_260 : decode cX3_reason 260 = .ok (.ireturn, 1) := dk_172 (dk_at dksX3_reason_11 6 rfl rfl)
theorem dX3_reason_261 : decode cX3_reason 261 = .ok (.iinc 1 1, 3) := dk_132 1 1 (dk_at dksX3_reason_11 7 rfl rfl)
theorem dX3_reason_264 : decode cX3_reason 264 = .ok (.goto (-35), 3) := dk_167 255 221 (dk_at dksX3_reason_11 10 rfl rfl)
theorem dX3_reason_267 : decode cX3_reason 267 = .ok (.aload_n 0, 1) := dk_42 (dk_at dksX3_reason_11 13 rfl rfl)
theorem dX3_reason_268 : decode cX3_reason 268 = .ok (.getfield 25, 3) := dk_180 0 25 (dk_at dksX3_reason_11 14 rfl rfl)
theorem dX3_reason_271 : decode cX3_reason 271 = .ok (.bipush 20, 2) := dk_16 20 (dk_at dksX3_reason_11 17 rfl rfl)
theorem dX3_reason_273 : decode cX3_reason 273 = .ok (.iaload, 1) := dk_46 (dk_at dksX3_reason_11 19 rfl rfl)
theorem dX3_reason_274 : decode cX3_reason 274 = .ok (.aload_n 0, 1) := dk_42 (dk_at dksX3_reason_11 20 rfl rfl)
theorem dX3_reason_275 : decode cX3_reason 275 = .ok (.getfield 19, 3) := dk_180 0 19 (dk_at dksX3_reason_11 21 rfl rfl)
theorem dX3_reason_278 : decode cX3_reason 278 = .ok (.aload_n 0, 1) := dk_42 (dk_at dksX3_reason_12 0 rfl rfl)
theorem dX3_reason_279 : decode cX3_reason 279 = .ok (.getfield 41, 3) := dk_180 0 41 (dk_at dksX3_reason_12 1 rfl rfl)
theorem dX3_reason_282 : decode cX3_reason 282 = .ok (.aload_n 0, 1) := dk_42 (dk_at dksX3_reason_12 4 rfl rfl)
theorem dX3_reason_283 : decode cX3_reason 283 = .ok (.getfield 185, 3) := dk_180 0 185 (dk_at dksX3_reason_12 5 rfl rfl)
theorem dX3_reason_286 : decode cX3_reason 286 = .ok (.iconst 1, 1) := dk_4 (dk_at dksX3_reason_12 8 rfl rfl)
theorem dX3_reason_287 : decode cX3_reason 287 = .ok (.isub, 1) := dk_100 (dk_at dksX3_reason_12 9 rfl rfl)
theorem dX3_reason_288 : decode cX3_reason 288 = .ok (.iaload, 1) := dk_46 (dk_at dksX3_reason_12 10 rfl rfl)
theorem dX3_reason_289 : decode cX3_reason 289 = .ok (.iaload, 1) := dk_46 (dk_at dksX3_reason_12 11 rfl rfl)
theorem dX3_reason_290 : decode cX3_reason 290 = .ok (.invokestatic 149, 3) := dk_184 0 149 (dk_at dksX3_reason_12 12 rfl rfl)
theorem dX3_reason_293 : decode cX3_reason 293 = .ok (.ifCond .ne 5, 3) := dk_154 0 5 (dk_at dksX3_reason_12 15 rfl rfl)
theorem dX3_reason_296 : decode cX3_reason 296 = .ok (.iconst 5, 1) := dk_8 (dk_at dksX3_reason_12 18 rfl rfl)
theorem dX3_reason_297 : decode cX3_reason 297 = .ok (.ireturn, 1) := dk_172 (dk_at dksX3_reason_12 19 rfl rfl)
theorem dX3_reason_298 : decode cX3_reason 298 = .ok (.aload_n 0, 1) := dk_42 (dk_at dksX3_reason_12 20 rfl rfl)
theorem dX3_reason_299 : decode cX3_reason 299 = .ok (.bipush (-9), 2) := dk_16 247 (dk_at dksX3_reason_12 21 rfl rfl)
theorem dX3_reason_301 : decode cX3_reason 301 = .ok (.putfield 303, 3) := dk_181 1 47 (dk_at dksX3_reason_13 0 rfl rfl)
theorem dX3_reason_304 : decode cX3_reason 304 = .ok (.iconst 0, 1) := dk_3 (dk_at dksX3_reason_13 3 rfl rfl)
theorem dX3_reason_305 : decode cX3_reason 305 = .ok (.ireturn, 1) := dk_172 (dk_at dksX3_reason_13 4 rfl rfl)
abbrev cX3_wantedBy : ByteArray := prog_13_method_64_code
def yX3_wantedBy : MethodName := ⟨RX3, "wantedBy", "(I)I"⟩
def dkwX3_wantedBy_2 : List UInt8 := [164, 0, 8, 21, 4, 167, 0, 4, 28, 61, 132, 3, 255, 167, 255, 207, 28, 172]
abbrev dktX3_wantedBy_2 : List UInt8 := dkwX3_wantedBy_2 ++ []
def dkwX3_wantedBy_1 : List UInt8 := [29, 96, 46, 54, 4, 42, 180, 0, 22, 16, 8, 27, 104, 21, 4, 96, 46, 42, 180, 0, 93, 21, 4, 46]
abbrev dktX3_wantedBy_1 : List UInt8 := dkwX3_wantedBy_1 ++ dktX3_wantedBy_2
def dkwX3_wantedBy_0 : List UInt8 := [16, 247, 61, 42, 180, 0, 16, 27, 46, 4, 100, 62, 29, 155, 0, 51, 42, 180, 0, 13, 16, 6, 27, 104]
abbrev dktX3_wantedBy_0 : List UInt8 := dkwX3_wantedBy_0 ++ dktX3_wantedBy_1
theorem dksX3_wantedBy_0 : cX3_wantedBy.data.toList.drop 0 = dktX3_wantedBy_0 := by decide +kernel
theorem dksX3_wantedBy_1 : cX3_wantedBy.data.toList.drop 24 = dktX3_wantedBy_1 := dk_seg dksX3_wantedBy_0 24 rfl rfl
theorem dksX3_wantedBy_2 : cX3_wantedBy.data.toList.drop 48 = dktX3_wantedBy_2 := dk_seg dksX3_wantedBy_1 24 rfl rfl
theorem dX3_wantedBy_0 : decode cX3_wantedBy 0 = .ok (.bipush (-9), 2) := dk_16 247 (dk_at dksX3_wantedBy_0 0 rfl rfl)
theorem dX3_wantedBy_2 : decode cX3_wantedBy 2 = .ok (.istore_n 2, 1) := dk_61 (dk_at dksX3_wantedBy_0 2 rfl rfl)
theorem dX3_wantedBy_3 : decode cX3_wantedBy 3 = .ok (.aload_n 0, 1) := dk_42 (dk_at dksX3_wantedBy_0 3 rfl rfl)
theorem dX3_wantedBy_4 : decode cX3_wantedBy 4 = .ok (.getfield 16, 3) := dk_180 0 16 (dk_at dksX3_wantedBy_0 4 rfl rfl)
theorem dX3_wantedBy_7 : decode cX3_wantedBy 7 = .ok (.iload_n 1, 1) := dk_27 (dk_at dksX3_wantedBy_0 7 rfl rfl)
theorem dX3_wantedBy_8 : decode cX3_wantedBy 8 = .ok (.iaload, 1) := dk_46 (dk_at dksX3_wantedBy_0 8 rfl rfl)
theorem dX3_wantedBy_9 : decode cX3_wantedBy 9 = .ok (.iconst 1, 1) := dk_4 (dk_at dksX3_wantedBy_0 9 rfl rfl)
theorem dX3_wantedBy_10 : decode cX3_wantedBy 10 = .ok (.isub, 1) := dk_100 (dk_at dksX3_wantedBy_0 10 rfl rfl)
theorem dX3_wantedBy_11 : decode cX3_wantedBy 11 = .ok (.istore_n 3, 1) := dk_62 (dk_at dksX3_wantedBy_0 11 rfl rfl)
theorem dX3_wantedBy_12 : decode cX3_wantedBy 12 = .ok (.iload_n 3, 1) := dk_29 (dk_at dksX3_wantedBy_0 12 rfl rfl)
theorem dX3_wantedBy_13 : decode cX3_wantedBy 13 = .ok (.ifCond .lt 51, 3) := dk_155 0 51 (dk_at dksX3_wantedBy_0 13 rfl rfl)
theorem dX3_wantedBy_16 : decode cX3_wantedBy 16 = .ok (.aload_n 0, 1) := dk_42 (dk_at dksX3_wantedBy_0 16 rfl rfl)
theorem dX3_wantedBy_17 : decode cX3_wantedBy 17 = .ok (.getfield 13, 3) := dk_180 0 13 (dk_at dksX3_wantedBy_0 17 rfl rfl)
theorem dX3_wantedBy_20 : decode cX3_wantedBy 20 = .ok (.bipush 6, 2) := dk_16 6 (dk_at dksX3_wantedBy_0 20 rfl rfl)
theorem dX3_wantedBy_22 : decode cX3_wantedBy 22 = .ok (.iload_n 1, 1) := dk_27 (dk_at dksX3_wantedBy_0 22 rfl rfl)
theorem dX3_wantedBy_23 : decode cX3_wantedBy 23 = .ok (.imul, 1) := dk_104 (dk_at dksX3_wantedBy_0 23 rfl rfl)
theorem dX3_wantedBy_24 : decode cX3_wantedBy 24 = .ok (.iload_n 3, 1) := dk_29 (dk_at dksX3_wantedBy_1 0 rfl rfl)
theorem dX3_wantedBy_25 : decode cX3_wantedBy 25 = .ok (.iadd, 1) := dk_96 (dk_at dksX3_wantedBy_1 1 rfl rfl)
theorem dX3_wantedBy_26 : decode cX3_wantedBy 26 = .ok (.iaload, 1) := dk_46 (dk_at dksX3_wantedBy_1 2 rfl rfl)
theorem dX3_wantedBy_27 : decode cX3_wantedBy 27 = .ok (.istore 4, 2) := dk_54 4 (dk_at dksX3_wantedBy_1 3 rfl rfl)
theorem dX3_wantedBy_29 : decode cX3_wantedBy 29 = .ok (.aload_n 0, 1) := dk_42 (dk_at dksX3_wantedBy_1 5 rfl rfl)
theorem dX3_wantedBy_30 : decode cX3_wantedBy 30 = .ok (.getfield 22, 3) := dk_180 0 22 (dk_at dksX3_wantedBy_1 6 rfl rfl)
theorem dX3_wantedBy_33 : decode cX3_wantedBy 33 = .ok (.bipush 8, 2) := dk_16 8 (dk_at dksX3_wantedBy_1 9 rfl rfl)
theorem dX3_wantedBy_35 : decode cX3_wantedBy 35 = .ok (.iload_n 1, 1) := dk_27 (dk_at dksX3_wantedBy_1 11 rfl rfl)
theorem dX3_wantedBy_36 : decode cX3_wantedBy 36 = .ok (.imul, 1) := dk_104 (dk_at dksX3_wantedBy_1 12 rfl rfl)
theorem dX3_wantedBy_37 : decode cX3_wantedBy 37 = .ok (.iload 4, 2) := dk_21 4 (dk_at dksX3_wantedBy_1 13 rfl rfl)
theorem dX3_wantedBy_39 : decode cX3_wantedBy 39 = .ok (.iadd, 1) := dk_96 (dk_at dksX3_wantedBy_1 15 rfl rfl)
theorem dX3_wantedBy_40 : decode cX3_wantedBy 40 = .ok (.iaload, 1) := dk_46 (dk_at dksX3_wantedBy_1 16 rfl rfl)
theorem dX3_wantedBy_41 : decode cX3_wantedBy 41 = .ok (.aload_n 0, 1) := dk_42 (dk_at dksX3_wantedBy_1 17 rfl rfl)
theorem dX3_wantedBy_42 : decode cX3_wantedBy 42 = .ok (.getfield 93, 3) := dk_180 0 93 (dk_at dksX3_wantedBy_1 18 rfl rfl)
theorem dX3_wantedBy_45 : decode cX3_wantedBy 45 = .ok (.iload 4, 2) := dk_21 4 (dk_at dksX3_wantedBy_1 21 rfl rfl)
theorem dX3_wantedBy_47 : decode cX3_wantedBy 47 = .ok (.iaload, 1) := dk_46 (dk_at dksX3_wantedBy_1 23 rfl rfl)
theorem dX3_wantedBy_48 : decode cX3_wantedBy 48 = .ok (.if_icmp .le 8, 3) := dk_164 0 8 (dk_at dksX3_wantedBy_2 0 rfl rfl)
theorem dX3_wantedBy_51 : decode cX3_wantedBy 51 = .ok (.iload 4, 2) := dk_21 4 (dk_at dksX3_wantedBy_2 3 rfl rfl)
theorem dX3_wantedBy_53 : decode cX3_wantedBy 53 = .ok (.goto 4, 3) := dk_167 0 4 (dk_at dksX3_wantedBy_2 5 rfl rfl)
theorem dX3_wantedBy_56 : decode cX3_wantedBy 56 = .ok (.iload_n 2, 1) := dk_28 (dk_at dksX3_wantedBy_2 8 rfl rfl)
theorem dX3_wantedBy_57 : decode cX3_wantedBy 57 = .ok (.istore_n 2, 1) := dk_61 (dk_at dksX3_wantedBy_2 9 rfl rfl)
theorem dX3_wantedBy_58 : decode cX3_wantedBy 58 = .ok (.iinc 3 (-1), 3) := dk_132 3 255 (dk_at dksX3_wantedBy_2 10 rfl rfl)
theorem dX3_wantedBy_61 : decode cX3_wantedBy 61 = .ok (.goto (-49), 3) := dk_167 255 207 (dk_at dksX3_wantedBy_2 13 rfl rfl)
theorem dX3_wantedBy_64 : decode cX3_wantedBy 64 = .ok (.iload_n 2, 1) := dk_28 (dk_at dksX3_wantedBy_2 16 rfl rfl)
theorem dX3_wantedBy_65 : decode cX3_wantedBy 65 = .ok (.ireturn, 1) := dk_172 (dk_at dksX3_wantedBy_2 17 rfl rfl)
abbrev cX3_number : ByteArray := prog_13_method_67_code
def yX3_number : MethodName := ⟨RX3, "number", "()J"⟩
def dkwX3_number_5 : List UInt8 := [46, 54, 4, 132, 5, 1, 167, 255, 164, 31, 173]
abbrev dktX3_number_5 : List UInt8 := dkwX3_number_5 ++ []
def dkwX3_number_4 : List UInt8 := [180, 0, 71, 42, 180, 0, 41, 21, 5, 46, 46, 100, 62, 42, 180, 0, 19, 42, 180, 0, 41, 21, 5, 46]
abbrev dktX3_number_4 : List UInt8 := dkwX3_number_4 ++ dktX3_number_5
def dkwX3_number_3 : List UInt8 := [42, 180, 0, 74, 29, 21, 6, 182, 0, 198, 167, 0, 4, 9, 97, 64, 132, 6, 1, 167, 255, 211, 29, 42]
abbrev dktX3_number_3 : List UInt8 := dkwX3_number_3 ++ dktX3_number_4
def dkwX3_number_2 : List UInt8 := [42, 180, 0, 41, 21, 5, 46, 162, 0, 39, 31, 42, 29, 21, 4, 21, 6, 182, 0, 194, 153, 0, 17, 42]
abbrev dktX3_number_2 : List UInt8 := dkwX3_number_2 ++ dktX3_number_3
def dkwX3_number_1 : List UInt8 := [180, 0, 188, 62, 7, 54, 4, 3, 54, 5, 21, 5, 42, 180, 0, 185, 162, 0, 89, 3, 54, 6, 21, 6]
abbrev dktX3_number_1 : List UInt8 := dkwX3_number_1 ++ dktX3_number_2
def dkwX3_number_0 : List UInt8 := [42, 182, 1, 53, 153, 0, 7, 20, 1, 56, 173, 42, 42, 180, 0, 25, 182, 1, 16, 88, 9, 64, 42]
abbrev dktX3_number_0 : List UInt8 := dkwX3_number_0 ++ dktX3_number_1
theorem dksX3_number_0 : cX3_number.data.toList.drop 0 = dktX3_number_0 := by decide +kernel
theorem dksX3_number_1 : cX3_number.data.toList.drop 23 = dktX3_number_1 := dk_seg dksX3_number_0 23 rfl rfl
theorem dksX3_number_2 : cX3_number.data.toList.drop 47 = dktX3_number_2 := dk_seg dksX3_number_1 24 rfl rfl
theorem dksX3_number_3 : cX3_number.data.toList.drop 71 = dktX3_number_3 := dk_seg dksX3_number_2 24 rfl rfl
theorem dksX3_number_4 : cX3_number.data.toList.drop 95 = dktX3_number_4 := dk_seg dksX3_number_3 24 rfl rfl
theorem dksX3_number_5 : cX3_number.data.toList.drop 119 = dktX3_number_5 := dk_seg dksX3_number_4 24 rfl rfl
theorem dX3_number_0 : decode cX3_number 0 = .ok (.aload_n 0, 1) := dk_42 (dk_at dksX3_number_0 0 rfl rfl)
theorem dX3_number_1 : decode cX3_number 1 = .ok (.invokevirtual 309, 3) := dk_182 1 53 (dk_at dksX3_number_0 1 rfl rfl)
theorem dX3_number_4 : decode cX3_number 4 = .ok (.ifCond .eq 7, 3) := dk_153 0 7 (dk_at dksX3_number_0 4 rfl rfl)
theorem dX3_number_7 : decode cX3_number 7 = .ok (.ldc2_w 312, 3) := dk_20 1 56 (dk_at dksX3_number_0 7 rfl rfl)
theorem dX3_number_10 : decode cX3_number 10 = .ok (.lreturn, 1) := dk_173 (dk_at dksX3_number_0 10 rfl rfl)
theorem dX3_number_11 : decode cX3_number 11 = .ok (.aload_n 0, 1) := dk_42 (dk_at dksX3_number_0 11 rfl rfl)
theorem dX3_number_12 : decode cX3_number 12 = .ok (.aload_n 0, 1) := dk_42 (dk_at dksX3_number_0 12 rfl rfl)
theorem dX3_number_13 : decode cX3_number 13 = .ok (.getfield 25, 3) := dk_180 0 25 (dk_at dksX3_number_0 13 rfl rfl)
theorem dX3_number_16 : decode cX3_number 16 = .ok (.invokevirtual 272, 3) := dk_182 1 16 (dk_at dksX3_number_0 16 rfl rfl)
theorem dX3_number_19 : decode cX3_number 19 = .ok (.pop2, 1) := dk_88 (dk_at dksX3_number_0 19 rfl rfl)
theorem dX3_number_20 : decode cX3_number 20 = .ok (.lconst 0, 1) := dk_9 (dk_at dksX3_number_0 20 rfl rfl)
theorem dX3_number_21 : decode cX3_number 21 = .ok (.lstore_n 1, 1) := dk_64 (dk_at dksX3_number_0 21 rfl rfl)
theorem dX3_number_22 : decode cX3_number 22 = .ok (.aload_n 0, 1) := dk_42 (dk_at dksX3_number_0 22 rfl rfl)
theorem dX3_number_23 : decode cX3_number 23 = .ok (.getfield 188, 3) := dk_180 0 188 (dk_at dksX3_number_1 0 rfl rfl)
theorem dX3_number_26 : decode cX3_number 26 = .ok (.istore_n 3, 1) := dk_62 (dk_at dksX3_number_1 3 rfl rfl)
theorem dX3_number_27 : decode cX3_number 27 = .ok (.iconst 4, 1) := dk_7 (dk_at dksX3_number_1 4 rfl rfl)
theorem dX3_number_28 : decode cX3_number 28 = .ok (.istore 4, 2) := dk_54 4 (dk_at dksX3_number_1 5 rfl rfl)
theorem dX3_number_30 : decode cX3_number 30 = .ok (.iconst 0, 1) := dk_3 (dk_at dksX3_number_1 7 rfl rfl)
theorem dX3_number_31 : decode cX3_number 31 = .ok (.istore 5, 2) := dk_54 5 (dk_at dksX3_number_1 8 rfl rfl)
theorem dX3_number_33 : decode cX3_number 33 = .ok (.iload 5, 2) := dk_21 5 (dk_at dksX3_number_1 10 rfl rfl)
theorem dX3_number_35 : decode cX3_number 35 = .ok (.aload_n 0, 1) := dk_42 (dk_at dksX3_number_1 12 rfl rfl)
theorem dX3_number_36 : decode cX3_number 36 = .ok (.getfield 185, 3) := dk_180 0 185 (dk_at dksX3_number_1 13 rfl rfl)
theorem dX3_number_39 : decode cX3_number 39 = .ok (.if_icmp .ge 89, 3) := dk_162 0 89 (dk_at dksX3_number_1 16 rfl rfl)
theorem dX3_number_42 : decode cX3_number 42 = .ok (.iconst 0, 1) := dk_3 (dk_at dksX3_number_1 19 rfl rfl)
theorem dX3_number_43 : decode cX3_number 43 = .ok (.istore 6, 2) := dk_54 6 (dk_at dksX3_number_1 20 rfl rfl)
theorem dX3_number_45 : decode cX3_number 45 = .ok (.iload 6, 2) := dk_21 6 (dk_at dksX3_number_1 22 rfl rfl)
theorem dX3_number_47 : decode cX3_number 47 = .ok (.aload_n 0, 1) := dk_42 (dk_at dksX3_number_2 0 rfl rfl)
theorem dX3_number_48 : decode cX3_number 48 = .ok (.getfield 41, 3) := dk_180 0 41 (dk_at dksX3_number_2 1 rfl rfl)
theorem dX3_number_51 : decode cX3_number 51 = .ok (.iload 5, 2) := dk_21 5 (dk_at dksX3_number_2 4 rfl rfl)
theorem dX3_number_53 : decode cX3_number 53 = .ok (.iaload, 1) := dk_46 (dk_at dksX3_number_2 6 rfl rfl)
theorem dX3_number_54 : decode cX3_number 54 = .ok (.if_icmp .ge 39, 3) := dk_162 0 39 (dk_at dksX3_number_2 7 rfl rfl)
theorem dX3_number_57 : decode cX3_number 57 = .ok (.lload_n 1, 1) := dk_31 (dk_at dksX3_number_2 10 rfl rfl)
theorem dX3_number_58 : decode cX3_number 58 = .ok (.aload_n 0, 1) := dk_42 (dk_at dksX3_number_2 11 rfl rfl)
theorem dX3_number_59 : decode cX3_number 59 = .ok (.iload_n 3, 1) := dk_29 (dk_at dksX3_number_2 12 rfl rfl)
theorem dX3_number_60 : decode cX3_number 60 = .ok (.iload 4, 2) := dk_21 4 (dk_at dksX3_number_2 13 rfl rfl)
theorem dX3_number_62 : decode cX3_number 62 = .ok (.iload 6, 2) := dk_21 6 (dk_at dksX3_number_2 15 rfl rfl)
theorem dX3_number_64 : decode cX3_number 64 = .ok (.invokevirtual 194, 3) := dk_182 0 194 (dk_at dksX3_number_2 17 rfl rfl)
theorem dX3_number_67 : decode cX3_number 67 = .ok (.ifCond .eq 17, 3) := dk_153 0 17 (dk_at dksX3_number_2 20 rfl rfl)
theorem dX3_number_70 : decode cX3_number 70 = .ok (.aload_n 0, 1) := dk_42 (dk_at dksX3_number_2 23 rfl rfl)
theorem dX3_number_71 : decode cX3_number 71 = .ok (.aload_n 0, 1) := dk_42 (dk_at dksX3_number_3 0 rfl rfl)
theorem dX3_number_72 : decode cX3_number 72 = .ok (.getfield 74, 3) := dk_180 0 74 (dk_at dksX3_number_3 1 rfl rfl)
theorem dX3_number_75 : decode cX3_number 75 = .ok (.iload_n 3, 1) := dk_29 (dk_at dksX3_number_3 4 rfl rfl)
theorem dX3_number_76 : decode cX3_number 76 = .ok (.iload 6, 2) := dk_21 6 (dk_at dksX3_number_3 5 rfl rfl)
theorem dX3_number_78 : decode cX3_number 78 = .ok (.invokevirtual 198, 3) := dk_182 0 198 (dk_at dksX3_number_3 7 rfl rfl)
theorem dX3_number_81 : decode cX3_number 81 = .ok (.goto 4, 3) := dk_167 0 4 (dk_at dksX3_number_3 10 rfl rfl)
theorem dX3_number_84 : decode cX3_number 84 = .ok (.lconst 0, 1) := dk_9 (dk_at dksX3_number_3 13 rfl rfl)
theorem dX3_number_85 : decode cX3_number 85 = .ok (.ladd, 1) := dk_97 (dk_at dksX3_number_3 14 rfl rfl)
theorem dX3_number_86 : decode cX3_number 86 = .ok (.lstore_n 1, 1) := dk_64 (dk_at dksX3_number_3 15 rfl rfl)
theorem dX3_number_87 : decode cX3_number 87 = .ok (.iinc 6 1, 3) := dk_132 6 1 (dk_at dksX3_number_3 16 rfl rfl)
theorem dX3_number_90 : decode cX3_number 90 = .ok (.goto (-45), 3) := dk_167 255 211 (dk_at dksX3_number_3 19 rfl rfl)
theorem dX3_number_93 : decode cX3_number 93 = .ok (.iload_n 3, 1) := dk_29 (dk_at dksX3_number_3 22 rfl rfl)
theorem dX3_number_94 : decode cX3_number 94 = .ok (.aload_n 0, 1) := dk_42 (dk_at dksX3_number_3 23 rfl rfl)
theorem dX3_number_95 : decode cX3_number 95 = .ok (.getfield 71, 3) := dk_180 0 71 (dk_at dksX3_number_4 0 rfl rfl)
theorem dX3_number_98 : decode cX3_number 98 = .ok (.aload_n 0, 1) := dk_42 (dk_at dksX3_number_4 3 rfl rfl)
theorem dX3_number_99 : decode cX3_number 99 = .ok (.getfield 41, 3) := dk_180 0 41 (dk_at dksX3_number_4 4 rfl rfl)
theorem dX3_number_102 : decode cX3_number 102 = .ok (.iload 5, 2) := dk_21 5 (dk_at dksX3_number_4 7 rfl rfl)
theorem dX3_number_104 : decode cX3_number 104 = .ok (.iaload, 1) := dk_46 (dk_at dksX3_number_4 9 rfl rfl)
theorem dX3_number_105 : decode cX3_number 105 = .ok (.iaload, 1) := dk_46 (dk_at dksX3_number_4 10 rfl rfl)
theorem dX3_number_106 : decode cX3_number 106 = .ok (.isub, 1) := dk_100 (dk_at dksX3_number_4 11 rfl rfl)
theorem dX3_number_107 : decode cX3_number 107 = .ok (.istore_n 3, 1) := dk_62 (dk_at dksX3_number_4 12 rfl rfl)
theorem dX3_number_108 : decode cX3_number 108 = .ok (.aload_n 0, 1) := dk_42 (dk_at dksX3_number_4 13 rfl rfl)
theorem dX3_number_109 : decode cX3_number 109 = .ok (.getfield 19, 3) := dk_180 0 19 (dk_at dksX3_number_4 14 rfl rfl)
theorem dX3_number_112 : decode cX3_number 112 = .ok (.aload_n 0, 1) := dk_42 (dk_at dksX3_number_4 17 rfl rfl)
theorem dX3_number_113 : decode cX3_number 113 = .ok (.getfield 41, 3) := dk_180 0 41 (dk_at dksX3_number_4 18 rfl rfl)
theorem dX3_number_116 : decode cX3_number 116 = .ok (.iload 5, 2) := dk_21 5 (dk_at dksX3_number_4 21 rfl rfl)
theorem dX3_number_118 : decode cX3_number 118 = .ok (.iaload, 1) := dk_46 (dk_at dksX3_number_4 23 rfl rfl)
theorem dX3_number_119 : decode cX3_number 119 = .ok (.iaload, 1) := dk_46 (dk_at dksX3_number_5 0 rfl rfl)
theorem dX3_number_120 : decode cX3_number 120 = .ok (.istore 4, 2) := dk_54 4 (dk_at dksX3_number_5 1 rfl rfl)
theorem dX3_number_122 : decode cX3_number 122 = .ok (.iinc 5 1, 3) := dk_132 5 1 (dk_at dksX3_number_5 3 rfl rfl)
theorem dX3_number_125 : decode cX3_number 125 = .ok (.goto (-92), 3) := dk_167 255 164 (dk_at dksX3_number_5 6 rfl rfl)
theorem dX3_number_128 : decode cX3_number 128 = .ok (.lload_n 1, 1) := dk_31 (dk_at dksX3_number_5 9 rfl rfl)
theorem dX3_number_129 : decode cX3_number 129 = .ok (.lreturn, 1) := dk_173 (dk_at dksX3_number_5 10 rfl rfl)
abbrev cX3_nearly : ByteArray := prog_13_method_68_code
def yX3_nearly : MethodName := ⟨RX3, "nearly", "(I)I"⟩
def dkwX3_nearly_4 : List UInt8 := [29, 92, 46, 21, 4, 100, 79, 132, 3, 1, 167, 255, 182, 28, 172]
abbrev dktX3_nearly_4 : List UInt8 := dkwX3_nearly_4 ++ []
def dkwX3_nearly_3 : List UInt8 := [180, 0, 28, 182, 1, 16, 9, 148, 158, 0, 9, 4, 29, 120, 167, 0, 4, 3, 128, 61, 42, 180, 0, 28]
abbrev dktX3_nearly_3 : List UInt8 := dkwX3_nearly_3 ++ dktX3_nearly_4
def dkwX3_nearly_2 : List UInt8 := [180, 0, 28, 29, 92, 46, 21, 4, 96, 79, 28, 42, 180, 0, 28, 29, 46, 155, 0, 22, 42, 42]
abbrev dktX3_nearly_2 : List UInt8 := dkwX3_nearly_2 ++ dktX3_nearly_3
def dkwX3_nearly_1 : List UInt8 := [3, 61, 3, 62, 29, 16, 8, 162, 0, 74, 27, 154, 0, 7, 4, 167, 0, 4, 2, 54, 4, 42]
abbrev dktX3_nearly_1 : List UInt8 := dkwX3_nearly_1 ++ dktX3_nearly_2
def dkwX3_nearly_0 : List UInt8 := [27, 133, 9, 10, 184, 0, 107, 154, 0, 6, 16, 254, 172, 42, 180, 0, 25, 42, 180, 0, 28, 184, 0, 178]
abbrev dktX3_nearly_0 : List UInt8 := dkwX3_nearly_0 ++ dktX3_nearly_1
theorem dksX3_nearly_0 : cX3_nearly.data.toList.drop 0 = dktX3_nearly_0 := by decide +kernel
theorem dksX3_nearly_1 : cX3_nearly.data.toList.drop 24 = dktX3_nearly_1 := dk_seg dksX3_nearly_0 24 rfl rfl
theorem dksX3_nearly_2 : cX3_nearly.data.toList.drop 46 = dktX3_nearly_2 := dk_seg dksX3_nearly_1 22 rfl rfl
theorem dksX3_nearly_3 : cX3_nearly.data.toList.drop 68 = dktX3_nearly_3 := dk_seg dksX3_nearly_2 22 rfl rfl
theorem dksX3_nearly_4 : cX3_nearly.data.toList.drop 92 = dktX3_nearly_4 := dk_seg dksX3_nearly_3 24 rfl rfl
theorem dX3_nearly_0 : decode cX3_nearly 0 = .ok (.iload_n 1, 1) := dk_27 (dk_at dksX3_nearly_0 0 rfl rfl)
theorem dX3_nearly_1 : decode cX3_nearly 1 = .ok (.i2l, 1) := dk_133 (dk_at dksX3_nearly_0 1 rfl rfl)
theorem dX3_nearly_2 : decode cX3_nearly 2 = .ok (.lconst 0, 1) := dk_9 (dk_at dksX3_nearly_0 2 rfl rfl)
theorem dX3_nearly_3 : decode cX3_nearly 3 = .ok (.lconst 1, 1) := dk_10 (dk_at dksX3_nearly_0 3 rfl rfl)
theorem dX3_nearly_4 : decode cX3_nearly 4 = .ok (.invokestatic 107, 3) := dk_184 0 107 (dk_at dksX3_nearly_0 4 rfl rfl)
theorem dX3_nearly_7 : decode cX3_nearly 7 = .ok (.ifCond .ne 6, 3) := dk_154 0 6 (dk_at dksX3_nearly_0 7 rfl rfl)
theorem dX3_nearly_10 : decode cX3_nearly 10 = .ok (.bipush (-2), 2) := dk_16 254 (dk_at dksX3_nearly_0 10 rfl rfl)
theorem dX3_nearly_12 : decode cX3_nearly 12 = .ok (.ireturn, 1) := dk_172 (dk_at dksX3_nearly_0 12 rfl rfl)
theorem dX3_nearly_13 : decode cX3_nearly 13 = .ok (.aload_n 0, 1) := dk_42 (dk_at dksX3_nearly_0 13 rfl rfl)
theorem dX3_nearly_14 : decode cX3_nearly 14 = .ok (.getfield 25, 3) := dk_180 0 25 (dk_at dksX3_nearly_0 14 rfl rfl)
theorem dX3_nearly_17 : decode cX3_nearly 17 = .ok (.aload_n 0, 1) := dk_42 (dk_at dksX3_nearly_0 17 rfl rfl)
theorem dX3_nearly_18 : decode cX3_nearly 18 = .ok (.getfield 28, 3) := dk_180 0 28 (dk_at dksX3_nearly_0 18 rfl rfl)
theorem dX3_nearly_21 : decode cX3_nearly 21 = .ok (.invokestatic 178, 3) := dk_184 0 178 (dk_at dksX3_nearly_0 21 rfl rfl)
theorem dX3_nearly_24 : decode cX3_nearly 24 = .ok (.iconst 0, 1) := dk_3 (dk_at dksX3_nearly_1 0 rfl rfl)
theorem dX3_nearly_25 : decode cX3_nearly 25 = .ok (.istore_n 2, 1) := dk_61 (dk_at dksX3_nearly_1 1 rfl rfl)
theorem dX3_nearly_26 : decode cX3_nearly 26 = .ok (.iconst 0, 1) := dk_3 (dk_at dksX3_nearly_1 2 rfl rfl)
theorem dX3_nearly_27 : decode cX3_nearly 27 = .ok (.istore_n 3, 1) := dk_62 (dk_at dksX3_nearly_1 3 rfl rfl)
theorem dX3_nearly_28 : decode cX3_nearly 28 = .ok (.iload_n 3, 1) := dk_29 (dk_at dksX3_nearly_1 4 rfl rfl)
theorem dX3_nearly_29 : decode cX3_nearly 29 = .ok (.bipush 8, 2) := dk_16 8 (dk_at dksX3_nearly_1 5 rfl rfl)
theorem dX3_nearly_31 : decode cX3_nearly 31 = .ok (.if_icmp .ge 74, 3) := dk_162 0 74 (dk_at dksX3_nearly_1 7 rfl rfl)
theorem dX3_nearly_34 : decode cX3_nearly 34 = .ok (.iload_n 1, 1) := dk_27 (dk_at dksX3_nearly_1 10 rfl rfl)
theorem dX3_nearly_35 : decode cX3_nearly 35 = .ok (.ifCond .ne 7, 3) := dk_154 0 7 (dk_at dksX3_nearly_1 11 rfl rfl)
theorem dX3_nearly_38 : decode cX3_nearly 38 = .ok (.iconst 1, 1) := dk_4 (dk_at dksX3_nearly_1 14 rfl rfl)
theorem dX3_nearly_39 : decode cX3_nearly 39 = .ok (.goto 4, 3) := dk_167 0 4 (dk_at dksX3_nearly_1 15 rfl rfl)
theorem dX3_nearly_42 : decode cX3_nearly 42 = .ok (.iconst (-1), 1) := dk_2 (dk_at dksX3_nearly_1 18 rfl rfl)
theorem dX3_nearly_43 : decode cX3_nearly 43 = .ok (.istore 4, 2) := dk_54 4 (dk_at dksX3_nearly_1 19 rfl rfl)
theorem dX3_nearly_45 : decode cX3_nearly 45 = .ok (.aload_n 0, 1) := dk_42 (dk_at dksX3_nearly_1 21 rfl rfl)
theorem dX3_nearly_46 : decode cX3_nearly 46 = .ok (.getfield 28, 3) := dk_180 0 28 (dk_at dksX3_nearly_2 0 rfl rfl)
theorem dX3_nearly_49 : decode cX3_nearly 49 = .ok (.iload_n 3, 1) := dk_29 (dk_at dksX3_nearly_2 3 rfl rfl)
theorem dX3_nearly_50 : decode cX3_nearly 50 = .ok (.dup2, 1) := dk_92 (dk_at dksX3_nearly_2 4 rfl rfl)
theorem dX3_nearly_51 : decode cX3_nearly 51 = .ok (.iaload, 1) := dk_46 (dk_at dksX3_nearly_2 5 rfl rfl)
theorem dX3_nearly_52 : decode cX3_nearly 52 = .ok (.iload 4, 2) := dk_21 4 (dk_at dksX3_nearly_2 6 rfl rfl)
theorem dX3_nearly_54 : decode cX3_nearly 54 = .ok (.iadd, 1) := dk_96 (dk_at dksX3_nearly_2 8 rfl rfl)
theorem dX3_nearly_55 : decode cX3_nearly 55 = .ok (.iastore, 1) := dk_79 (dk_at dksX3_nearly_2 9 rfl rfl)
theorem dX3_nearly_56 : decode cX3_nearly 56 = .ok (.iload_n 2, 1) := dk_28 (dk_at dksX3_nearly_2 10 rfl rfl)
theorem dX3_nearly_57 : decode cX3_nearly 57 = .ok (.aload_n 0, 1) := dk_42 (dk_at dksX3_nearly_2 11 rfl rfl)
theorem dX3_nearly_58 : decode cX3_nearly 58 = .ok (.getfield 28, 3) := dk_180 0 28 (dk_at dksX3_nearly_2 12 rfl rfl)
theorem dX3_nearly_61 : decode cX3_nearly 61 = .ok (.iload_n 3, 1) := dk_29 (dk_at dksX3_nearly_2 15 rfl rfl)
theorem dX3_nearly_62 : decode cX3_nearly 62 = .ok (.iaload, 1) := dk_46 (dk_at dksX3_nearly_2 16 rfl rfl)
theorem dX3_nearly_63 : decode cX3_nearly 63 = .ok (.ifCond .lt 22, 3) := dk_155 0 22 (dk_at dksX3_nearly_2 17 rfl rfl)
theorem dX3_nearly_66 : decode cX3_nearly 66 = .ok (.aload_n 0, 1) := dk_42 (dk_at dksX3_nearly_2 20 rfl rfl)
theorem dX3_nearly_67 : decode cX3_nearly 67 = .ok (.aload_n 0, 1) := dk_42 (dk_at dksX3_nearly_2 21 rfl rfl)
theorem dX3_nearly_68 : decode cX3_nearly 68 = .ok (.getfield 28, 3) := dk_180 0 28 (dk_at dksX3_nearly_3 0 rfl rfl)
theorem dX3_nearly_71 : decode cX3_nearly 71 = .ok (.invokevirtual 272, 3) := dk_182 1 16 (dk_at dksX3_nearly_3 3 rfl rfl)
theorem dX3_nearly_74 : decode cX3_nearly 74 = .ok (.lconst 0, 1) := dk_9 (dk_at dksX3_nearly_3 6 rfl rfl)
theorem dX3_nearly_75 : decode cX3_nearly 75 = .ok (.lcmp, 1) := dk_148 (dk_at dksX3_nearly_3 7 rfl rfl)
theorem dX3_nearly_76 : decode cX3_nearly 76 = .ok (.ifCond .le 9, 3) := dk_158 0 9 (dk_at dksX3_nearly_3 8 rfl rfl)
theorem dX3_nearly_79 : decode cX3_nearly 79 = .ok (.iconst 1, 1) := dk_4 (dk_at dksX3_nearly_3 11 rfl rfl)
theorem dX3_nearly_80 : decode cX3_nearly 80 = .ok (.iload_n 3, 1) := dk_29 (dk_at dksX3_nearly_3 12 rfl rfl)
theorem dX3_nearly_81 : decode cX3_nearly 81 = .ok (.ishl, 1) := dk_120 (dk_at dksX3_nearly_3 13 rfl rfl)
theorem dX3_nearly_82 : decode cX3_nearly 82 = .ok (.goto 4, 3) := dk_167 0 4 (dk_at dksX3_nearly_3 14 rfl rfl)
theorem dX3_nearly_85 : decode cX3_nearly 85 = .ok (.iconst 0, 1) := dk_3 (dk_at dksX3_nearly_3 17 rfl rfl)
theorem dX3_nearly_86 : decode cX3_nearly 86 = .ok (.ior, 1) := dk_128 (dk_at dksX3_nearly_3 18 rfl rfl)
theorem dX3_nearly_87 : decode cX3_nearly 87 = .ok (.istore_n 2, 1) := dk_61 (dk_at dksX3_nearly_3 19 rfl rfl)
theorem dX3_nearly_88 : decode cX3_nearly 88 = .ok (.aload_n 0, 1) := dk_42 (dk_at dksX3_nearly_3 20 rfl rfl)
theorem dX3_nearly_89 : decode cX3_nearly 89 = .ok (.getfield 28, 3) := dk_180 0 28 (dk_at dksX3_nearly_3 21 rfl rfl)
theorem dX3_nearly_92 : decode cX3_nearly 92 = .ok (.iload_n 3, 1) := dk_29 (dk_at dksX3_nearly_4 0 rfl rfl)
theorem dX3_nearly_93 : decode cX3_nearly 93 = .ok (.dup2, 1) := dk_92 (dk_at dksX3_nearly_4 1 rfl rfl)
theorem dX3_nearly_94 : decode cX3_nearly 94 = .ok (.iaload, 1) := dk_46 (dk_at dksX3_nearly_4 2 rfl rfl)
theorem dX3_nearly_95 : decode cX3_nearly 95 = .ok (.iload 4, 2) := dk_21 4 (dk_at dksX3_nearly_4 3 rfl rfl)
theorem dX3_nearly_97 : decode cX3_nearly 97 = .ok (.isub, 1) := dk_100 (dk_at dksX3_nearly_4 5 rfl rfl)
theorem dX3_nearly_98 : decode cX3_nearly 98 = .ok (.iastore, 1) := dk_79 (dk_at dksX3_nearly_4 6 rfl rfl)
theorem dX3_nearly_99 : decode cX3_nearly 99 = .ok (.iinc 3 1, 3) := dk_132 3 1 (dk_at dksX3_nearly_4 7 rfl rfl)
theorem dX3_nearly_102 : decode cX3_nearly 102 = .ok (.goto (-74), 3) := dk_167 255 182 (dk_at dksX3_nearly_4 10 rfl rfl)
theorem dX3_nearly_105 : decode cX3_nearly 105 = .ok (.iload_n 2, 1) := dk_28 (dk_at dksX3_nearly_4 13 rfl rfl)
theorem dX3_nearly_106 : decode cX3_nearly 106 = .ok (.ireturn, 1) := dk_172 (dk_at dksX3_nearly_4 14 rfl rfl)
abbrev cX3_judge : ByteArray := prog_13_method_71_code
def yX3_judge : MethodName := ⟨RX3, "judge", "(IJ)I"⟩
def dkwX3_judge_4 : List UInt8 := [112, 182, 1, 65, 154, 0, 6, 21, 4, 172, 132, 4, 1, 167, 255, 192, 16, 247, 172]
abbrev dktX3_judge_4 : List UInt8 := dkwX3_judge_4 ++ []
def dkwX3_judge_3 : List UInt8 := [17, 3, 232, 108, 21, 5, 16, 100, 108, 16, 10, 112, 21, 5, 16, 10, 108, 16, 10, 112, 21, 5, 16, 10]
abbrev dktX3_judge_3 : List UInt8 := dkwX3_judge_3 ++ dktX3_judge_4
def dkwX3_judge_2 : List UInt8 := [162, 0, 64, 32, 27, 4, 100, 21, 4, 100, 184, 1, 62, 109, 20, 1, 58, 113, 136, 54, 5, 42, 21, 5]
abbrev dktX3_judge_2 : List UInt8 := dkwX3_judge_2 ++ dktX3_judge_3
def dkwX3_judge_1 : List UInt8 := [154, 0, 6, 16, 254, 172, 42, 180, 0, 25, 42, 180, 0, 28, 184, 0, 178, 3, 54, 4, 21, 4, 27]
abbrev dktX3_judge_1 : List UInt8 := dkwX3_judge_1 ++ dktX3_judge_2
def dkwX3_judge_0 : List UInt8 := [27, 133, 10, 20, 1, 60, 184, 0, 107, 153, 0, 17, 32, 9, 27, 184, 1, 62, 10, 101, 184, 0, 107]
abbrev dktX3_judge_0 : List UInt8 := dkwX3_judge_0 ++ dktX3_judge_1
theorem dksX3_judge_0 : cX3_judge.data.toList.drop 0 = dktX3_judge_0 := by decide +kernel
theorem dksX3_judge_1 : cX3_judge.data.toList.drop 23 = dktX3_judge_1 := dk_seg dksX3_judge_0 23 rfl rfl
theorem dksX3_judge_2 : cX3_judge.data.toList.drop 46 = dktX3_judge_2 := dk_seg dksX3_judge_1 23 rfl rfl
theorem dksX3_judge_3 : cX3_judge.data.toList.drop 70 = dktX3_judge_3 := dk_seg dksX3_judge_2 24 rfl rfl
theorem dksX3_judge_4 : cX3_judge.data.toList.drop 94 = dktX3_judge_4 := dk_seg dksX3_judge_3 24 rfl rfl
theorem dX3_judge_0 : decode cX3_judge 0 = .ok (.iload_n 1, 1) := dk_27 (dk_at dksX3_judge_0 0 rfl rfl)
theorem dX3_judge_1 : decode cX3_judge 1 = .ok (.i2l, 1) := dk_133 (dk_at dksX3_judge_0 1 rfl rfl)
theorem dX3_judge_2 : decode cX3_judge 2 = .ok (.lconst 1, 1) := dk_10 (dk_at dksX3_judge_0 2 rfl rfl)
theorem dX3_judge_3 : decode cX3_judge 3 = .ok (.ldc2_w 316, 3) := dk_20 1 60 (dk_at dksX3_judge_0 3 rfl rfl)
theorem dX3_judge_6 : decode cX3_judge 6 = .ok (.invokestatic 107, 3) := dk_184 0 107 (dk_at dksX3_judge_0 6 rfl rfl)
theorem dX3_judge_9 : decode cX3_judge 9 = .ok (.ifCond .eq 17, 3) := dk_153 0 17 (dk_at dksX3_judge_0 9 rfl rfl)
theorem dX3_judge_12 : decode cX3_judge 12 = .ok (.lload_n 2, 1) := dk_32 (dk_at dksX3_judge_0 12 rfl rfl)
theorem dX3_judge_13 : decode cX3_judge 13 = .ok (.lconst 0, 1) := dk_9 (dk_at dksX3_judge_0 13 rfl rfl)
theorem dX3_judge_14 : decode cX3_judge 14 = .ok (.iload_n 1, 1) := dk_27 (dk_at dksX3_judge_0 14 rfl rfl)
theorem dX3_judge_15 : decode cX3_judge 15 = .ok (.invokestatic 318, 3) := dk_184 1 62 (dk_at dksX3_judge_0 15 rfl rfl)
theorem dX3_judge_18 : decode cX3_judge 18 = .ok (.lconst 1, 1) := dk_10 (dk_at dksX3_judge_0 18 rfl rfl)
theorem dX3_judge_19 : decode cX3_judge 19 = .ok (.lsub, 1) := dk_101 (dk_at dksX3_judge_0 19 rfl rfl)
theorem dX3_judge_20 : decode cX3_judge 20 = .ok (.invokestatic 107, 3) := dk_184 0 107 (dk_at dksX3_judge_0 20 rfl rfl)
theorem dX3_judge_23 : decode cX3_judge 23 = .ok (.ifCond .ne 6, 3) := dk_154 0 6 (dk_at dksX3_judge_1 0 rfl rfl)
theorem dX3_judge_26 : decode cX3_judge 26 = .ok (.bipush (-2), 2) := dk_16 254 (dk_at dksX3_judge_1 3 rfl rfl)
theorem dX3_judge_28 : decode cX3_judge 28 = .ok (.ireturn, 1) := dk_172 (dk_at dksX3_judge_1 5 rfl rfl)
theorem dX3_judge_29 : decode cX3_judge 29 = .ok (.aload_n 0, 1) := dk_42 (dk_at dksX3_judge_1 6 rfl rfl)
theorem dX3_judge_30 : decode cX3_judge 30 = .ok (.getfield 25, 3) := dk_180 0 25 (dk_at dksX3_judge_1 7 rfl rfl)
theorem dX3_judge_33 : decode cX3_judge 33 = .ok (.aload_n 0, 1) := dk_42 (dk_at dksX3_judge_1 10 rfl rfl)
theorem dX3_judge_34 : decode cX3_judge 34 = .ok (.getfield 28, 3) := dk_180 0 28 (dk_at dksX3_judge_1 11 rfl rfl)
theorem dX3_judge_37 : decode cX3_judge 37 = .ok (.invokestatic 178, 3) := dk_184 0 178 (dk_at dksX3_judge_1 14 rfl rfl)
theorem dX3_judge_40 : decode cX3_judge 40 = .ok (.iconst 0, 1) := dk_3 (dk_at dksX3_judge_1 17 rfl rfl)
theorem dX3_judge_41 : decode cX3_judge 41 = .ok (.istore 4, 2) := dk_54 4 (dk_at dksX3_judge_1 18 rfl rfl)
theorem dX3_judge_43 : decode cX3_judge 43 = .ok (.iload 4, 2) := dk_21 4 (dk_at dksX3_judge_1 20 rfl rfl)
theorem dX3_judge_45 : decode cX3_judge 45 = .ok (.iload_n 1, 1) := dk_27 (dk_at dksX3_judge_1 22 rfl rfl)
theorem dX3_judge_46 : decode cX3_judge 46 = .ok (.if_icmp .ge 64, 3) := dk_162 0 64 (dk_at dksX3_judge_2 0 rfl rfl)
theorem dX3_judge_49 : decode cX3_judge 49 = .ok (.lload_n 2, 1) := dk_32 (dk_at dksX3_judge_2 3 rfl rfl)
theorem dX3_judge_50 : decode cX3_judge 50 = .ok (.iload_n 1, 1) := dk_27 (dk_at dksX3_judge_2 4 rfl rfl)
theorem dX3_judge_51 : decode cX3_judge 51 = .ok (.iconst 1, 1) := dk_4 (dk_at dksX3_judge_2 5 rfl rfl)
theorem dX3_judge_52 : decode cX3_judge 52 = .ok (.isub, 1) := dk_100 (dk_at dksX3_judge_2 6 rfl rfl)
theorem dX3_judge_53 : decode cX3_judge 53 = .ok (.iload 4, 2) := dk_21 4 (dk_at dksX3_judge_2 7 rfl rfl)
theorem dX3_judge_55 : decode cX3_judge 55 = .ok (.isub, 1) := dk_100 (dk_at dksX3_judge_2 9 rfl rfl)
theorem dX3_judge_56 : decode cX3_judge 56 = .ok (.invokestatic 318, 3) := dk_184 1 62 (dk_at dksX3_judge_2 10 rfl rfl)
theorem dX3_judge_59 : decode cX3_judge 59 = .ok (.ldiv, 1) := dk_109 (dk_at dksX3_judge_2 13 rfl rfl)
theorem dX3_judge_60 : decode cX3_judge 60 = .ok (.ldc2_w 314, 3) := dk_20 1 58 (dk_at dksX3_judge_2 14 rfl rfl)
theorem dX3_judge_63 : decode cX3_judge 63 = .ok (.lrem, 1) := dk_113 (dk_at dksX3_judge_2 17 rfl rfl)
theorem dX3_judge_64 : decode cX3_judge 64 = .ok (.l2i, 1) := dk_136 (dk_at dksX3_judge_2 18 rfl rfl)
theorem dX3_judge_65 : decode cX3_judge 65 = .ok (.istore 5, 2) := dk_54 5 (dk_at dksX3_judge_2 19 rfl rfl)
theorem dX3_judge_67 : decode cX3_judge 67 = .ok (.aload_n 0, 1) := dk_42 (dk_at dksX3_judge_2 21 rfl rfl)
theorem dX3_judge_68 : decode cX3_judge 68 = .ok (.iload 5, 2) := dk_21 5 (dk_at dksX3_judge_2 22 rfl rfl)
theorem dX3_judge_70 : decode cX3_judge 70 = .ok (.sipush 1000, 3) := dk_17 3 232 (dk_at dksX3_judge_3 0 rfl rfl)
theorem dX3_judge_73 : decode cX3_judge 73 = .ok (.idiv, 1) := dk_108 (dk_at dksX3_judge_3 3 rfl rfl)
theorem dX3_judge_74 : decode cX3_judge 74 = .ok (.iload 5, 2) := dk_21 5 (dk_at dksX3_judge_3 4 rfl rfl)
theorem dX3_judge_76 : decode cX3_judge 76 = .ok (.bipush 100, 2) := dk_16 100 (dk_at dksX3_judge_3 6 rfl rfl)
theorem dX3_judge_78 : decode cX3_judge 78 = .ok (.idiv, 1) := dk_108 (dk_at dksX3_judge_3 8 rfl rfl)
theorem dX3_judge_79 : decode cX3_judge 79 = .ok (.bipush 10, 2) := dk_16 10 (dk_at dksX3_judge_3 9 rfl rfl)
theorem dX3_judge_81 : decode cX3_judge 81 = .ok (.irem, 1) := dk_112 (dk_at dksX3_judge_3 11 rfl rfl)
theorem dX3_judge_82 : decode cX3_judge 82 = .ok (.iload 5, 2) := dk_21 5 (dk_at dksX3_judge_3 12 rfl rfl)
theorem dX3_judge_84 : decode cX3_judge 84 = .ok (.bipush 10, 2) := dk_16 10 (dk_at dksX3_judge_3 14 rfl rfl)
theorem dX3_judge_86 : decode cX3_judge 86 = .ok (.idiv, 1) := dk_108 (dk_at dksX3_judge_3 16 rfl rfl)
theorem dX3_judge_87 : decode cX3_judge 87 = .ok (.bipush 10, 2) := dk_16 10 (dk_at dksX3_judge_3 17 rfl rfl)
theorem dX3_judge_89 : decode cX3_judge 89 = .ok (.irem, 1) := dk_112 (dk_at dksX3_judge_3 19 rfl rfl)
theorem dX3_judge_90 : decode cX3_judge 90 = .ok (.iload 5, 2) := dk_21 5 (dk_at dksX3_judge_3 20 rfl rfl)
theorem dX3_judge_92 : decode cX3_judge 92 = .ok (.bipush 10, 2) := dk_16 10 (dk_at dksX3_judge_3 22 rfl rfl)
theorem dX3_judge_94 : decode cX3_judge 94 = .ok (.irem, 1) := dk_112 (dk_at dksX3_judge_4 0 rfl rfl)
theorem dX3_judge_95 : decode cX3_judge 95 = .ok (.invokevirtual 321, 3) := dk_182 1 65 (dk_at dksX3_judge_4 1 rfl rfl)
theorem dX3_judge_98 : decode cX3_judge 98 = .ok (.ifCond .ne 6, 3) := dk_154 0 6 (dk_at dksX3_judge_4 4 rfl rfl)
theorem dX3_judge_101 : decode cX3_judge 101 = .ok (.iload 4, 2) := dk_21 4 (dk_at dksX3_judge_4 7 rfl rfl)
theorem dX3_judge_103 : decode cX3_judge 103 = .ok (.ireturn, 1) := dk_172 (dk_at dksX3_judge_4 9 rfl rfl)
theorem dX3_judge_104 : decode cX3_judge 104 = .ok (.iinc 4 1, 3) := dk_132 4 1 (dk_at dksX3_judge_4 10 rfl rfl)
theorem dX3_judge_107 : decode cX3_judge 107 = .ok (.goto (-64), 3) := dk_167 255 192 (dk_at dksX3_judge_4 13 rfl rfl)
theorem dX3_judge_110 : decode cX3_judge 110 = .ok (.bipush (-9), 2) := dk_16 247 (dk_at dksX3_judge_4 16 rfl rfl)
theorem dX3_judge_112 : decode cX3_judge 112 = .ok (.ireturn, 1) := dk_172 (dk_at dksX3_judge_4 18 rfl rfl)
abbrev cX3_tenThousands : ByteArray := prog_13_method_70_code
def yX3_tenThousands : MethodName := ⟨RX3, "tenThousands", "(I)J"⟩
def dkwX3_tenThousands_0 : List UInt8 := [10, 64, 3, 62, 29, 26, 162, 0, 15, 31, 20, 1, 58, 105, 64, 132, 3, 1, 167, 255, 242, 31, 173]
abbrev dktX3_tenThousands_0 : List UInt8 := dkwX3_tenThousands_0 ++ []
theorem dksX3_tenThousands_0 : cX3_tenThousands.data.toList.drop 0 = dktX3_tenThousands_0 := by decide +kernel
theorem dX3_tenThousands_0 : decode cX3_tenThousands 0 = .ok (.lconst 1, 1) := dk_10 (dk_at dksX3_tenThousands_0 0 rfl rfl)
theorem dX3_tenThousands_1 : decode cX3_tenThousands 1 = .ok (.lstore_n 1, 1) := dk_64 (dk_at dksX3_tenThousands_0 1 rfl rfl)
theorem dX3_tenThousands_2 : decode cX3_tenThousands 2 = .ok (.iconst 0, 1) := dk_3 (dk_at dksX3_tenThousands_0 2 rfl rfl)
theorem dX3_tenThousands_3 : decode cX3_tenThousands 3 = .ok (.istore_n 3, 1) := dk_62 (dk_at dksX3_tenThousands_0 3 rfl rfl)
theorem dX3_tenThousands_4 : decode cX3_tenThousands 4 = .ok (.iload_n 3, 1) := dk_29 (dk_at dksX3_tenThousands_0 4 rfl rfl)
theorem dX3_tenThousands_5 : decode cX3_tenThousands 5 = .ok (.iload_n 0, 1) := dk_26 (dk_at dksX3_tenThousands_0 5 rfl rfl)
theorem dX3_tenThousands_6 : decode cX3_tenThousands 6 = .ok (.if_icmp .ge 15, 3) := dk_162 0 15 (dk_at dksX3_tenThousands_0 6 rfl rfl)
theorem dX3_tenThousands_9 : decode cX3_tenThousands 9 = .ok (.lload_n 1, 1) := dk_31 (dk_at dksX3_tenThousands_0 9 rfl rfl)
theorem dX3_tenThousands_10 : decode cX3_tenThousands 10 = .ok (.ldc2_w 314, 3) := dk_20 1 58 (dk_at dksX3_tenThousands_0 10 rfl rfl)
theorem dX3_tenThousands_13 : decode cX3_tenThousands 13 = .ok (.lmul, 1) := dk_105 (dk_at dksX3_tenThousands_0 13 rfl rfl)
theorem dX3_tenThousands_14 : decode cX3_tenThousands 14 = .ok (.lstore_n 1, 1) := dk_64 (dk_at dksX3_tenThousands_0 14 rfl rfl)
theorem dX3_tenThousands_15 : decode cX3_tenThousands 15 = .ok (.iinc 3 1, 3) := dk_132 3 1 (dk_at dksX3_tenThousands_0 15 rfl rfl)
theorem dX3_tenThousands_18 : decode cX3_tenThousands 18 = .ok (.goto (-14), 3) := dk_167 255 242 (dk_at dksX3_tenThousands_0 18 rfl rfl)
theorem dX3_tenThousands_21 : decode cX3_tenThousands 21 = .ok (.lload_n 1, 1) := dk_31 (dk_at dksX3_tenThousands_0 21 rfl rfl)
theorem dX3_tenThousands_22 : decode cX3_tenThousands 22 = .ok (.lreturn, 1) := dk_173 (dk_at dksX3_tenThousands_0 22 rfl rfl)
abbrev cX3_judged : ByteArray := prog_13_method_69_code
def yX3_judged : MethodName := ⟨RX3, "judged", "(IIII)Z"⟩
def dkwX3_judged_14 : List UInt8 := [167, 0, 4, 3, 172, 3, 172]
abbrev dktX3_judged_14 : List UInt8 := dkwX3_judged_14 ++ []
def dkwX3_judged_13 : List UInt8 := [21, 5, 16, 247, 159, 0, 23, 42, 21, 5, 182, 1, 34, 16, 10, 29, 104, 21, 4, 96, 160, 0, 7, 4]
abbrev dktX3_judged_13 : List UInt8 := dkwX3_judged_13 ++ dktX3_judged_14
def dkwX3_judged_12 : List UInt8 := [29, 120, 130, 79, 4, 172, 42, 42, 180, 0, 28, 182, 0, 202, 42, 182, 1, 31, 54, 5, 28, 154, 0, 30]
abbrev dktX3_judged_12 : List UInt8 := dkwX3_judged_12 ++ dktX3_judged_13
def dkwX3_judged_11 : List UInt8 := [184, 0, 145, 153, 0, 8, 21, 4, 153, 0, 5, 3, 172, 42, 180, 0, 28, 16, 21, 28, 96, 92, 46, 4]
abbrev dktX3_judged_11 : List UInt8 := dkwX3_judged_11 ++ dktX3_judged_12
def dkwX3_judged_10 : List UInt8 := [4, 167, 0, 4, 3, 160, 0, 7, 4, 167, 0, 4, 3, 172, 28, 184, 0, 145, 153, 0, 15, 29]
abbrev dktX3_judged_10 : List UInt8 := dkwX3_judged_10 ++ dktX3_judged_11
def dkwX3_judged_9 : List UInt8 := [42, 180, 0, 28, 28, 182, 0, 216, 9, 148, 158, 0, 7, 4, 167, 0, 4, 3, 21, 4, 4, 160, 0, 7]
abbrev dktX3_judged_9 : List UInt8 := dkwX3_judged_9 ++ dktX3_judged_10
def dkwX3_judged_8 : List UInt8 := [167, 0, 4, 3, 172, 42, 28, 182, 0, 243, 153, 0, 50, 29, 154, 0, 46, 21, 4, 5, 162, 0, 40, 42]
abbrev dktX3_judged_8 : List UInt8 := dkwX3_judged_8 ++ dktX3_judged_9
def dkwX3_judged_7 : List UInt8 := [154, 0, 27, 42, 42, 180, 0, 28, 182, 1, 16, 16, 10, 29, 104, 21, 4, 96, 133, 148, 154, 0, 7, 4]
abbrev dktX3_judged_7 : List UInt8 := dkwX3_judged_7 ++ dktX3_judged_8
def dkwX3_judged_6 : List UInt8 := [21, 4, 153, 0, 5, 3, 172, 42, 180, 0, 28, 16, 8, 92, 46, 4, 28, 120, 130, 79, 4, 172, 28]
abbrev dktX3_judged_6 : List UInt8 := dkwX3_judged_6 ++ dktX3_judged_7
def dkwX3_judged_5 : List UInt8 := [180, 0, 28, 28, 92, 46, 4, 100, 79, 4, 172, 42, 28, 182, 0, 243, 153, 0, 12, 29, 154, 0, 8]
abbrev dktX3_judged_5 : List UInt8 := dkwX3_judged_5 ++ dktX3_judged_6
def dkwX3_judged_4 : List UInt8 := [153, 0, 21, 29, 154, 0, 17, 21, 4, 154, 0, 12, 42, 180, 0, 28, 28, 46, 154, 0, 5, 3, 172, 42]
abbrev dktX3_judged_4 : List UInt8 := dkwX3_judged_4 ++ dktX3_judged_5
def dkwX3_judged_3 : List UInt8 := [16, 12, 160, 0, 5, 3, 172, 42, 180, 0, 28, 28, 92, 46, 4, 96, 79, 4, 172, 28, 184, 0, 255]
abbrev dktX3_judged_3 : List UInt8 := dkwX3_judged_3 ++ dktX3_judged_4
def dkwX3_judged_2 : List UInt8 := [28, 184, 0, 255, 153, 0, 24, 29, 154, 0, 20, 21, 4, 154, 0, 15, 42, 180, 0, 28, 184, 0, 129]
abbrev dktX3_judged_2 : List UInt8 := dkwX3_judged_2 ++ dktX3_judged_3
def dkwX3_judged_1 : List UInt8 := [170, 0, 0, 0, 0, 1, 74, 0, 0, 0, 1, 0, 0, 0, 7, 0, 0, 0, 43, 0, 0, 0, 85, 0, 0, 0, 124, 0, 0, 0, 158, 0, 0, 0, 188, 0, 0, 0, 245, 0, 0, 1, 27]
abbrev dktX3_judged_1 : List UInt8 := dkwX3_judged_1 ++ dktX3_judged_2
def dkwX3_judged_0 : List UInt8 := [27]
abbrev dktX3_judged_0 : List UInt8 := dkwX3_judged_0 ++ dktX3_judged_1
theorem dksX3_judged_0 : cX3_judged.data.toList.drop 0 = dktX3_judged_0 := by decide +kernel
theorem dksX3_judged_1 : cX3_judged.data.toList.drop 1 = dktX3_judged_1 := dk_seg dksX3_judged_0 1 rfl rfl
theorem dksX3_judged_2 : cX3_judged.data.toList.drop 44 = dktX3_judged_2 := dk_seg dksX3_judged_1 43 rfl rfl
theorem dksX3_judged_3 : cX3_judged.data.toList.drop 67 = dktX3_judged_3 := dk_seg dksX3_judged_2 23 rfl rfl
theorem dksX3_judged_4 : cX3_judged.data.toList.drop 90 = dktX3_judged_4 := dk_seg dksX3_judged_3 23 rfl rfl
theorem dksX3_judged_5 : cX3_judged.data.toList.drop 114 = dktX3_judged_5 := dk_seg dksX3_judged_4 24 rfl rfl
theorem dksX3_judged_6 : cX3_judged.data.toList.drop 137 = dktX3_judged_6 := dk_seg dksX3_judged_5 23 rfl rfl
theorem dksX3_judged_7 : cX3_judged.data.toList.drop 160 = dktX3_judged_7 := dk_seg dksX3_judged_6 23 rfl rfl
theorem dksX3_judged_8 : cX3_judged.data.toList.drop 184 = dktX3_judged_8 := dk_seg dksX3_judged_7 24 rfl rfl
theorem dksX3_judged_9 : cX3_judged.data.toList.drop 208 = dktX3_judged_9 := dk_seg dksX3_judged_8 24 rfl rfl
theorem dksX3_judged_10 : cX3_judged.data.toList.drop 232 = dktX3_judged_10 := dk_seg dksX3_judged_9 24 rfl rfl
theorem dksX3_judged_11 : cX3_judged.data.toList.drop 254 = dktX3_judged_11 := dk_seg dksX3_judged_10 22 rfl rfl
theorem dksX3_judged_12 : cX3_judged.data.toList.drop 278 = dktX3_judged_12 := dk_seg dksX3_judged_11 24 rfl rfl
theorem dksX3_judged_13 : cX3_judged.data.toList.drop 302 = dktX3_judged_13 := dk_seg dksX3_judged_12 24 rfl rfl
theorem dksX3_judged_14 : cX3_judged.data.toList.drop 326 = dktX3_judged_14 := dk_seg dksX3_judged_13 24 rfl rfl
theorem dX3_judged_0 : decode cX3_judged 0 = .ok (.iload_n 1, 1) := dk_27 (dk_at dksX3_judged_0 0 rfl rfl)
theorem dX3_judged_1 : decode cX3_judged 1 = .ok (.tableswitch 330 1 7 #[43, 85, 124, 158, 188, 245, 283], 43) := by decide +kernel
theorem dX3_judged_44 : decode cX3_judged 44 = .ok (.iload_n 2, 1) := dk_28 (dk_at dksX3_judged_2 0 rfl rfl)
theorem dX3_judged_45 : decode cX3_judged 45 = .ok (.invokestatic 255, 3) := dk_184 0 255 (dk_at dksX3_judged_2 1 rfl rfl)
theorem dX3_judged_48 : decode cX3_judged 48 = .ok (.ifCond .eq 24, 3) := dk_153 0 24 (dk_at dksX3_judged_2 4 rfl rfl)
theorem dX3_judged_51 : decode cX3_judged 51 = .ok (.iload_n 3, 1) := dk_29 (dk_at dksX3_judged_2 7 rfl rfl)
theorem dX3_judged_52 : decode cX3_judged 52 = .ok (.ifCond .ne 20, 3) := dk_154 0 20 (dk_at dksX3_judged_2 8 rfl rfl)
theorem dX3_judged_55 : decode cX3_judged 55 = .ok (.iload 4, 2) := dk_21 4 (dk_at dksX3_judged_2 11 rfl rfl)
theorem dX3_judged_57 : decode cX3_judged 57 = .ok (.ifCond .ne 15, 3) := dk_154 0 15 (dk_at dksX3_judged_2 13 rfl rfl)
theorem dX3_judged_60 : decode cX3_judged 60 = .ok (.aload_n 0, 1) := dk_42 (dk_at dksX3_judged_2 16 rfl rfl)
theorem dX3_judged_61 : decode cX3_judged 61 = .ok (.getfield 28, 3) := dk_180 0 28 (dk_at dksX3_judged_2 17 rfl rfl)
theorem dX3_judged_64 : decode cX3_judged 64 = .ok (.invokestatic 129, 3) := dk_184 0 129 (dk_at dksX3_judged_2 20 rfl rfl)
theorem dX3_judged_67 : decode cX3_judged 67 = .ok (.bipush 12, 2) := dk_16 12 (dk_at dksX3_judged_3 0 rfl rfl)
theorem dX3_judged_69 : decode cX3_judged 69 = .ok (.if_icmp .ne 5, 3) := dk_160 0 5 (dk_at dksX3_judged_3 2 rfl rfl)
theorem dX3_judged_72 : decode cX3_judged 72 = .ok (.iconst 0, 1) := dk_3 (dk_at dksX3_judged_3 5 rfl rfl)
theorem dX3_judged_73 : decode cX3_judged 73 = .ok (.ireturn, 1) := dk_172 (dk_at dksX3_judged_3 6 rfl rfl)
theorem dX3_judged_74 : decode cX3_judged 74 = .ok (.aload_n 0, 1) := dk_42 (dk_at dksX3_judged_3 7 rfl rfl)
theorem dX3_judged_75 : decode cX3_judged 75 = .ok (.getfield 28, 3) := dk_180 0 28 (dk_at dksX3_judged_3 8 rfl rfl)
theorem dX3_judged_78 : decode cX3_judged 78 = .ok (.iload_n 2, 1) := dk_28 (dk_at dksX3_judged_3 11 rfl rfl)
theorem dX3_judged_79 : decode cX3_judged 79 = .ok (.dup2, 1) := dk_92 (dk_at dksX3_judged_3 12 rfl rfl)
theorem dX3_judged_80 : decode cX3_judged 80 = .ok (.iaload, 1) := dk_46 (dk_at dksX3_judged_3 13 rfl rfl)
theorem dX3_judged_81 : decode cX3_judged 81 = .ok (.iconst 1, 1) := dk_4 (dk_at dksX3_judged_3 14 rfl rfl)
theorem dX3_judged_82 : decode cX3_judged 82 = .ok (.iadd, 1) := dk_96 (dk_at dksX3_judged_3 15 rfl rfl)
theorem dX3_judged_83 : decode cX3_judged 83 = .ok (.iastore, 1) := dk_79 (dk_at dksX3_judged_3 16 rfl rfl)
theorem dX3_judged_84 : decode cX3_judged 84 = .ok (.iconst 1, 1) := dk_4 (dk_at dksX3_judged_3 17 rfl rfl)
theorem dX3_judged_85 : decode cX3_judged 85 = .ok (.ireturn, 1) := dk_172 (dk_at dksX3_judged_3 18 rfl rfl)
theorem dX3_judged_86 : decode cX3_judged 86 = .ok (.iload_n 2, 1) := dk_28 (dk_at dksX3_judged_3 19 rfl rfl)
theorem dX3_judged_87 : decode cX3_judged 87 = .ok (.invokestatic 255, 3) := dk_184 0 255 (dk_at dksX3_judged_3 20 rfl rfl)
theorem dX3_judged_90 : decode cX3_judged 90 = .ok (.ifCond .eq 21, 3) := dk_153 0 21 (dk_at dksX3_judged_4 0 rfl rfl)
theorem dX3_judged_93 : decode cX3_judged 93 = .ok (.iload_n 3, 1) := dk_29 (dk_at dksX3_judged_4 3 rfl rfl)
theorem dX3_judged_94 : decode cX3_judged 94 = .ok (.ifCond .ne 17, 3) := dk_154 0 17 (dk_at dksX3_judged_4 4 rfl rfl)
theorem dX3_judged_97 : decode cX3_judged 97 = .ok (.iload 4, 2) := dk_21 4 (dk_at dksX3_judged_4 7 rfl rfl)
theorem dX3_judged_99 : decode cX3_judged 99 = .ok (.ifCond .ne 12, 3) := dk_154 0 12 (dk_at dksX3_judged_4 9 rfl rfl)
theorem dX3_judged_102 : decode cX3_judged 102 = .ok (.aload_n 0, 1) := dk_42 (dk_at dksX3_judged_4 12 rfl rfl)
theorem dX3_judged_103 : decode cX3_judged 103 = .ok (.getfield 28, 3) := dk_180 0 28 (dk_at dksX3_judged_4 13 rfl rfl)
theorem dX3_judged_106 : decode cX3_judged 106 = .ok (.iload_n 2, 1) := dk_28 (dk_at dksX3_judged_4 16 rfl rfl)
theorem dX3_judged_107 : decode cX3_judged 107 = .ok (.iaload, 1) := dk_46 (dk_at dksX3_judged_4 17 rfl rfl)
theorem dX3_judged_108 : decode cX3_judged 108 = .ok (.ifCond .ne 5, 3) := dk_154 0 5 (dk_at dksX3_judged_4 18 rfl rfl)
theorem dX3_judged_111 : decode cX3_judged 111 = .ok (.iconst 0, 1) := dk_3 (dk_at dksX3_judged_4 21 rfl rfl)
theorem dX3_judged_112 : decode cX3_judged 112 = .ok (.ireturn, 1) := dk_172 (dk_at dksX3_judged_4 22 rfl rfl)
theorem dX3_judged_113 : decode cX3_judged 113 = .ok (.aload_n 0, 1) := dk_42 (dk_at dksX3_judged_4 23 rfl rfl)
theorem dX3_judged_114 : decode cX3_judged 114 = .ok (.getfield 28, 3) := dk_180 0 28 (dk_at dksX3_judged_5 0 rfl rfl)
theorem dX3_judged_117 : decode cX3_judged 117 = .ok (.iload_n 2, 1) := dk_28 (dk_at dksX3_judged_5 3 rfl rfl)
theorem dX3_judged_118 : decode cX3_judged 118 = .ok (.dup2, 1) := dk_92 (dk_at dksX3_judged_5 4 rfl rfl)
theorem dX3_judged_119 : decode cX3_judged 119 = .ok (.iaload, 1) := dk_46 (dk_at dksX3_judged_5 5 rfl rfl)
theorem dX3_judged_120 : decode cX3_judged 120 = .ok (.iconst 1, 1) := dk_4 (dk_at dksX3_judged_5 6 rfl rfl)
theorem dX3_judged_121 : decode cX3_judged 121 = .ok (.isub, 1) := dk_100 (dk_at dksX3_judged_5 7 rfl rfl)
theorem dX3_judged_122 : decode cX3_judged 122 = .ok (.iastore, 1) := dk_79 (dk_at dksX3_judged_5 8 rfl rfl)
theorem dX3_judged_123 : decode cX3_judged 123 = .ok (.iconst 1, 1) := dk_4 (dk_at dksX3_judged_5 9 rfl rfl)
theorem dX3_judged_124 : decode cX3_judged 124 = .ok (.ireturn, 1) := dk_172 (dk_at dksX3_judged_5 10 rfl rfl)
theorem dX3_judged_125 : decode cX3_judged 125 = .ok (.aload_n 0, 1) := dk_42 (dk_at dksX3_judged_5 11 rfl rfl)
theorem dX3_judged_126 : decode cX3_judged 126 = .ok (.iload_n 2, 1) := dk_28 (dk_at dksX3_judged_5 12 rfl rfl)
theorem dX3_judged_127 : decode cX3_judged 127 = .ok (.invokevirtual 243, 3) := dk_182 0 243 (dk_at dksX3_judged_5 13 rfl rfl)
theorem dX3_judged_130 : decode cX3_judged 130 = .ok (.ifCond .eq 12, 3) := dk_153 0 12 (dk_at dksX3_judged_5 16 rfl rfl)
theorem dX3_judged_133 : decode cX3_judged 133 = .ok (.iload_n 3, 1) := dk_29 (dk_at dksX3_judged_5 19 rfl rfl)
theorem dX3_judged_134 : decode cX3_judged 134 = .ok (.ifCond .ne 8, 3) := dk_154 0 8 (dk_at dksX3_judged_5 20 rfl rfl)
theorem dX3_judged_137 : decode cX3_judged 137 = .ok (.iload 4, 2) := dk_21 4 (dk_at dksX3_judged_6 0 rfl rfl)
theorem dX3_judged_139 : decode cX3_judged 139 = .ok (.ifCond .eq 5, 3) := dk_153 0 5 (dk_at dksX3_judged_6 2 rfl rfl)
theorem dX3_judged_142 : decode cX3_judged 142 = .ok (.iconst 0, 1) := dk_3 (dk_at dksX3_judged_6 5 rfl rfl)
theorem dX3_judged_143 : decode cX3_judged 143 = .ok (.ireturn, 1) := dk_172 (dk_at dksX3_judged_6 6 rfl rfl)
theorem dX3_judged_144 : decode cX3_judged 144 = .ok (.aload_n 0, 1) := dk_42 (dk_at dksX3_judged_6 7 rfl rfl)
theorem dX3_judged_145 : decode cX3_judged 145 = .ok (.getfield 28, 3) := dk_180 0 28 (dk_at dksX3_judged_6 8 rfl rfl)
theorem dX3_judged_148 : decode cX3_judged 148 = .ok (.bipush 8, 2) := dk_16 8 (dk_at dksX3_judged_6 11 rfl rfl)
theorem dX3_judged_150 : decode cX3_judged 150 = .ok (.dup2, 1) := dk_92 (dk_at dksX3_judged_6 13 rfl rfl)
theorem dX3_judged_151 : decode cX3_judged 151 = .ok (.iaload, 1) := dk_46 (dk_at dksX3_judged_6 14 rfl rfl)
theorem dX3_judged_152 : decode cX3_judged 152 = .ok (.iconst 1, 1) := dk_4 (dk_at dksX3_judged_6 15 rfl rfl)
theorem dX3_judged_153 : decode cX3_judged 153 = .ok (.iload_n 2, 1) := dk_28 (dk_at dksX3_judged_6 16 rfl rfl)
theorem dX3_judged_154 : decode cX3_judged 154 = .ok (.ishl, 1) := dk_120 (dk_at dksX3_judged_6 17 rfl rfl)
theorem dX3_judged_155 : decode cX3_judged 155 = .ok (.ixor, 1) := dk_130 (dk_at dksX3_judged_6 18 rfl rfl)
theorem dX3_judged_156 : decode cX3_judged 156 = .ok (.iastore, 1) := dk_79 (dk_at dksX3_judged_6 19 rfl rfl)
theorem dX3_judged_157 : decode cX3_judged 157 = .ok (.iconst 1, 1) := dk_4 (dk_at dksX3_judged_6 20 rfl rfl)
theorem dX3_judged_158 : decode cX3_judged 158 = .ok (.ireturn, 1) := dk_172 (dk_at dksX3_judged_6 21 rfl rfl)
theorem dX3_judged_159 : decode cX3_judged 159 = .ok (.iload_n 2, 1) := dk_28 (dk_at dksX3_judged_6 22 rfl rfl)
theorem dX3_judged_160 : decode cX3_judged 160 = .ok (.ifCond .ne 27, 3) := dk_154 0 27 (dk_at dksX3_judged_7 0 rfl rfl)
theorem dX3_judged_163 : decode cX3_judged 163 = .ok (.aload_n 0, 1) := dk_42 (dk_at dksX3_judged_7 3 rfl rfl)
theorem dX3_judged_164 : decode cX3_judged 164 = .ok (.aload_n 0, 1) := dk_42 (dk_at dksX3_judged_7 4 rfl rfl)
theorem dX3_judged_165 : decode cX3_judged 165 = .ok (.getfield 28, 3) := dk_180 0 28 (dk_at dksX3_judged_7 5 rfl rfl)
theorem dX3_judged_168 : decode cX3_judged 168 = .ok (.invokevirtual 272, 3) := dk_182 1 16 (dk_at dksX3_judged_7 8 rfl rfl)
theorem dX3_judged_171 : decode cX3_judged 171 = .ok (.bipush 10, 2) := dk_16 10 (dk_at dksX3_judged_7 11 rfl rfl)
theorem dX3_judged_173 : decode cX3_judged 173 = .ok (.iload_n 3, 1) := dk_29 (dk_at dksX3_judged_7 13 rfl rfl)
theorem dX3_judged_174 : decode cX3_judged 174 = .ok (.imul, 1) := dk_104 (dk_at dksX3_judged_7 14 rfl rfl)
theorem dX3_judged_175 : decode cX3_judged 175 = .ok (.iload 4, 2) := dk_21 4 (dk_at dksX3_judged_7 15 rfl rfl)
theorem dX3_judged_177 : decode cX3_judged 177 = .ok (.iadd, 1) := dk_96 (dk_at dksX3_judged_7 17 rfl rfl)
theorem dX3_judged_178 : decode cX3_judged 178 = .ok (.i2l, 1) := dk_133 (dk_at dksX3_judged_7 18 rfl rfl)
theorem dX3_judged_179 : decode cX3_judged 179 = .ok (.lcmp, 1) := dk_148 (dk_at dksX3_judged_7 19 rfl rfl)
theorem dX3_judged_180 : decode cX3_judged 180 = .ok (.ifCond .ne 7, 3) := dk_154 0 7 (dk_at dksX3_judged_7 20 rfl rfl)
theorem dX3_judged_183 : decode cX3_judged 183 = .ok (.iconst 1, 1) := dk_4 (dk_at dksX3_judged_7 23 rfl rfl)
theorem dX3_judged_184 : decode cX3_judged 184 = .ok (.goto 4, 3) := dk_167 0 4 (dk_at dksX3_judged_8 0 rfl rfl)
theorem dX3_judged_187 : decode cX3_judged 187 = .ok (.iconst 0, 1) := dk_3 (dk_at dksX3_judged_8 3 rfl rfl)
theorem dX3_judged_188 : decode cX3_judged 188 = .ok (.ireturn, 1) := dk_172 (dk_at dksX3_judged_8 4 rfl rfl)
theorem dX3_judged_189 : decode cX3_judged 189 = .ok (.aload_n 0, 1) := dk_42 (dk_at dksX3_judged_8 5 rfl rfl)
theorem dX3_judged_190 : decode cX3_judged 190 = .ok (.iload_n 2, 1) := dk_28 (dk_at dksX3_judged_8 6 rfl rfl)
theorem dX3_judged_191 : decode cX3_judged 191 = .ok (.invokevirtual 243, 3) := dk_182 0 243 (dk_at dksX3_judged_8 7 rfl rfl)
theorem dX3_judged_194 : decode cX3_judged 194 = .ok (.ifCond .eq 50, 3) := dk_153 0 50 (dk_at dksX3_judged_8 10 rfl rfl)
theorem dX3_judged_197 : decode cX3_judged 197 = .ok (.iload_n 3, 1) := dk_29 (dk_at dksX3_judged_8 13 rfl rfl)
theorem dX3_judged_198 : decode cX3_judged 198 = .ok (.ifCond .ne 46, 3) := dk_154 0 46 (dk_at dksX3_judged_8 14 rfl rfl)
theorem dX3_judged_201 : decode cX3_judged 201 = .ok (.iload 4, 2) := dk_21 4 (dk_at dksX3_judged_8 17 rfl rfl)
theorem dX3_judged_203 : decode cX3_judged 203 = .ok (.iconst 2, 1) := dk_5 (dk_at dksX3_judged_8 19 rfl rfl)
theorem dX3_judged_204 : decode cX3_judged 204 = .ok (.if_icmp .ge 40, 3) := dk_162 0 40 (dk_at dksX3_judged_8 20 rfl rfl)
theorem dX3_judged_207 : decode cX3_judged 207 = .ok (.aload_n 0, 1) := dk_42 (dk_at dksX3_judged_8 23 rfl rfl)
theorem dX3_judged_208 : decode cX3_judged 208 = .ok (.aload_n 0, 1) := dk_42 (dk_at dksX3_judged_9 0 rfl rfl)
theorem dX3_judged_209 : decode cX3_judged 209 = .ok (.getfield 28, 3) := dk_180 0 28 (dk_at dksX3_judged_9 1 rfl rfl)
theorem dX3_judged_212 : decode cX3_judged 212 = .ok (.iload_n 2, 1) := dk_28 (dk_at dksX3_judged_9 4 rfl rfl)
theorem dX3_judged_213 : decode cX3_judged 213 = .ok (.invokevirtual 216, 3) := dk_182 0 216 (dk_at dksX3_judged_9 5 rfl rfl)
theorem dX3_judged_216 : decode cX3_judged 216 = .ok (.lconst 0, 1) := dk_9 (dk_at dksX3_judged_9 8 rfl rfl)
theorem dX3_judged_217 : decode cX3_judged 217 = .ok (.lcmp, 1) := dk_148 (dk_at dksX3_judged_9 9 rfl rfl)
theorem dX3_judged_218 : decode cX3_judged 218 = .ok (.ifCond .le 7, 3) := dk_158 0 7 (dk_at dksX3_judged_9 10 rfl rfl)
theorem dX3_judged_221 : decode cX3_judged 221 = .ok (.iconst 1, 1) := dk_4 (dk_at dksX3_judged_9 13 rfl rfl)
theorem dX3_judged_222 : decode cX3_judged 222 = .ok (.goto 4, 3) := dk_167 0 4 (dk_at dksX3_judged_9 14 rfl rfl)
theorem dX3_judged_225 : decode cX3_judged 225 = .ok (.iconst 0, 1) := dk_3 (dk_at dksX3_judged_9 17 rfl rfl)
theorem dX3_judged_226 : decode cX3_judged 226 = .ok (.iload 4, 2) := dk_21 4 (dk_at dksX3_judged_9 18 rfl rfl)
theorem dX3_judged_228 : decode cX3_judged 228 = .ok (.iconst 1, 1) := dk_4 (dk_at dksX3_judged_9 20 rfl rfl)
theorem dX3_judged_229 : decode cX3_judged 229 = .ok (.if_icmp .ne 7, 3) := dk_160 0 7 (dk_at dksX3_judged_9 21 rfl rfl)
theorem dX3_judged_232 : decode cX3_judged 232 = .ok (.iconst 1, 1) := dk_4 (dk_at dksX3_judged_10 0 rfl rfl)
theorem dX3_judged_233 : decode cX3_judged 233 = .ok (.goto 4, 3) := dk_167 0 4 (dk_at dksX3_judged_10 1 rfl rfl)
theorem dX3_judged_236 : decode cX3_judged 236 = .ok (.iconst 0, 1) := dk_3 (dk_at dksX3_judged_10 4 rfl rfl)
theorem dX3_judged_237 : decode cX3_judged 237 = .ok (.if_icmp .ne 7, 3) := dk_160 0 7 (dk_at dksX3_judged_10 5 rfl rfl)
theorem dX3_judged_240 : decode cX3_judged 240 = .ok (.iconst 1, 1) := dk_4 (dk_at dksX3_judged_10 8 rfl rfl)
theorem dX3_judged_241 : decode cX3_judged 241 = .ok (.goto 4, 3) := dk_167 0 4 (dk_at dksX3_judged_10 9 rfl rfl)
theorem dX3_judged_244 : decode cX3_judged 244 = .ok (.iconst 0, 1) := dk_3 (dk_at dksX3_judged_10 12 rfl rfl)
theorem dX3_judged_245 : decode cX3_judged 245 = .ok (.ireturn, 1) := dk_172 (dk_at dksX3_judged_10 13 rfl rfl)
theorem dX3_judged_246 : decode cX3_judged 246 = .ok (.iload_n 2, 1) := dk_28 (dk_at dksX3_judged_10 14 rfl rfl)
theorem dX3_judged_247 : decode cX3_judged 247 = .ok (.invokestatic 145, 3) := dk_184 0 145 (dk_at dksX3_judged_10 15 rfl rfl)
theorem dX3_judged_250 : decode cX3_judged 250 = .ok (.ifCond .eq 15, 3) := dk_153 0 15 (dk_at dksX3_judged_10 18 rfl rfl)
theorem dX3_judged_253 : decode cX3_judged 253 = .ok (.iload_n 3, 1) := dk_29 (dk_at dksX3_judged_10 21 rfl rfl)
theorem dX3_judged_254 : decode cX3_judged 254 = .ok (.invokestatic 145, 3) := dk_184 0 145 (dk_at dksX3_judged_11 0 rfl rfl)
theorem dX3_judged_257 : decode cX3_judged 257 = .ok (.ifCond .eq 8, 3) := dk_153 0 8 (dk_at dksX3_judged_11 3 rfl rfl)
theorem dX3_judged_260 : decode cX3_judged 260 = .ok (.iload 4, 2) := dk_21 4 (dk_at dksX3_judged_11 6 rfl rfl)
theorem dX3_judged_262 : decode cX3_judged 262 = .ok (.ifCond .eq 5, 3) := dk_153 0 5 (dk_at dksX3_judged_11 8 rfl rfl)
theorem dX3_judged_265 : decode cX3_judged 265 = .ok (.iconst 0, 1) := dk_3 (dk_at dksX3_judged_11 11 rfl rfl)
theorem dX3_judged_266 : decode cX3_judged 266 = .ok (.ireturn, 1) := dk_172 (dk_at dksX3_judged_11 12 rfl rfl)
theorem dX3_judged_267 : decode cX3_judged 267 = .ok (.aload_n 0, 1) := dk_42 (dk_at dksX3_judged_11 13 rfl rfl)
theorem dX3_judged_268 : decode cX3_judged 268 = .ok (.getfield 28, 3) := dk_180 0 28 (dk_at dksX3_judged_11 14 rfl rfl)
theorem dX3_judged_271 : decode cX3_judged 271 = .ok (.bipush 21, 2) := dk_16 21 (dk_at dksX3_judged_11 17 rfl rfl)
theorem dX3_judged_273 : decode cX3_judged 273 = .ok (.iload_n 2, 1) := dk_28 (dk_at dksX3_judged_11 19 rfl rfl)
theorem dX3_judged_274 : decode cX3_judged 274 = .ok (.iadd, 1) := dk_96 (dk_at dksX3_judged_11 20 rfl rfl)
theorem dX3_judged_275 : decode cX3_judged 275 = .ok (.dup2, 1) := dk_92 (dk_at dksX3_judged_11 21 rfl rfl)
theorem dX3_judged_276 : decode cX3_judged 276 = .ok (.iaload, 1) := dk_46 (dk_at dksX3_judged_11 22 rfl rfl)
theorem dX3_judged_277 : decode cX3_judged 277 = .ok (.iconst 1, 1) := dk_4 (dk_at dksX3_judged_11 23 rfl rfl)
theorem dX3_judged_278 : decode cX3_judged 278 = .ok (.iload_n 3, 1) := dk_29 (dk_at dksX3_judged_12 0 rfl rfl)
theorem dX3_judged_279 : decode cX3_judged 279 = .ok (.ishl, 1) := dk_120 (dk_at dksX3_judged_12 1 rfl rfl)
theorem dX3_judged_280 : decode cX3_judged 280 = .ok (.ixor, 1) := dk_130 (dk_at dksX3_judged_12 2 rfl rfl)
theorem dX3_judged_281 : decode cX3_judged 281 = .ok (.iastore, 1) := dk_79 (dk_at dksX3_judged_12 3 rfl rfl)
theorem dX3_judged_282 : decode cX3_judged 282 = .ok (.iconst 1, 1) := dk_4 (dk_at dksX3_judged_12 4 rfl rfl)
theorem dX3_judged_283 : decode cX3_judged 283 = .ok (.ireturn, 1) := dk_172 (dk_at dksX3_judged_12 5 rfl rfl)
theorem dX3_judged_284 : decode cX3_judged 284 = .ok (.aload_n 0, 1) := dk_42 (dk_at dksX3_judged_12 6 rfl rfl)
theorem dX3_judged_285 : decode cX3_judged 285 = .ok (.aload_n 0, 1) := dk_42 (dk_at dksX3_judged_12 7 rfl rfl)
theorem dX3_judged_286 : decode cX3_judged 286 = .ok (.getfield 28, 3) := dk_180 0 28 (dk_at dksX3_judged_12 8 rfl rfl)
theorem dX3_judged_289 : decode cX3_judged 289 = .ok (.invokevirtual 202, 3) := dk_182 0 202 (dk_at dksX3_judged_12 11 rfl rfl)
theorem dX3_judged_292 : decode cX3_judged 292 = .ok (.aload_n 0, 1) := dk_42 (dk_at dksX3_judged_12 14 rfl rfl)
theorem dX3_judged_293 : decode cX3_judged 293 = .ok (.invokevirtual 287, 3) := dk_182 1 31 (dk_at dksX3_judged_12 15 rfl rfl)
theorem dX3_judged_296 : decode cX3_judged 296 = .ok (.istore 5, 2) := dk_54 5 (dk_at dksX3_judged_12 18 rfl rfl)
theorem dX3_judged_298 : decode cX3_judged 298 = .ok (.iload_n 2, 1) := dk_28 (dk_at dksX3_judged_12 20 rfl rfl)
theorem dX3_judged_299 : decode cX3_judged 299 = .ok (.ifCond .ne 30, 3) := dk_154 0 30 (dk_at dksX3_judged_12 21 rfl rfl)
theorem dX3_judged_302 : decode cX3_judged 302 = .ok (.iload 5, 2) := dk_21 5 (dk_at dksX3_judged_13 0 rfl rfl)
theorem dX3_judged_304 : decode cX3_judged 304 = .ok (.bipush (-9), 2) := dk_16 247 (dk_at dksX3_judged_13 2 rfl rfl)
theorem dX3_judged_306 : decode cX3_judged 306 = .ok (.if_icmp .eq 23, 3) := dk_159 0 23 (dk_at dksX3_judged_13 4 rfl rfl)
theorem dX3_judged_309 : decode cX3_judged 309 = .ok (.aload_n 0, 1) := dk_42 (dk_at dksX3_judged_13 7 rfl rfl)
theorem dX3_judged_310 : decode cX3_judged 310 = .ok (.iload 5, 2) := dk_21 5 (dk_at dksX3_judged_13 8 rfl rfl)
theorem dX3_judged_312 : decode cX3_judged 312 = .ok (.invokevirtual 290, 3) := dk_182 1 34 (dk_at dksX3_judged_13 10 rfl rfl)
theorem dX3_judged_315 : decode cX3_judged 315 = .ok (.bipush 10, 2) := dk_16 10 (dk_at dksX3_judged_13 13 rfl rfl)
theorem dX3_judged_317 : decode cX3_judged 317 = .ok (.iload_n 3, 1) := dk_29 (dk_at dksX3_judged_13 15 rfl rfl)
theorem dX3_judged_318 : decode cX3_judged 318 = .ok (.imul, 1) := dk_104 (dk_at dksX3_judged_13 16 rfl rfl)
theorem dX3_judged_319 : decode cX3_judged 319 = .ok (.iload 4, 2) := dk_21 4 (dk_at dksX3_judged_13 17 rfl rfl)
theorem dX3_judged_321 : decode cX3_judged 321 = .ok (.iadd, 1) := dk_96 (dk_at dksX3_judged_13 19 rfl rfl)
theorem dX3_judged_322 : decode cX3_judged 322 = .ok (.if_icmp .ne 7, 3) := dk_160 0 7 (dk_at dksX3_judged_13 20 rfl rfl)
theorem dX3_judged_325 : decode cX3_judged 325 = .ok (.iconst 1, 1) := dk_4 (dk_at dksX3_judged_13 23 rfl rfl)
theorem dX3_judged_326 : decode cX3_judged 326 = .ok (.goto 4, 3) := dk_167 0 4 (dk_at dksX3_judged_14 0 rfl rfl)
theorem dX3_judged_329 : decode cX3_judged 329 = .ok (.iconst 0, 1) := dk_3 (dk_at dksX3_judged_14 3 rfl rfl)
theorem dX3_judged_330 : decode cX3_judged 330 = .ok (.ireturn, 1) := dk_172 (dk_at dksX3_judged_14 4 rfl rfl)
theorem dX3_judged_331 : decode cX3_judged 331 = .ok (.iconst 0, 1) := dk_3 (dk_at dksX3_judged_14 5 rfl rfl)
theorem dX3_judged_332 : decode cX3_judged 332 = .ok (.ireturn, 1) := dk_172 (dk_at dksX3_judged_14 6 rfl rfl)
abbrev cX3_see : ByteArray := prog_13_method_72_code
def yX3_see : MethodName := ⟨RX3, "see", "(III)I"⟩
def dkwX3_see_3 : List UInt8 := [180, 0, 50, 42, 180, 0, 237, 29, 79, 42, 89, 180, 0, 237, 4, 96, 181, 0, 237, 42, 180, 0, 237, 172]
abbrev dktX3_see_3 : List UInt8 := dkwX3_see_3 ++ []
def dkwX3_see_2 : List UInt8 := [172, 42, 180, 0, 44, 42, 180, 0, 237, 27, 79, 42, 180, 0, 47, 42, 180, 0, 237, 28, 79, 42]
abbrev dktX3_see_2 : List UInt8 := dkwX3_see_2 ++ dktX3_see_3
def dkwX3_see_1 : List UInt8 := [29, 133, 9, 10, 184, 0, 107, 154, 0, 6, 16, 254, 172, 42, 180, 0, 237, 16, 6, 160, 0, 6, 16, 252]
abbrev dktX3_see_1 : List UInt8 := dkwX3_see_1 ++ dktX3_see_2
def dkwX3_see_0 : List UInt8 := [27, 133, 9, 20, 0, 113, 184, 0, 107, 153, 0, 25, 28, 133, 9, 20, 1, 12, 184, 0, 107, 153, 0, 13]
abbrev dktX3_see_0 : List UInt8 := dkwX3_see_0 ++ dktX3_see_1
theorem dksX3_see_0 : cX3_see.data.toList.drop 0 = dktX3_see_0 := by decide +kernel
theorem dksX3_see_1 : cX3_see.data.toList.drop 24 = dktX3_see_1 := dk_seg dksX3_see_0 24 rfl rfl
theorem dksX3_see_2 : cX3_see.data.toList.drop 48 = dktX3_see_2 := dk_seg dksX3_see_1 24 rfl rfl
theorem dksX3_see_3 : cX3_see.data.toList.drop 70 = dktX3_see_3 := dk_seg dksX3_see_2 22 rfl rfl
theorem dX3_see_0 : decode cX3_see 0 = .ok (.iload_n 1, 1) := dk_27 (dk_at dksX3_see_0 0 rfl rfl)
theorem dX3_see_1 : decode cX3_see 1 = .ok (.i2l, 1) := dk_133 (dk_at dksX3_see_0 1 rfl rfl)
theorem dX3_see_2 : decode cX3_see 2 = .ok (.lconst 0, 1) := dk_9 (dk_at dksX3_see_0 2 rfl rfl)
theorem dX3_see_3 : decode cX3_see 3 = .ok (.ldc2_w 113, 3) := dk_20 0 113 (dk_at dksX3_see_0 3 rfl rfl)
theorem dX3_see_6 : decode cX3_see 6 = .ok (.invokestatic 107, 3) := dk_184 0 107 (dk_at dksX3_see_0 6 rfl rfl)
theorem dX3_see_9 : decode cX3_see 9 = .ok (.ifCond .eq 25, 3) := dk_153 0 25 (dk_at dksX3_see_0 9 rfl rfl)
theorem dX3_see_12 : decode cX3_see 12 = .ok (.iload_n 2, 1) := dk_28 (dk_at dksX3_see_0 12 rfl rfl)
theorem dX3_see_13 : decode cX3_see 13 = .ok (.i2l, 1) := dk_133 (dk_at dksX3_see_0 13 rfl rfl)
theorem dX3_see_14 : decode cX3_see 14 = .ok (.lconst 0, 1) := dk_9 (dk_at dksX3_see_0 14 rfl rfl)
theorem dX3_see_15 : decode cX3_see 15 = .ok (.ldc2_w 268, 3) := dk_20 1 12 (dk_at dksX3_see_0 15 rfl rfl)
theorem dX3_see_18 : decode cX3_see 18 = .ok (.invokestatic 107, 3) := dk_184 0 107 (dk_at dksX3_see_0 18 rfl rfl)
theorem dX3_see_21 : decode cX3_see 21 = .ok (.ifCond .eq 13, 3) := dk_153 0 13 (dk_at dksX3_see_0 21 rfl rfl)
theorem dX3_see_24 : decode cX3_see 24 = .ok (.iload_n 3, 1) := dk_29 (dk_at dksX3_see_1 0 rfl rfl)
theorem dX3_see_25 : decode cX3_see 25 = .ok (.i2l, 1) := dk_133 (dk_at dksX3_see_1 1 rfl rfl)
theorem dX3_see_26 : decode cX3_see 26 = .ok (.lconst 0, 1) := dk_9 (dk_at dksX3_see_1 2 rfl rfl)
theorem dX3_see_27 : decode cX3_see 27 = .ok (.lconst 1, 1) := dk_10 (dk_at dksX3_see_1 3 rfl rfl)
theorem dX3_see_28 : decode cX3_see 28 = .ok (.invokestatic 107, 3) := dk_184 0 107 (dk_at dksX3_see_1 4 rfl rfl)
theorem dX3_see_31 : decode cX3_see 31 = .ok (.ifCond .ne 6, 3) := dk_154 0 6 (dk_at dksX3_see_1 7 rfl rfl)
theorem dX3_see_34 : decode cX3_see 34 = .ok (.bipush (-2), 2) := dk_16 254 (dk_at dksX3_see_1 10 rfl rfl)
theorem dX3_see_36 : decode cX3_see 36 = .ok (.ireturn, 1) := dk_172 (dk_at dksX3_see_1 12 rfl rfl)
theorem dX3_see_37 : decode cX3_see 37 = .ok (.aload_n 0, 1) := dk_42 (dk_at dksX3_see_1 13 rfl rfl)
theorem dX3_see_38 : decode cX3_see 38 = .ok (.getfield 237, 3) := dk_180 0 237 (dk_at dksX3_see_1 14 rfl rfl)
theorem dX3_see_41 : decode cX3_see 41 = .ok (.bipush 6, 2) := dk_16 6 (dk_at dksX3_see_1 17 rfl rfl)
theorem dX3_see_43 : decode cX3_see 43 = .ok (.if_icmp .ne 6, 3) := dk_160 0 6 (dk_at dksX3_see_1 19 rfl rfl)
theorem dX3_see_46 : decode cX3_see 46 = .ok (.bipush (-4), 2) := dk_16 252 (dk_at dksX3_see_1 22 rfl rfl)
theorem dX3_see_48 : decode cX3_see 48 = .ok (.ireturn, 1) := dk_172 (dk_at dksX3_see_2 0 rfl rfl)
theorem dX3_see_49 : decode cX3_see 49 = .ok (.aload_n 0, 1) := dk_42 (dk_at dksX3_see_2 1 rfl rfl)
theorem dX3_see_50 : decode cX3_see 50 = .ok (.getfield 44, 3) := dk_180 0 44 (dk_at dksX3_see_2 2 rfl rfl)
theorem dX3_see_53 : decode cX3_see 53 = .ok (.aload_n 0, 1) := dk_42 (dk_at dksX3_see_2 5 rfl rfl)
theorem dX3_see_54 : decode cX3_see 54 = .ok (.getfield 237, 3) := dk_180 0 237 (dk_at dksX3_see_2 6 rfl rfl)
theorem dX3_see_57 : decode cX3_see 57 = .ok (.iload_n 1, 1) := dk_27 (dk_at dksX3_see_2 9 rfl rfl)
theorem dX3_see_58 : decode cX3_see 58 = .ok (.iastore, 1) := dk_79 (dk_at dksX3_see_2 10 rfl rfl)
theorem dX3_see_59 : decode cX3_see 59 = .ok (.aload_n 0, 1) := dk_42 (dk_at dksX3_see_2 11 rfl rfl)
theorem dX3_see_60 : decode cX3_see 60 = .ok (.getfield 47, 3) := dk_180 0 47 (dk_at dksX3_see_2 12 rfl rfl)
theorem dX3_see_63 : decode cX3_see 63 = .ok (.aload_n 0, 1) := dk_42 (dk_at dksX3_see_2 15 rfl rfl)
theorem dX3_see_64 : decode cX3_see 64 = .ok (.getfield 237, 3) := dk_180 0 237 (dk_at dksX3_see_2 16 rfl rfl)
theorem dX3_see_67 : decode cX3_see 67 = .ok (.iload_n 2, 1) := dk_28 (dk_at dksX3_see_2 19 rfl rfl)
theorem dX3_see_68 : decode cX3_see 68 = .ok (.iastore, 1) := dk_79 (dk_at dksX3_see_2 20 rfl rfl)
theorem dX3_see_69 : decode cX3_see 69 = .ok (.aload_n 0, 1) := dk_42 (dk_at dksX3_see_2 21 rfl rfl)
theorem dX3_see_70 : decode cX3_see 70 = .ok (.getfield 50, 3) := dk_180 0 50 (dk_at dksX3_see_3 0 rfl rfl)
theorem dX3_see_73 : decode cX3_see 73 = .ok (.aload_n 0, 1) := dk_42 (dk_at dksX3_see_3 3 rfl rfl)
theorem dX3_see_74 : decode cX3_see 74 = .ok (.getfield 237, 3) := dk_180 0 237 (dk_at dksX3_see_3 4 rfl rfl)
theorem dX3_see_77 : decode cX3_see 77 = .ok (.iload_n 3, 1) := dk_29 (dk_at dksX3_see_3 7 rfl rfl)
theorem dX3_see_78 : decode cX3_see 78 = .ok (.iastore, 1) := dk_79 (dk_at dksX3_see_3 8 rfl rfl)
theorem dX3_see_79 : decode cX3_see 79 = .ok (.aload_n 0, 1) := dk_42 (dk_at dksX3_see_3 9 rfl rfl)
theorem dX3_see_80 : decode cX3_see 80 = .ok (.dup, 1) := dk_89 (dk_at dksX3_see_3 10 rfl rfl)
theorem dX3_see_81 : decode cX3_see 81 = .ok (.getfield 237, 3) := dk_180 0 237 (dk_at dksX3_see_3 11 rfl rfl)
theorem dX3_see_84 : decode cX3_see 84 = .ok (.iconst 1, 1) := dk_4 (dk_at dksX3_see_3 14 rfl rfl)
theorem dX3_see_85 : decode cX3_see 85 = .ok (.iadd, 1) := dk_96 (dk_at dksX3_see_3 15 rfl rfl)
theorem dX3_see_86 : decode cX3_see 86 = .ok (.putfield 237, 3) := dk_181 0 237 (dk_at dksX3_see_3 16 rfl rfl)
theorem dX3_see_89 : decode cX3_see 89 = .ok (.aload_n 0, 1) := dk_42 (dk_at dksX3_see_3 19 rfl rfl)
theorem dX3_see_90 : decode cX3_see 90 = .ok (.getfield 237, 3) := dk_180 0 237 (dk_at dksX3_see_3 20 rfl rfl)
theorem dX3_see_93 : decode cX3_see 93 = .ok (.ireturn, 1) := dk_172 (dk_at dksX3_see_3 23 rfl rfl)
abbrev cX3_unsee : ByteArray := prog_13_method_73_code
def yX3_unsee : MethodName := ⟨RX3, "unsee", "()I"⟩
def dkwX3_unsee_0 : List UInt8 := [42, 180, 0, 237, 60, 42, 3, 181, 0, 237, 27, 172]
abbrev dktX3_unsee_0 : List UInt8 := dkwX3_unsee_0 ++ []
theorem dksX3_unsee_0 : cX3_unsee.data.toList.drop 0 = dktX3_unsee_0 := by decide +kernel
theorem dX3_unsee_0 : decode cX3_unsee 0 = .ok (.aload_n 0, 1) := dk_42 (dk_at dksX3_unsee_0 0 rfl rfl)
theorem dX3_unsee_1 : decode cX3_unsee 1 = .ok (.getfield 237, 3) := dk_180 0 237 (dk_at dksX3_unsee_0 1 rfl rfl)
theorem dX3_unsee_4 : decode cX3_unsee 4 = .ok (.istore_n 1, 1) := dk_60 (dk_at dksX3_unsee_0 4 rfl rfl)
theorem dX3_unsee_5 : decode cX3_unsee 5 = .ok (.aload_n 0, 1) := dk_42 (dk_at dksX3_unsee_0 5 rfl rfl)
theorem dX3_unsee_6 : decode cX3_unsee 6 = .ok (.iconst 0, 1) := dk_3 (dk_at dksX3_unsee_0 6 rfl rfl)
theorem dX3_unsee_7 : decode cX3_unsee 7 = .ok (.putfield 237, 3) := dk_181 0 237 (dk_at dksX3_unsee_0 7 rfl rfl)
theorem dX3_unsee_10 : decode cX3_unsee 10 = .ok (.iload_n 1, 1) := dk_27 (dk_at dksX3_unsee_0 10 rfl rfl)
theorem dX3_unsee_11 : decode cX3_unsee 11 = .ok (.ireturn, 1) := dk_172 (dk_at dksX3_unsee_0 11 rfl rfl)
abbrev cX3_left : ByteArray := prog_13_method_75_code
def yX3_left : MethodName := ⟨RX3, "left", "(I)I"⟩
def dkwX3_left_7 : List UInt8 := [132, 6, 255, 167, 255, 138, 27, 154, 0, 8, 21, 4, 167, 0, 5, 21, 5, 172]
abbrev dktX3_left_7 : List UInt8 := dkwX3_left_7 ++ []
def dkwX3_left_6 : List UInt8 := [4, 167, 0, 4, 3, 96, 54, 4, 21, 8, 153, 0, 8, 21, 6, 167, 0, 5, 21, 5, 54, 5]
abbrev dktX3_left_6 : List UInt8 := dkwX3_left_6 ++ dktX3_left_7
def dkwX3_left_5 : List UInt8 := [3, 160, 0, 7, 4, 167, 0, 4, 3, 54, 8, 132, 9, 1, 167, 255, 193, 21, 4, 21, 8, 153, 0, 7]
abbrev dktX3_left_5 : List UInt8 := dkwX3_left_5 ++ dktX3_left_6
def dkwX3_left_4 : List UInt8 := [180, 0, 47, 21, 9, 46, 182, 1, 71, 42, 180, 0, 50, 21, 9, 46, 4, 160, 0, 7, 4, 167, 0, 4]
abbrev dktX3_left_4 : List UInt8 := dkwX3_left_4 ++ dktX3_left_5
def dkwX3_left_3 : List UInt8 := [180, 0, 237, 162, 0, 60, 21, 8, 153, 0, 46, 42, 21, 7, 42, 180, 0, 44, 21, 9, 46, 42]
abbrev dktX3_left_3 : List UInt8 := dkwX3_left_3 ++ dktX3_left_4
def dkwX3_left_2 : List UInt8 := [21, 6, 155, 0, 119, 42, 21, 6, 133, 182, 1, 37, 54, 7, 4, 54, 8, 3, 54, 9, 21, 9, 42]
abbrev dktX3_left_2 : List UInt8 := dkwX3_left_2 ++ dktX3_left_3
def dkwX3_left_1 : List UInt8 := [20, 1, 69, 148, 158, 0, 6, 16, 253, 172, 3, 54, 4, 16, 247, 54, 5, 32, 136, 4, 100, 54, 6]
abbrev dktX3_left_1 : List UInt8 := dkwX3_left_1 ++ dktX3_left_2
def dkwX3_left_0 : List UInt8 := [27, 133, 9, 10, 184, 0, 107, 154, 0, 6, 16, 254, 172, 42, 42, 180, 0, 25, 182, 1, 16, 65, 32]
abbrev dktX3_left_0 : List UInt8 := dkwX3_left_0 ++ dktX3_left_1
theorem dksX3_left_0 : cX3_left.data.toList.drop 0 = dktX3_left_0 := by decide +kernel
theorem dksX3_left_1 : cX3_left.data.toList.drop 23 = dktX3_left_1 := dk_seg dksX3_left_0 23 rfl rfl
theorem dksX3_left_2 : cX3_left.data.toList.drop 46 = dktX3_left_2 := dk_seg dksX3_left_1 23 rfl rfl
theorem dksX3_left_3 : cX3_left.data.toList.drop 69 = dktX3_left_3 := dk_seg dksX3_left_2 23 rfl rfl
theorem dksX3_left_4 : cX3_left.data.toList.drop 91 = dktX3_left_4 := dk_seg dksX3_left_3 22 rfl rfl
theorem dksX3_left_5 : cX3_left.data.toList.drop 115 = dktX3_left_5 := dk_seg dksX3_left_4 24 rfl rfl
theorem dksX3_left_6 : cX3_left.data.toList.drop 139 = dktX3_left_6 := dk_seg dksX3_left_5 24 rfl rfl
theorem dksX3_left_7 : cX3_left.data.toList.drop 161 = dktX3_left_7 := dk_seg dksX3_left_6 22 rfl rfl
theorem dX3_left_0 : decode cX3_left 0 = .ok (.iload_n 1, 1) := dk_27 (dk_at dksX3_left_0 0 rfl rfl)
theorem dX3_left_1 : decode cX3_left 1 = .ok (.i2l, 1) := dk_133 (dk_at dksX3_left_0 1 rfl rfl)
theorem dX3_left_2 : decode cX3_left 2 = .ok (.lconst 0, 1) := dk_9 (dk_at dksX3_left_0 2 rfl rfl)
theorem dX3_left_3 : decode cX3_left 3 = .ok (.lconst 1, 1) := dk_10 (dk_at dksX3_left_0 3 rfl rfl)
theorem dX3_left_4 : decode cX3_left 4 = .ok (.invokestatic 107, 3) := dk_184 0 107 (dk_at dksX3_left_0 4 rfl rfl)
theorem dX3_left_7 : decode cX3_left 7 = .ok (.ifCond .ne 6, 3) := dk_154 0 6 (dk_at dksX3_left_0 7 rfl rfl)
theorem dX3_left_10 : decode cX3_left 10 = .ok (.bipush (-2), 2) := dk_16 254 (dk_at dksX3_left_0 10 rfl rfl)
theorem dX3_left_12 : decode cX3_left 12 = .ok (.ireturn, 1) := dk_172 (dk_at dksX3_left_0 12 rfl rfl)
theorem dX3_left_13 : decode cX3_left 13 = .ok (.aload_n 0, 1) := dk_42 (dk_at dksX3_left_0 13 rfl rfl)
theorem dX3_left_14 : decode cX3_left 14 = .ok (.aload_n 0, 1) := dk_42 (dk_at dksX3_left_0 14 rfl rfl)
theorem dX3_left_15 : decode cX3_left 15 = .ok (.getfield 25, 3) := dk_180 0 25 (dk_at dksX3_left_0 15 rfl rfl)
theorem dX3_left_18 : decode cX3_left 18 = .ok (.invokevirtual 272, 3) := dk_182 1 16 (dk_at dksX3_left_0 18 rfl rfl)
theorem dX3_left_21 : decode cX3_left 21 = .ok (.lstore_n 2, 1) := dk_65 (dk_at dksX3_left_0 21 rfl rfl)
theorem dX3_left_22 : decode cX3_left 22 = .ok (.lload_n 2, 1) := dk_32 (dk_at dksX3_left_0 22 rfl rfl)
theorem dX3_left_23 : decode cX3_left 23 = .ok (.ldc2_w 325, 3) := dk_20 1 69 (dk_at dksX3_left_1 0 rfl rfl)
theorem dX3_left_26 : decode cX3_left 26 = .ok (.lcmp, 1) := dk_148 (dk_at dksX3_left_1 3 rfl rfl)
theorem dX3_left_27 : decode cX3_left 27 = .ok (.ifCond .le 6, 3) := dk_158 0 6 (dk_at dksX3_left_1 4 rfl rfl)
theorem dX3_left_30 : decode cX3_left 30 = .ok (.bipush (-3), 2) := dk_16 253 (dk_at dksX3_left_1 7 rfl rfl)
theorem dX3_left_32 : decode cX3_left 32 = .ok (.ireturn, 1) := dk_172 (dk_at dksX3_left_1 9 rfl rfl)
theorem dX3_left_33 : decode cX3_left 33 = .ok (.iconst 0, 1) := dk_3 (dk_at dksX3_left_1 10 rfl rfl)
theorem dX3_left_34 : decode cX3_left 34 = .ok (.istore 4, 2) := dk_54 4 (dk_at dksX3_left_1 11 rfl rfl)
theorem dX3_left_36 : decode cX3_left 36 = .ok (.bipush (-9), 2) := dk_16 247 (dk_at dksX3_left_1 13 rfl rfl)
theorem dX3_left_38 : decode cX3_left 38 = .ok (.istore 5, 2) := dk_54 5 (dk_at dksX3_left_1 15 rfl rfl)
theorem dX3_left_40 : decode cX3_left 40 = .ok (.lload_n 2, 1) := dk_32 (dk_at dksX3_left_1 17 rfl rfl)
theorem dX3_left_41 : decode cX3_left 41 = .ok (.l2i, 1) := dk_136 (dk_at dksX3_left_1 18 rfl rfl)
theorem dX3_left_42 : decode cX3_left 42 = .ok (.iconst 1, 1) := dk_4 (dk_at dksX3_left_1 19 rfl rfl)
theorem dX3_left_43 : decode cX3_left 43 = .ok (.isub, 1) := dk_100 (dk_at dksX3_left_1 20 rfl rfl)
theorem dX3_left_44 : decode cX3_left 44 = .ok (.istore 6, 2) := dk_54 6 (dk_at dksX3_left_1 21 rfl rfl)
theorem dX3_left_46 : decode cX3_left 46 = .ok (.iload 6, 2) := dk_21 6 (dk_at dksX3_left_2 0 rfl rfl)
theorem dX3_left_48 : decode cX3_left 48 = .ok (.ifCond .lt 119, 3) := dk_155 0 119 (dk_at dksX3_left_2 2 rfl rfl)
theorem dX3_left_51 : decode cX3_left 51 = .ok (.aload_n 0, 1) := dk_42 (dk_at dksX3_left_2 5 rfl rfl)
theorem dX3_left_52 : decode cX3_left 52 = .ok (.iload 6, 2) := dk_21 6 (dk_at dksX3_left_2 6 rfl rfl)
theorem dX3_left_54 : decode cX3_left 54 = .ok (.i2l, 1) := dk_133 (dk_at dksX3_left_2 8 rfl rfl)
theorem dX3_left_55 : decode cX3_left 55 = .ok (.invokevirtual 293, 3) := dk_182 1 37 (dk_at dksX3_left_2 9 rfl rfl)
theorem dX3_left_58 : decode cX3_left 58 = .ok (.istore 7, 2) := dk_54 7 (dk_at dksX3_left_2 12 rfl rfl)
theorem dX3_left_60 : decode cX3_left 60 = .ok (.iconst 1, 1) := dk_4 (dk_at dksX3_left_2 14 rfl rfl)
theorem dX3_left_61 : decode cX3_left 61 = .ok (.istore 8, 2) := dk_54 8 (dk_at dksX3_left_2 15 rfl rfl)
theorem dX3_left_63 : decode cX3_left 63 = .ok (.iconst 0, 1) := dk_3 (dk_at dksX3_left_2 17 rfl rfl)
theorem dX3_left_64 : decode cX3_left 64 = .ok (.istore 9, 2) := dk_54 9 (dk_at dksX3_left_2 18 rfl rfl)
theorem dX3_left_66 : decode cX3_left 66 = .ok (.iload 9, 2) := dk_21 9 (dk_at dksX3_left_2 20 rfl rfl)
theorem dX3_left_68 : decode cX3_left 68 = .ok (.aload_n 0, 1) := dk_42 (dk_at dksX3_left_2 22 rfl rfl)
theorem dX3_left_69 : decode cX3_left 69 = .ok (.getfield 237, 3) := dk_180 0 237 (dk_at dksX3_left_3 0 rfl rfl)
theorem dX3_left_72 : decode cX3_left 72 = .ok (.if_icmp .ge 60, 3) := dk_162 0 60 (dk_at dksX3_left_3 3 rfl rfl)
theorem dX3_left_75 : decode cX3_left 75 = .ok (.iload 8, 2) := dk_21 8 (dk_at dksX3_left_3 6 rfl rfl)
theorem dX3_left_77 : decode cX3_left 77 = .ok (.ifCond .eq 46, 3) := dk_153 0 46 (dk_at dksX3_left_3 8 rfl rfl)
theorem dX3_left_80 : decode cX3_left 80 = .ok (.aload_n 0, 1) := dk_42 (dk_at dksX3_left_3 11 rfl rfl)
theorem dX3_left_81 : decode cX3_left 81 = .ok (.iload 7, 2) := dk_21 7 (dk_at dksX3_left_3 12 rfl rfl)
theorem dX3_left_83 : decode cX3_left 83 = .ok (.aload_n 0, 1) := dk_42 (dk_at dksX3_left_3 14 rfl rfl)
theorem dX3_left_84 : decode cX3_left 84 = .ok (.getfield 44, 3) := dk_180 0 44 (dk_at dksX3_left_3 15 rfl rfl)
theorem dX3_left_87 : decode cX3_left 87 = .ok (.iload 9, 2) := dk_21 9 (dk_at dksX3_left_3 18 rfl rfl)
theorem dX3_left_89 : decode cX3_left 89 = .ok (.iaload, 1) := dk_46 (dk_at dksX3_left_3 20 rfl rfl)
theorem dX3_left_90 : decode cX3_left 90 = .ok (.aload_n 0, 1) := dk_42 (dk_at dksX3_left_3 21 rfl rfl)
theorem dX3_left_91 : decode cX3_left 91 = .ok (.getfield 47, 3) := dk_180 0 47 (dk_at dksX3_left_4 0 rfl rfl)
theorem dX3_left_94 : decode cX3_left 94 = .ok (.iload 9, 2) := dk_21 9 (dk_at dksX3_left_4 3 rfl rfl)
theorem dX3_left_96 : decode cX3_left 96 = .ok (.iaload, 1) := dk_46 (dk_at dksX3_left_4 5 rfl rfl)
theorem dX3_left_97 : decode cX3_left 97 = .ok (.invokevirtual 327, 3) := dk_182 1 71 (dk_at dksX3_left_4 6 rfl rfl)
theorem dX3_left_100 : decode cX3_left 100 = .ok (.aload_n 0, 1) := dk_42 (dk_at dksX3_left_4 9 rfl rfl)
theorem dX3_left_101 : decode cX3_left 101 = .ok (.getfield 50, 3) := dk_180 0 50 (dk_at dksX3_left_4 10 rfl rfl)
theorem dX3_left_104 : decode cX3_left 104 = .ok (.iload 9, 2) := dk_21 9 (dk_at dksX3_left_4 13 rfl rfl)
theorem dX3_left_106 : decode cX3_left 106 = .ok (.iaload, 1) := dk_46 (dk_at dksX3_left_4 15 rfl rfl)
theorem dX3_left_107 : decode cX3_left 107 = .ok (.iconst 1, 1) := dk_4 (dk_at dksX3_left_4 16 rfl rfl)
theorem dX3_left_108 : decode cX3_left 108 = .ok (.if_icmp .ne 7, 3) := dk_160 0 7 (dk_at dksX3_left_4 17 rfl rfl)
theorem dX3_left_111 : decode cX3_left 111 = .ok (.iconst 1, 1) := dk_4 (dk_at dksX3_left_4 20 rfl rfl)
theorem dX3_left_112 : decode cX3_left 112 = .ok (.goto 4, 3) := dk_167 0 4 (dk_at dksX3_left_4 21 rfl rfl)
theorem dX3_left_115 : decode cX3_left 115 = .ok (.iconst 0, 1) := dk_3 (dk_at dksX3_left_5 0 rfl rfl)
theorem dX3_left_116 : decode cX3_left 116 = .ok (.if_icmp .ne 7, 3) := dk_160 0 7 (dk_at dksX3_left_5 1 rfl rfl)
theorem dX3_left_119 : decode cX3_left 119 = .ok (.iconst 1, 1) := dk_4 (dk_at dksX3_left_5 4 rfl rfl)
theorem dX3_left_120 : decode cX3_left 120 = .ok (.goto 4, 3) := dk_167 0 4 (dk_at dksX3_left_5 5 rfl rfl)
theorem dX3_left_123 : decode cX3_left 123 = .ok (.iconst 0, 1) := dk_3 (dk_at dksX3_left_5 8 rfl rfl)
theorem dX3_left_124 : decode cX3_left 124 = .ok (.istore 8, 2) := dk_54 8 (dk_at dksX3_left_5 9 rfl rfl)
theorem dX3_left_126 : decode cX3_left 126 = .ok (.iinc 9 1, 3) := dk_132 9 1 (dk_at dksX3_left_5 11 rfl rfl)
theorem dX3_left_129 : decode cX3_left 129 = .ok (.goto (-63), 3) := dk_167 255 193 (dk_at dksX3_left_5 14 rfl rfl)
theorem dX3_left_132 : decode cX3_left 132 = .ok (.iload 4, 2) := dk_21 4 (dk_at dksX3_left_5 17 rfl rfl)
theorem dX3_left_134 : decode cX3_left 134 = .ok (.iload 8, 2) := dk_21 8 (dk_at dksX3_left_5 19 rfl rfl)
theorem dX3_left_136 : decode cX3_left 136 = .ok (.ifCond .eq 7, 3) := dk_153 0 7 (dk_at dksX3_left_5 21 rfl rfl)
theorem dX3_left_139 : decode cX3_left 139 = .ok (.iconst 1, 1) := dk_4 (dk_at dksX3_left_6 0 rfl rfl)
theorem dX3_left_140 : decode cX3_left 140 = .ok (.goto 4, 3) := dk_167 0 4 (dk_at dksX3_left_6 1 rfl rfl)
theorem dX3_left_143 : decode cX3_left 143 = .ok (.iconst 0, 1) := dk_3 (dk_at dksX3_left_6 4 rfl rfl)
theorem dX3_left_144 : decode cX3_left 144 = .ok (.iadd, 1) := dk_96 (dk_at dksX3_left_6 5 rfl rfl)
theorem dX3_left_145 : decode cX3_left 145 = .ok (.istore 4, 2) := dk_54 4 (dk_at dksX3_left_6 6 rfl rfl)
theorem dX3_left_147 : decode cX3_left 147 = .ok (.iload 8, 2) := dk_21 8 (dk_at dksX3_left_6 8 rfl rfl)
theorem dX3_left_149 : decode cX3_left 149 = .ok (.ifCond .eq 8, 3) := dk_153 0 8 (dk_at dksX3_left_6 10 rfl rfl)
theorem dX3_left_152 : decode cX3_left 152 = .ok (.iload 6, 2) := dk_21 6 (dk_at dksX3_left_6 13 rfl rfl)
theorem dX3_left_154 : decode cX3_left 154 = .ok (.goto 5, 3) := dk_167 0 5 (dk_at dksX3_left_6 15 rfl rfl)
theorem dX3_left_157 : decode cX3_left 157 = .ok (.iload 5, 2) := dk_21 5 (dk_at dksX3_left_6 18 rfl rfl)
theorem dX3_left_159 : decode cX3_left 159 = .ok (.istore 5, 2) := dk_54 5 (dk_at dksX3_left_6 20 rfl rfl)
theorem dX3_left_161 : decode cX3_left 161 = .ok (.iinc 6 (-1), 3) := dk_132 6 255 (dk_at dksX3_left_7 0 rfl rfl)
theorem dX3_left_164 : decode cX3_left 164 = .ok (.goto (-118), 3) := dk_167 255 138 (dk_at dksX3_left_7 3 rfl rfl)
theorem dX3_left_167 : decode cX3_left 167 = .ok (.iload_n 1, 1) := dk_27 (dk_at dksX3_left_7 6 rfl rfl)
theorem dX3_left_168 : decode cX3_left 168 = .ok (.ifCond .ne 8, 3) := dk_154 0 8 (dk_at dksX3_left_7 7 rfl rfl)
theorem dX3_left_171 : decode cX3_left 171 = .ok (.iload 4, 2) := dk_21 4 (dk_at dksX3_left_7 10 rfl rfl)
theorem dX3_left_173 : decode cX3_left 173 = .ok (.goto 5, 3) := dk_167 0 5 (dk_at dksX3_left_7 12 rfl rfl)
theorem dX3_left_176 : decode cX3_left 176 = .ok (.iload 5, 2) := dk_21 5 (dk_at dksX3_left_7 15 rfl rfl)
theorem dX3_left_178 : decode cX3_left 178 = .ok (.ireturn, 1) := dk_172 (dk_at dksX3_left_7 17 rfl rfl)
abbrev cX3_isSo : ByteArray := prog_13_method_74_code
def yX3_isSo : MethodName := ⟨RX3, "isSo", "(III)Z"⟩
def dkwX3_isSo_4 : List UInt8 := [180, 0, 90, 27, 4, 100, 46, 29, 160, 0, 7, 4, 167, 0, 4, 3, 172]
abbrev dktX3_isSo_4 : List UInt8 := dkwX3_isSo_4 ++ []
def dkwX3_isSo_3 : List UInt8 := [160, 0, 21, 42, 180, 0, 90, 3, 46, 29, 160, 0, 7, 4, 167, 0, 24, 3, 167, 0, 20, 42]
abbrev dktX3_isSo_3 : List UInt8 := dkwX3_isSo_3 ++ dktX3_isSo_4
def dkwX3_isSo_2 : List UInt8 := [167, 0, 61, 28, 4, 160, 0, 16, 27, 29, 160, 0, 7, 4, 167, 0, 47, 3, 167, 0, 43, 28, 5]
abbrev dktX3_isSo_2 : List UInt8 := dkwX3_isSo_2 ++ dktX3_isSo_3
def dkwX3_isSo_1 : List UInt8 := [29, 160, 0, 7, 4, 167, 0, 4, 3, 54, 4, 132, 5, 1, 167, 255, 224, 28, 154, 0, 8, 21, 4]
abbrev dktX3_isSo_1 : List UInt8 := dkwX3_isSo_1 ++ dktX3_isSo_2
def dkwX3_isSo_0 : List UInt8 := [3, 54, 4, 3, 54, 5, 21, 5, 27, 162, 0, 32, 21, 4, 154, 0, 14, 42, 180, 0, 90, 21, 5, 46]
abbrev dktX3_isSo_0 : List UInt8 := dkwX3_isSo_0 ++ dktX3_isSo_1
theorem dksX3_isSo_0 : cX3_isSo.data.toList.drop 0 = dktX3_isSo_0 := by decide +kernel
theorem dksX3_isSo_1 : cX3_isSo.data.toList.drop 24 = dktX3_isSo_1 := dk_seg dksX3_isSo_0 24 rfl rfl
theorem dksX3_isSo_2 : cX3_isSo.data.toList.drop 47 = dktX3_isSo_2 := dk_seg dksX3_isSo_1 23 rfl rfl
theorem dksX3_isSo_3 : cX3_isSo.data.toList.drop 70 = dktX3_isSo_3 := dk_seg dksX3_isSo_2 23 rfl rfl
theorem dksX3_isSo_4 : cX3_isSo.data.toList.drop 92 = dktX3_isSo_4 := dk_seg dksX3_isSo_3 22 rfl rfl
theorem dX3_isSo_0 : decode cX3_isSo 0 = .ok (.iconst 0, 1) := dk_3 (dk_at dksX3_isSo_0 0 rfl rfl)
theorem dX3_isSo_1 : decode cX3_isSo 1 = .ok (.istore 4, 2) := dk_54 4 (dk_at dksX3_isSo_0 1 rfl rfl)
theorem dX3_isSo_3 : decode cX3_isSo 3 = .ok (.iconst 0, 1) := dk_3 (dk_at dksX3_isSo_0 3 rfl rfl)
theorem dX3_isSo_4 : decode cX3_isSo 4 = .ok (.istore 5, 2) := dk_54 5 (dk_at dksX3_isSo_0 4 rfl rfl)
theorem dX3_isSo_6 : decode cX3_isSo 6 = .ok (.iload 5, 2) := dk_21 5 (dk_at dksX3_isSo_0 6 rfl rfl)
theorem dX3_isSo_8 : decode cX3_isSo 8 = .ok (.iload_n 1, 1) := dk_27 (dk_at dksX3_isSo_0 8 rfl rfl)
theorem dX3_isSo_9 : decode cX3_isSo 9 = .ok (.if_icmp .ge 32, 3) := dk_162 0 32 (dk_at dksX3_isSo_0 9 rfl rfl)
theorem dX3_isSo_12 : decode cX3_isSo 12 = .ok (.iload 4, 2) := dk_21 4 (dk_at dksX3_isSo_0 12 rfl rfl)
theorem dX3_isSo_14 : decode cX3_isSo 14 = .ok (.ifCond .ne 14, 3) := dk_154 0 14 (dk_at dksX3_isSo_0 14 rfl rfl)
theorem dX3_isSo_17 : decode cX3_isSo 17 = .ok (.aload_n 0, 1) := dk_42 (dk_at dksX3_isSo_0 17 rfl rfl)
theorem dX3_isSo_18 : decode cX3_isSo 18 = .ok (.getfield 90, 3) := dk_180 0 90 (dk_at dksX3_isSo_0 18 rfl rfl)
theorem dX3_isSo_21 : decode cX3_isSo 21 = .ok (.iload 5, 2) := dk_21 5 (dk_at dksX3_isSo_0 21 rfl rfl)
theorem dX3_isSo_23 : decode cX3_isSo 23 = .ok (.iaload, 1) := dk_46 (dk_at dksX3_isSo_0 23 rfl rfl)
theorem dX3_isSo_24 : decode cX3_isSo 24 = .ok (.iload_n 3, 1) := dk_29 (dk_at dksX3_isSo_1 0 rfl rfl)
theorem dX3_isSo_25 : decode cX3_isSo 25 = .ok (.if_icmp .ne 7, 3) := dk_160 0 7 (dk_at dksX3_isSo_1 1 rfl rfl)
theorem dX3_isSo_28 : decode cX3_isSo 28 = .ok (.iconst 1, 1) := dk_4 (dk_at dksX3_isSo_1 4 rfl rfl)
theorem dX3_isSo_29 : decode cX3_isSo 29 = .ok (.goto 4, 3) := dk_167 0 4 (dk_at dksX3_isSo_1 5 rfl rfl)
theorem dX3_isSo_32 : decode cX3_isSo 32 = .ok (.iconst 0, 1) := dk_3 (dk_at dksX3_isSo_1 8 rfl rfl)
theorem dX3_isSo_33 : decode cX3_isSo 33 = .ok (.istore 4, 2) := dk_54 4 (dk_at dksX3_isSo_1 9 rfl rfl)
theorem dX3_isSo_35 : decode cX3_isSo 35 = .ok (.iinc 5 1, 3) := dk_132 5 1 (dk_at dksX3_isSo_1 11 rfl rfl)
theorem dX3_isSo_38 : decode cX3_isSo 38 = .ok (.goto (-32), 3) := dk_167 255 224 (dk_at dksX3_isSo_1 14 rfl rfl)
theorem dX3_isSo_41 : decode cX3_isSo 41 = .ok (.iload_n 2, 1) := dk_28 (dk_at dksX3_isSo_1 17 rfl rfl)
theorem dX3_isSo_42 : decode cX3_isSo 42 = .ok (.ifCond .ne 8, 3) := dk_154 0 8 (dk_at dksX3_isSo_1 18 rfl rfl)
theorem dX3_isSo_45 : decode cX3_isSo 45 = .ok (.iload 4, 2) := dk_21 4 (dk_at dksX3_isSo_1 21 rfl rfl)
theorem dX3_isSo_47 : decode cX3_isSo 47 = .ok (.goto 61, 3) := dk_167 0 61 (dk_at dksX3_isSo_2 0 rfl rfl)
theorem dX3_isSo_50 : decode cX3_isSo 50 = .ok (.iload_n 2, 1) := dk_28 (dk_at dksX3_isSo_2 3 rfl rfl)
theorem dX3_isSo_51 : decode cX3_isSo 51 = .ok (.iconst 1, 1) := dk_4 (dk_at dksX3_isSo_2 4 rfl rfl)
theorem dX3_isSo_52 : decode cX3_isSo 52 = .ok (.if_icmp .ne 16, 3) := dk_160 0 16 (dk_at dksX3_isSo_2 5 rfl rfl)
theorem dX3_isSo_55 : decode cX3_isSo 55 = .ok (.iload_n 1, 1) := dk_27 (dk_at dksX3_isSo_2 8 rfl rfl)
theorem dX3_isSo_56 : decode cX3_isSo 56 = .ok (.iload_n 3, 1) := dk_29 (dk_at dksX3_isSo_2 9 rfl rfl)
theorem dX3_isSo_57 : decode cX3_isSo 57 = .ok (.if_icmp .ne 7, 3) := dk_160 0 7 (dk_at dksX3_isSo_2 10 rfl rfl)
theorem dX3_isSo_60 : decode cX3_isSo 60 = .ok (.iconst 1, 1) := dk_4 (dk_at dksX3_isSo_2 13 rfl rfl)
theorem dX3_isSo_61 : decode cX3_isSo 61 = .ok (.goto 47, 3) := dk_167 0 47 (dk_at dksX3_isSo_2 14 rfl rfl)
theorem dX3_isSo_64 : decode cX3_isSo 64 = .ok (.iconst 0, 1) := dk_3 (dk_at dksX3_isSo_2 17 rfl rfl)
theorem dX3_isSo_65 : decode cX3_isSo 65 = .ok (.goto 43, 3) := dk_167 0 43 (dk_at dksX3_isSo_2 18 rfl rfl)
theorem dX3_isSo_68 : decode cX3_isSo 68 = .ok (.iload_n 2, 1) := dk_28 (dk_at dksX3_isSo_2 21 rfl rfl)
theorem dX3_isSo_69 : decode cX3_isSo 69 = .ok (.iconst 2, 1) := dk_5 (dk_at dksX3_isSo_2 22 rfl rfl)
theorem dX3_isSo_70 : decode cX3_isSo 70 = .ok (.if_icmp .ne 21, 3) := dk_160 0 21 (dk_at dksX3_isSo_3 0 rfl rfl)
theorem dX3_isSo_73 : decode cX3_isSo 73 = .ok (.aload_n 0, 1) := dk_42 (dk_at dksX3_isSo_3 3 rfl rfl)
theorem dX3_isSo_74 : decode cX3_isSo 74 = .ok (.getfield 90, 3) := dk_180 0 90 (dk_at dksX3_isSo_3 4 rfl rfl)
theorem dX3_isSo_77 : decode cX3_isSo 77 = .ok (.iconst 0, 1) := dk_3 (dk_at dksX3_isSo_3 7 rfl rfl)
theorem dX3_isSo_78 : decode cX3_isSo 78 = .ok (.iaload, 1) := dk_46 (dk_at dksX3_isSo_3 8 rfl rfl)
theorem dX3_isSo_79 : decode cX3_isSo 79 = .ok (.iload_n 3, 1) := dk_29 (dk_at dksX3_isSo_3 9 rfl rfl)
theorem dX3_isSo_80 : decode cX3_isSo 80 = .ok (.if_icmp .ne 7, 3) := dk_160 0 7 (dk_at dksX3_isSo_3 10 rfl rfl)
theorem dX3_isSo_83 : decode cX3_isSo 83 = .ok (.iconst 1, 1) := dk_4 (dk_at dksX3_isSo_3 13 rfl rfl)
theorem dX3_isSo_84 : decode cX3_isSo 84 = .ok (.goto 24, 3) := dk_167 0 24 (dk_at dksX3_isSo_3 14 rfl rfl)
theorem dX3_isSo_87 : decode cX3_isSo 87 = .ok (.iconst 0, 1) := dk_3 (dk_at dksX3_isSo_3 17 rfl rfl)
theorem dX3_isSo_88 : decode cX3_isSo 88 = .ok (.goto 20, 3) := dk_167 0 20 (dk_at dksX3_isSo_3 18 rfl rfl)
theorem dX3_isSo_91 : decode cX3_isSo 91 = .ok (.aload_n 0, 1) := dk_42 (dk_at dksX3_isSo_3 21 rfl rfl)
theorem dX3_isSo_92 : decode cX3_isSo 92 = .ok (.getfield 90, 3) := dk_180 0 90 (dk_at dksX3_isSo_4 0 rfl rfl)
theorem dX3_isSo_95 : decode cX3_isSo 95 = .ok (.iload_n 1, 1) := dk_27 (dk_at dksX3_isSo_4 3 rfl rfl)
theorem dX3_isSo_96 : decode cX3_isSo 96 = .ok (.iconst 1, 1) := dk_4 (dk_at dksX3_isSo_4 4 rfl rfl)
theorem dX3_isSo_97 : decode cX3_isSo 97 = .ok (.isub, 1) := dk_100 (dk_at dksX3_isSo_4 5 rfl rfl)
theorem dX3_isSo_98 : decode cX3_isSo 98 = .ok (.iaload, 1) := dk_46 (dk_at dksX3_isSo_4 6 rfl rfl)
theorem dX3_isSo_99 : decode cX3_isSo 99 = .ok (.iload_n 3, 1) := dk_29 (dk_at dksX3_isSo_4 7 rfl rfl)
theorem dX3_isSo_100 : decode cX3_isSo 100 = .ok (.if_icmp .ne 7, 3) := dk_160 0 7 (dk_at dksX3_isSo_4 8 rfl rfl)
theorem dX3_isSo_103 : decode cX3_isSo 103 = .ok (.iconst 1, 1) := dk_4 (dk_at dksX3_isSo_4 11 rfl rfl)
theorem dX3_isSo_104 : decode cX3_isSo 104 = .ok (.goto 4, 3) := dk_167 0 4 (dk_at dksX3_isSo_4 12 rfl rfl)
theorem dX3_isSo_107 : decode cX3_isSo 107 = .ok (.iconst 0, 1) := dk_3 (dk_at dksX3_isSo_4 15 rfl rfl)
theorem dX3_isSo_108 : decode cX3_isSo 108 = .ok (.ireturn, 1) := dk_172 (dk_at dksX3_isSo_4 16 rfl rfl)
abbrev cX3_share : ByteArray := prog_13_method_79_code
def yX3_share : MethodName := ⟨RX3, "share", "(IZ)J"⟩
def dkwX3_share_6 : List UInt8 := [184, 1, 88, 133, 28, 184, 1, 94, 173]
abbrev dktX3_share_6 : List UInt8 := dkwX3_share_6 ++ []
def dkwX3_share_5 : List UInt8 := [27, 182, 1, 91, 2, 130, 126, 47, 101, 105, 97, 55, 4, 132, 6, 1, 167, 255, 173, 22, 4, 29]
abbrev dktX3_share_5 : List UInt8 := dkwX3_share_5 ++ dktX3_share_6
def dkwX3_share_4 : List UInt8 := [4, 100, 21, 8, 100, 184, 1, 88, 133, 105, 42, 180, 0, 96, 21, 6, 47, 42, 180, 0, 96, 21, 6, 42]
abbrev dktX3_share_4 : List UInt8 := dkwX3_share_4 ++ dktX3_share_5
def dkwX3_share_3 : List UInt8 := [184, 0, 149, 153, 0, 58, 21, 6, 184, 1, 74, 4, 100, 54, 8, 22, 4, 21, 8, 184, 1, 88, 133, 29]
abbrev dktX3_share_3 : List UInt8 := dkwX3_share_3 ++ dktX3_share_4
def dkwX3_share_2 : List UInt8 := [3, 54, 6, 21, 6, 4, 29, 120, 162, 0, 81, 42, 21, 6, 182, 1, 80, 54, 7, 21, 7, 27]
abbrev dktX3_share_2 : List UInt8 := dkwX3_share_2 ++ dktX3_share_3
def dkwX3_share_1 : List UInt8 := [27, 184, 0, 149, 154, 0, 9, 29, 16, 8, 164, 0, 7, 20, 1, 83, 173, 42, 182, 1, 85, 9, 55, 4]
abbrev dktX3_share_1 : List UInt8 := dkwX3_share_1 ++ dktX3_share_2
def dkwX3_share_0 : List UInt8 := [42, 27, 182, 0, 243, 154, 0, 7, 20, 1, 20, 173, 42, 182, 1, 77, 62, 42, 180, 0, 25, 16, 8, 46]
abbrev dktX3_share_0 : List UInt8 := dkwX3_share_0 ++ dktX3_share_1
theorem dksX3_share_0 : cX3_share.data.toList.drop 0 = dktX3_share_0 := by decide +kernel
theorem dksX3_share_1 : cX3_share.data.toList.drop 24 = dktX3_share_1 := dk_seg dksX3_share_0 24 rfl rfl
theorem dksX3_share_2 : cX3_share.data.toList.drop 48 = dktX3_share_2 := dk_seg dksX3_share_1 24 rfl rfl
theorem dksX3_share_3 : cX3_share.data.toList.drop 70 = dktX3_share_3 := dk_seg dksX3_share_2 22 rfl rfl
theorem dksX3_share_4 : cX3_share.data.toList.drop 94 = dktX3_share_4 := dk_seg dksX3_share_3 24 rfl rfl
theorem dksX3_share_5 : cX3_share.data.toList.drop 118 = dktX3_share_5 := dk_seg dksX3_share_4 24 rfl rfl
theorem dksX3_share_6 : cX3_share.data.toList.drop 140 = dktX3_share_6 := dk_seg dksX3_share_5 22 rfl rfl
theorem dX3_share_0 : decode cX3_share 0 = .ok (.aload_n 0, 1) := dk_42 (dk_at dksX3_share_0 0 rfl rfl)
theorem dX3_share_1 : decode cX3_share 1 = .ok (.iload_n 1, 1) := dk_27 (dk_at dksX3_share_0 1 rfl rfl)
theorem dX3_share_2 : decode cX3_share 2 = .ok (.invokevirtual 243, 3) := dk_182 0 243 (dk_at dksX3_share_0 2 rfl rfl)
theorem dX3_share_5 : decode cX3_share 5 = .ok (.ifCond .ne 7, 3) := dk_154 0 7 (dk_at dksX3_share_0 5 rfl rfl)
theorem dX3_share_8 : decode cX3_share 8 = .ok (.ldc2_w 276, 3) := dk_20 1 20 (dk_at dksX3_share_0 8 rfl rfl)
theorem dX3_share_11 : decode cX3_share 11 = .ok (.lreturn, 1) := dk_173 (dk_at dksX3_share_0 11 rfl rfl)
theorem dX3_share_12 : decode cX3_share 12 = .ok (.aload_n 0, 1) := dk_42 (dk_at dksX3_share_0 12 rfl rfl)
theorem dX3_share_13 : decode cX3_share 13 = .ok (.invokevirtual 333, 3) := dk_182 1 77 (dk_at dksX3_share_0 13 rfl rfl)
theorem dX3_share_16 : decode cX3_share 16 = .ok (.istore_n 3, 1) := dk_62 (dk_at dksX3_share_0 16 rfl rfl)
theorem dX3_share_17 : decode cX3_share 17 = .ok (.aload_n 0, 1) := dk_42 (dk_at dksX3_share_0 17 rfl rfl)
theorem dX3_share_18 : decode cX3_share 18 = .ok (.getfield 25, 3) := dk_180 0 25 (dk_at dksX3_share_0 18 rfl rfl)
theorem dX3_share_21 : decode cX3_share 21 = .ok (.bipush 8, 2) := dk_16 8 (dk_at dksX3_share_0 21 rfl rfl)
theorem dX3_share_23 : decode cX3_share 23 = .ok (.iaload, 1) := dk_46 (dk_at dksX3_share_0 23 rfl rfl)
theorem dX3_share_24 : decode cX3_share 24 = .ok (.iload_n 1, 1) := dk_27 (dk_at dksX3_share_1 0 rfl rfl)
theorem dX3_share_25 : decode cX3_share 25 = .ok (.invokestatic 149, 3) := dk_184 0 149 (dk_at dksX3_share_1 1 rfl rfl)
theorem dX3_share_28 : decode cX3_share 28 = .ok (.ifCond .ne 9, 3) := dk_154 0 9 (dk_at dksX3_share_1 4 rfl rfl)
theorem dX3_share_31 : decode cX3_share 31 = .ok (.iload_n 3, 1) := dk_29 (dk_at dksX3_share_1 7 rfl rfl)
theorem dX3_share_32 : decode cX3_share 32 = .ok (.bipush 8, 2) := dk_16 8 (dk_at dksX3_share_1 8 rfl rfl)
theorem dX3_share_34 : decode cX3_share 34 = .ok (.if_icmp .le 7, 3) := dk_164 0 7 (dk_at dksX3_share_1 10 rfl rfl)
theorem dX3_share_37 : decode cX3_share 37 = .ok (.ldc2_w 339, 3) := dk_20 1 83 (dk_at dksX3_share_1 13 rfl rfl)
theorem dX3_share_40 : decode cX3_share 40 = .ok (.lreturn, 1) := dk_173 (dk_at dksX3_share_1 16 rfl rfl)
theorem dX3_share_41 : decode cX3_share 41 = .ok (.aload_n 0, 1) := dk_42 (dk_at dksX3_share_1 17 rfl rfl)
theorem dX3_share_42 : decode cX3_share 42 = .ok (.invokevirtual 341, 3) := dk_182 1 85 (dk_at dksX3_share_1 18 rfl rfl)
theorem dX3_share_45 : decode cX3_share 45 = .ok (.lconst 0, 1) := dk_9 (dk_at dksX3_share_1 21 rfl rfl)
theorem dX3_share_46 : decode cX3_share 46 = .ok (.lstore 4, 2) := dk_55 4 (dk_at dksX3_share_1 22 rfl rfl)
theorem dX3_share_48 : decode cX3_share 48 = .ok (.iconst 0, 1) := dk_3 (dk_at dksX3_share_2 0 rfl rfl)
theorem dX3_share_49 : decode cX3_share 49 = .ok (.istore 6, 2) := dk_54 6 (dk_at dksX3_share_2 1 rfl rfl)
theorem dX3_share_51 : decode cX3_share 51 = .ok (.iload 6, 2) := dk_21 6 (dk_at dksX3_share_2 3 rfl rfl)
theorem dX3_share_53 : decode cX3_share 53 = .ok (.iconst 1, 1) := dk_4 (dk_at dksX3_share_2 5 rfl rfl)
theorem dX3_share_54 : decode cX3_share 54 = .ok (.iload_n 3, 1) := dk_29 (dk_at dksX3_share_2 6 rfl rfl)
theorem dX3_share_55 : decode cX3_share 55 = .ok (.ishl, 1) := dk_120 (dk_at dksX3_share_2 7 rfl rfl)
theorem dX3_share_56 : decode cX3_share 56 = .ok (.if_icmp .ge 81, 3) := dk_162 0 81 (dk_at dksX3_share_2 8 rfl rfl)
theorem dX3_share_59 : decode cX3_share 59 = .ok (.aload_n 0, 1) := dk_42 (dk_at dksX3_share_2 11 rfl rfl)
theorem dX3_share_60 : decode cX3_share 60 = .ok (.iload 6, 2) := dk_21 6 (dk_at dksX3_share_2 12 rfl rfl)
theorem dX3_share_62 : decode cX3_share 62 = .ok (.invokevirtual 336, 3) := dk_182 1 80 (dk_at dksX3_share_2 14 rfl rfl)
theorem dX3_share_65 : decode cX3_share 65 = .ok (.istore 7, 2) := dk_54 7 (dk_at dksX3_share_2 17 rfl rfl)
theorem dX3_share_67 : decode cX3_share 67 = .ok (.iload 7, 2) := dk_21 7 (dk_at dksX3_share_2 19 rfl rfl)
theorem dX3_share_69 : decode cX3_share 69 = .ok (.iload_n 1, 1) := dk_27 (dk_at dksX3_share_2 21 rfl rfl)
theorem dX3_share_70 : decode cX3_share 70 = .ok (.invokestatic 149, 3) := dk_184 0 149 (dk_at dksX3_share_3 0 rfl rfl)
theorem dX3_share_73 : decode cX3_share 73 = .ok (.ifCond .eq 58, 3) := dk_153 0 58 (dk_at dksX3_share_3 3 rfl rfl)
theorem dX3_share_76 : decode cX3_share 76 = .ok (.iload 6, 2) := dk_21 6 (dk_at dksX3_share_3 6 rfl rfl)
theorem dX3_share_78 : decode cX3_share 78 = .ok (.invokestatic 330, 3) := dk_184 1 74 (dk_at dksX3_share_3 8 rfl rfl)
theorem dX3_share_81 : decode cX3_share 81 = .ok (.iconst 1, 1) := dk_4 (dk_at dksX3_share_3 11 rfl rfl)
theorem dX3_share_82 : decode cX3_share 82 = .ok (.isub, 1) := dk_100 (dk_at dksX3_share_3 12 rfl rfl)
theorem dX3_share_83 : decode cX3_share 83 = .ok (.istore 8, 2) := dk_54 8 (dk_at dksX3_share_3 13 rfl rfl)
theorem dX3_share_85 : decode cX3_share 85 = .ok (.lload 4, 2) := dk_22 4 (dk_at dksX3_share_3 15 rfl rfl)
theorem dX3_share_87 : decode cX3_share 87 = .ok (.iload 8, 2) := dk_21 8 (dk_at dksX3_share_3 17 rfl rfl)
theorem dX3_share_89 : decode cX3_share 89 = .ok (.invokestatic 344, 3) := dk_184 1 88 (dk_at dksX3_share_3 19 rfl rfl)
theorem dX3_share_92 : decode cX3_share 92 = .ok (.i2l, 1) := dk_133 (dk_at dksX3_share_3 22 rfl rfl)
theorem dX3_share_93 : decode cX3_share 93 = .ok (.iload_n 3, 1) := dk_29 (dk_at dksX3_share_3 23 rfl rfl)
theorem dX3_share_94 : decode cX3_share 94 = .ok (.iconst 1, 1) := dk_4 (dk_at dksX3_share_4 0 rfl rfl)
theorem dX3_share_95 : decode cX3_share 95 = .ok (.isub, 1) := dk_100 (dk_at dksX3_share_4 1 rfl rfl)
theorem dX3_share_96 : decode cX3_share 96 = .ok (.iload 8, 2) := dk_21 8 (dk_at dksX3_share_4 2 rfl rfl)
theorem dX3_share_98 : decode cX3_share 98 = .ok (.isub, 1) := dk_100 (dk_at dksX3_share_4 4 rfl rfl)
theorem dX3_share_99 : decode cX3_share 99 = .ok (.invokestatic 344, 3) := dk_184 1 88 (dk_at dksX3_share_4 5 rfl rfl)
theorem dX3_share_102 : decode cX3_share 102 = .ok (.i2l, 1) := dk_133 (dk_at dksX3_share_4 8 rfl rfl)
theorem dX3_share_103 : decode cX3_share 103 = .ok (.lmul, 1) := dk_105 (dk_at dksX3_share_4 9 rfl rfl)
theorem dX3_share_104 : decode cX3_share 104 = .ok (.aload_n 0, 1) := dk_42 (dk_at dksX3_share_4 10 rfl rfl)
theorem dX3_share_105 : decode cX3_share 105 = .ok (.getfield 96, 3) := dk_180 0 96 (dk_at dksX3_share_4 11 rfl rfl)
theorem dX3_share_108 : decode cX3_share 108 = .ok (.iload 6, 2) := dk_21 6 (dk_at dksX3_share_4 14 rfl rfl)
theorem dX3_share_110 : decode cX3_share 110 = .ok (.laload, 1) := dk_47 (dk_at dksX3_share_4 16 rfl rfl)
theorem dX3_share_111 : decode cX3_share 111 = .ok (.aload_n 0, 1) := dk_42 (dk_at dksX3_share_4 17 rfl rfl)
theorem dX3_share_112 : decode cX3_share 112 = .ok (.getfield 96, 3) := dk_180 0 96 (dk_at dksX3_share_4 18 rfl rfl)
theorem dX3_share_115 : decode cX3_share 115 = .ok (.iload 6, 2) := dk_21 6 (dk_at dksX3_share_4 21 rfl rfl)
theorem dX3_share_117 : decode cX3_share 117 = .ok (.aload_n 0, 1) := dk_42 (dk_at dksX3_share_4 23 rfl rfl)
theorem dX3_share_118 : decode cX3_share 118 = .ok (.iload_n 1, 1) := dk_27 (dk_at dksX3_share_5 0 rfl rfl)
theorem dX3_share_119 : decode cX3_share 119 = .ok (.invokevirtual 347, 3) := dk_182 1 91 (dk_at dksX3_share_5 1 rfl rfl)
theorem dX3_share_122 : decode cX3_share 122 = .ok (.iconst (-1), 1) := dk_2 (dk_at dksX3_share_5 4 rfl rfl)
theorem dX3_share_123 : decode cX3_share 123 = .ok (.ixor, 1) := dk_130 (dk_at dksX3_share_5 5 rfl rfl)
theorem dX3_share_124 : decode cX3_share 124 = .ok (.iand, 1) := dk_126 (dk_at dksX3_share_5 6 rfl rfl)
theorem dX3_share_125 : decode cX3_share 125 = .ok (.laload, 1) := dk_47 (dk_at dksX3_share_5 7 rfl rfl)
theorem dX3_share_126 : decode cX3_share 126 = .ok (.lsub, 1) := dk_101 (dk_at dksX3_share_5 8 rfl rfl)
theorem dX3_share_127 : decode cX3_share 127 = .ok (.lmul, 1) := dk_105 (dk_at dksX3_share_5 9 rfl rfl)
theorem dX3_share_128 : decode cX3_share 128 = .ok (.ladd, 1) := dk_97 (dk_at dksX3_share_5 10 rfl rfl)
theorem dX3_share_129 : decode cX3_share 129 = .ok (.lstore 4, 2) := dk_55 4 (dk_at dksX3_share_5 11 rfl rfl)
theorem dX3_share_131 : decode cX3_share 131 = .ok (.iinc 6 1, 3) := dk_132 6 1 (dk_at dksX3_share_5 13 rfl rfl)
theorem dX3_share_134 : decode cX3_share 134 = .ok (.goto (-83), 3) := dk_167 255 173 (dk_at dksX3_share_5 16 rfl rfl)
theorem dX3_share_137 : decode cX3_share 137 = .ok (.lload 4, 2) := dk_22 4 (dk_at dksX3_share_5 19 rfl rfl)
theorem dX3_share_139 : decode cX3_share 139 = .ok (.iload_n 3, 1) := dk_29 (dk_at dksX3_share_5 21 rfl rfl)
theorem dX3_share_140 : decode cX3_share 140 = .ok (.invokestatic 344, 3) := dk_184 1 88 (dk_at dksX3_share_6 0 rfl rfl)
theorem dX3_share_143 : decode cX3_share 143 = .ok (.i2l, 1) := dk_133 (dk_at dksX3_share_6 3 rfl rfl)
theorem dX3_share_144 : decode cX3_share 144 = .ok (.iload_n 2, 1) := dk_28 (dk_at dksX3_share_6 4 rfl rfl)
theorem dX3_share_145 : decode cX3_share 145 = .ok (.invokestatic 350, 3) := dk_184 1 94 (dk_at dksX3_share_6 5 rfl rfl)
theorem dX3_share_148 : decode cX3_share 148 = .ok (.lreturn, 1) := dk_173 (dk_at dksX3_share_6 8 rfl rfl)
abbrev cX3_unbarred : ByteArray := prog_13_method_77_code
def yX3_unbarred : MethodName := ⟨RX3, "unbarred", "()I"⟩
def dkwX3_unbarred_0 : List UInt8 := [42, 180, 0, 103, 42, 180, 0, 25, 16, 8, 46, 184, 1, 74, 100, 172]
abbrev dktX3_unbarred_0 : List UInt8 := dkwX3_unbarred_0 ++ []
theorem dksX3_unbarred_0 : cX3_unbarred.data.toList.drop 0 = dktX3_unbarred_0 := by decide +kernel
theorem dX3_unbarred_0 : decode cX3_unbarred 0 = .ok (.aload_n 0, 1) := dk_42 (dk_at dksX3_unbarred_0 0 rfl rfl)
theorem dX3_unbarred_1 : decode cX3_unbarred 1 = .ok (.getfield 103, 3) := dk_180 0 103 (dk_at dksX3_unbarred_0 1 rfl rfl)
theorem dX3_unbarred_4 : decode cX3_unbarred 4 = .ok (.aload_n 0, 1) := dk_42 (dk_at dksX3_unbarred_0 4 rfl rfl)
theorem dX3_unbarred_5 : decode cX3_unbarred 5 = .ok (.getfield 25, 3) := dk_180 0 25 (dk_at dksX3_unbarred_0 5 rfl rfl)
theorem dX3_unbarred_8 : decode cX3_unbarred 8 = .ok (.bipush 8, 2) := dk_16 8 (dk_at dksX3_unbarred_0 8 rfl rfl)
theorem dX3_unbarred_10 : decode cX3_unbarred 10 = .ok (.iaload, 1) := dk_46 (dk_at dksX3_unbarred_0 10 rfl rfl)
theorem dX3_unbarred_11 : decode cX3_unbarred 11 = .ok (.invokestatic 330, 3) := dk_184 1 74 (dk_at dksX3_unbarred_0 11 rfl rfl)
theorem dX3_unbarred_14 : decode cX3_unbarred 14 = .ok (.isub, 1) := dk_100 (dk_at dksX3_unbarred_0 14 rfl rfl)
theorem dX3_unbarred_15 : decode cX3_unbarred 15 = .ok (.ireturn, 1) := dk_172 (dk_at dksX3_unbarred_0 15 rfl rfl)
abbrev cX3_ones : ByteArray := prog_13_method_7_code
def yX3_ones : MethodName := ⟨RX3, "ones", "(I)I"⟩
def dkwX3_ones_1 : List UInt8 := [27, 172]
abbrev dktX3_ones_1 : List UInt8 := dkwX3_ones_1 ++ []
def dkwX3_ones_0 : List UInt8 := [3, 60, 3, 61, 28, 16, 16, 162, 0, 17, 27, 26, 28, 122, 4, 126, 96, 60, 132, 2, 1, 167, 255, 239]
abbrev dktX3_ones_0 : List UInt8 := dkwX3_ones_0 ++ dktX3_ones_1
theorem dksX3_ones_0 : cX3_ones.data.toList.drop 0 = dktX3_ones_0 := by decide +kernel
theorem dksX3_ones_1 : cX3_ones.data.toList.drop 24 = dktX3_ones_1 := dk_seg dksX3_ones_0 24 rfl rfl
theorem dX3_ones_0 : decode cX3_ones 0 = .ok (.iconst 0, 1) := dk_3 (dk_at dksX3_ones_0 0 rfl rfl)
theorem dX3_ones_1 : decode cX3_ones 1 = .ok (.istore_n 1, 1) := dk_60 (dk_at dksX3_ones_0 1 rfl rfl)
theorem dX3_ones_2 : decode cX3_ones 2 = .ok (.iconst 0, 1) := dk_3 (dk_at dksX3_ones_0 2 rfl rfl)
theorem dX3_ones_3 : decode cX3_ones 3 = .ok (.istore_n 2, 1) := dk_61 (dk_at dksX3_ones_0 3 rfl rfl)
theorem dX3_ones_4 : decode cX3_ones 4 = .ok (.iload_n 2, 1) := dk_28 (dk_at dksX3_ones_0 4 rfl rfl)
theorem dX3_ones_5 : decode cX3_ones 5 = .ok (.bipush 16, 2) := dk_16 16 (dk_at dksX3_ones_0 5 rfl rfl)
theorem dX3_ones_7 : decode cX3_ones 7 = .ok (.if_icmp .ge 17, 3) := dk_162 0 17 (dk_at dksX3_ones_0 7 rfl rfl)
theorem dX3_ones_10 : decode cX3_ones 10 = .ok (.iload_n 1, 1) := dk_27 (dk_at dksX3_ones_0 10 rfl rfl)
theorem dX3_ones_11 : decode cX3_ones 11 = .ok (.iload_n 0, 1) := dk_26 (dk_at dksX3_ones_0 11 rfl rfl)
theorem dX3_ones_12 : decode cX3_ones 12 = .ok (.iload_n 2, 1) := dk_28 (dk_at dksX3_ones_0 12 rfl rfl)
theorem dX3_ones_13 : decode cX3_ones 13 = .ok (.ishr, 1) := dk_122 (dk_at dksX3_ones_0 13 rfl rfl)
theorem dX3_ones_14 : decode cX3_ones 14 = .ok (.iconst 1, 1) := dk_4 (dk_at dksX3_ones_0 14 rfl rfl)
theorem dX3_ones_15 : decode cX3_ones 15 = .ok (.iand, 1) := dk_126 (dk_at dksX3_ones_0 15 rfl rfl)
theorem dX3_ones_16 : decode cX3_ones 16 = .ok (.iadd, 1) := dk_96 (dk_at dksX3_ones_0 16 rfl rfl)
theorem dX3_ones_17 : decode cX3_ones 17 = .ok (.istore_n 1, 1) := dk_60 (dk_at dksX3_ones_0 17 rfl rfl)
theorem dX3_ones_18 : decode cX3_ones 18 = .ok (.iinc 2 1, 3) := dk_132 2 1 (dk_at dksX3_ones_0 18 rfl rfl)
theorem dX3_ones_21 : decode cX3_ones 21 = .ok (.goto (-17), 3) := dk_167 255 239 (dk_at dksX3_ones_0 21 rfl rfl)
theorem dX3_ones_24 : decode cX3_ones 24 = .ok (.iload_n 1, 1) := dk_27 (dk_at dksX3_ones_1 0 rfl rfl)
theorem dX3_ones_25 : decode cX3_ones 25 = .ok (.ireturn, 1) := dk_172 (dk_at dksX3_ones_1 1 rfl rfl)
abbrev cX3_layWorth : ByteArray := prog_13_method_78_code
def yX3_layWorth : MethodName := ⟨RX3, "layWorth", "()V"⟩
def dkwX3_layWorth_2 : List UInt8 := [167, 255, 220, 177]
abbrev dktX3_layWorth_2 : List UInt8 := dkwX3_layWorth_2 ++ []
def dkwX3_layWorth_1 : List UInt8 := [182, 1, 80, 181, 0, 191, 42, 182, 0, 205, 42, 180, 0, 96, 27, 42, 182, 0, 208, 80, 132, 1, 1]
abbrev dktX3_layWorth_1 : List UInt8 := dkwX3_layWorth_1 ++ dktX3_layWorth_2
def dkwX3_layWorth_0 : List UInt8 := [42, 42, 180, 0, 25, 182, 0, 202, 3, 60, 27, 4, 42, 182, 1, 77, 120, 162, 0, 32, 42, 42, 27]
abbrev dktX3_layWorth_0 : List UInt8 := dkwX3_layWorth_0 ++ dktX3_layWorth_1
theorem dksX3_layWorth_0 : cX3_layWorth.data.toList.drop 0 = dktX3_layWorth_0 := by decide +kernel
theorem dksX3_layWorth_1 : cX3_layWorth.data.toList.drop 23 = dktX3_layWorth_1 := dk_seg dksX3_layWorth_0 23 rfl rfl
theorem dksX3_layWorth_2 : cX3_layWorth.data.toList.drop 46 = dktX3_layWorth_2 := dk_seg dksX3_layWorth_1 23 rfl rfl
theorem dX3_layWorth_0 : decode cX3_layWorth 0 = .ok (.aload_n 0, 1) := dk_42 (dk_at dksX3_layWorth_0 0 rfl rfl)
theorem dX3_layWorth_1 : decode cX3_layWorth 1 = .ok (.aload_n 0, 1) := dk_42 (dk_at dksX3_layWorth_0 1 rfl rfl)
theorem dX3_layWorth_2 : decode cX3_layWorth 2 = .ok (.getfield 25, 3) := dk_180 0 25 (dk_at dksX3_layWorth_0 2 rfl rfl)
theorem dX3_layWorth_5 : decode cX3_layWorth 5 = .ok (.invokevirtual 202, 3) := dk_182 0 202 (dk_at dksX3_layWorth_0 5 rfl rfl)
theorem dX3_layWorth_8 : decode cX3_layWorth 8 = .ok (.iconst 0, 1) := dk_3 (dk_at dksX3_layWorth_0 8 rfl rfl)
theorem dX3_layWorth_9 : decode cX3_layWorth 9 = .ok (.istore_n 1, 1) := dk_60 (dk_at dksX3_layWorth_0 9 rfl rfl)
theorem dX3_layWorth_10 : decode cX3_layWorth 10 = .ok (.iload_n 1, 1) := dk_27 (dk_at dksX3_layWorth_0 10 rfl rfl)
theorem dX3_layWorth_11 : decode cX3_layWorth 11 = .ok (.iconst 1, 1) := dk_4 (dk_at dksX3_layWorth_0 11 rfl rfl)
theorem dX3_layWorth_12 : decode cX3_layWorth 12 = .ok (.aload_n 0, 1) := dk_42 (dk_at dksX3_layWorth_0 12 rfl rfl)
theorem dX3_layWorth_13 : decode cX3_layWorth 13 = .ok (.invokevirtual 333, 3) := dk_182 1 77 (dk_at dksX3_layWorth_0 13 rfl rfl)
theorem dX3_layWorth_16 : decode cX3_layWorth 16 = .ok (.ishl, 1) := dk_120 (dk_at dksX3_layWorth_0 16 rfl rfl)
theorem dX3_layWorth_17 : decode cX3_layWorth 17 = .ok (.if_icmp .ge 32, 3) := dk_162 0 32 (dk_at dksX3_layWorth_0 17 rfl rfl)
theorem dX3_layWorth_20 : decode cX3_layWorth 20 = .ok (.aload_n 0, 1) := dk_42 (dk_at dksX3_layWorth_0 20 rfl rfl)
theorem dX3_layWorth_21 : decode cX3_layWorth 21 = .ok (.aload_n 0, 1) := dk_42 (dk_at dksX3_layWorth_0 21 rfl rfl)
theorem dX3_layWorth_22 : decode cX3_layWorth 22 = .ok (.iload_n 1, 1) := dk_27 (dk_at dksX3_layWorth_0 22 rfl rfl)
theorem dX3_layWorth_23 : decode cX3_layWorth 23 = .ok (.invokevirtual 336, 3) := dk_182 1 80 (dk_at dksX3_layWorth_1 0 rfl rfl)
theorem dX3_layWorth_26 : decode cX3_layWorth 26 = .ok (.putfield 191, 3) := dk_181 0 191 (dk_at dksX3_layWorth_1 3 rfl rfl)
theorem dX3_layWorth_29 : decode cX3_layWorth 29 = .ok (.aload_n 0, 1) := dk_42 (dk_at dksX3_layWorth_1 6 rfl rfl)
theorem dX3_layWorth_30 : decode cX3_layWorth 30 = .ok (.invokevirtual 205, 3) := dk_182 0 205 (dk_at dksX3_layWorth_1 7 rfl rfl)
theorem dX3_layWorth_33 : decode cX3_layWorth 33 = .ok (.aload_n 0, 1) := dk_42 (dk_at dksX3_layWorth_1 10 rfl rfl)
theorem dX3_layWorth_34 : decode cX3_layWorth 34 = .ok (.getfield 96, 3) := dk_180 0 96 (dk_at dksX3_layWorth_1 11 rfl rfl)
theorem dX3_layWorth_37 : decode cX3_layWorth 37 = .ok (.iload_n 1, 1) := dk_27 (dk_at dksX3_layWorth_1 14 rfl rfl)
theorem dX3_layWorth_38 : decode cX3_layWorth 38 = .ok (.aload_n 0, 1) := dk_42 (dk_at dksX3_layWorth_1 15 rfl rfl)
theorem dX3_layWorth_39 : decode cX3_layWorth 39 = .ok (.invokevirtual 208, 3) := dk_182 0 208 (dk_at dksX3_layWorth_1 16 rfl rfl)
theorem dX3_layWorth_42 : decode cX3_layWorth 42 = .ok (.lastore, 1) := dk_80 (dk_at dksX3_layWorth_1 19 rfl rfl)
theorem dX3_layWorth_43 : decode cX3_layWorth 43 = .ok (.iinc 1 1, 3) := dk_132 1 1 (dk_at dksX3_layWorth_1 20 rfl rfl)
theorem dX3_layWorth_46 : decode cX3_layWorth 46 = .ok (.goto (-36), 3) := dk_167 255 220 (dk_at dksX3_layWorth_2 0 rfl rfl)
theorem dX3_layWorth_49 : decode cX3_layWorth 49 = .ok (.return_, 1) := dk_177 (dk_at dksX3_layWorth_2 3 rfl rfl)
abbrev cX3_someOf : ByteArray := prog_13_method_76_code
def yX3_someOf : MethodName := ⟨RX3, "someOf", "(I)I"⟩
def dkwX3_someOf_2 : List UInt8 := [3, 128, 61, 132, 3, 1, 132, 4, 1, 167, 255, 207, 28, 172]
abbrev dktX3_someOf_2 : List UInt8 := dkwX3_someOf_2 ++ []
def dkwX3_someOf_1 : List UInt8 := [21, 4, 184, 0, 149, 154, 0, 25, 28, 27, 29, 184, 0, 149, 153, 0, 10, 4, 21, 4, 120, 167, 0, 4]
abbrev dktX3_someOf_1 : List UInt8 := dkwX3_someOf_1 ++ dktX3_someOf_2
def dkwX3_someOf_0 : List UInt8 := [3, 61, 3, 62, 3, 54, 4, 21, 4, 42, 180, 0, 103, 162, 0, 46, 42, 180, 0, 25, 16, 8, 46]
abbrev dktX3_someOf_0 : List UInt8 := dkwX3_someOf_0 ++ dktX3_someOf_1
theorem dksX3_someOf_0 : cX3_someOf.data.toList.drop 0 = dktX3_someOf_0 := by decide +kernel
theorem dksX3_someOf_1 : cX3_someOf.data.toList.drop 23 = dktX3_someOf_1 := dk_seg dksX3_someOf_0 23 rfl rfl
theorem dksX3_someOf_2 : cX3_someOf.data.toList.drop 47 = dktX3_someOf_2 := dk_seg dksX3_someOf_1 24 rfl rfl
theorem dX3_someOf_0 : decode cX3_someOf 0 = .ok (.iconst 0, 1) := dk_3 (dk_at dksX3_someOf_0 0 rfl rfl)
theorem dX3_someOf_1 : decode cX3_someOf 1 = .ok (.istore_n 2, 1) := dk_61 (dk_at dksX3_someOf_0 1 rfl rfl)
theorem dX3_someOf_2 : decode cX3_someOf 2 = .ok (.iconst 0, 1) := dk_3 (dk_at dksX3_someOf_0 2 rfl rfl)
theorem dX3_someOf_3 : decode cX3_someOf 3 = .ok (.istore_n 3, 1) := dk_62 (dk_at dksX3_someOf_0 3 rfl rfl)
theorem dX3_someOf_4 : decode cX3_someOf 4 = .ok (.iconst 0, 1) := dk_3 (dk_at dksX3_someOf_0 4 rfl rfl)
theorem dX3_someOf_5 : decode cX3_someOf 5 = .ok (.istore 4, 2) := dk_54 4 (dk_at dksX3_someOf_0 5 rfl rfl)
theorem dX3_someOf_7 : decode cX3_someOf 7 = .ok (.iload 4, 2) := dk_21 4 (dk_at dksX3_someOf_0 7 rfl rfl)
theorem dX3_someOf_9 : decode cX3_someOf 9 = .ok (.aload_n 0, 1) := dk_42 (dk_at dksX3_someOf_0 9 rfl rfl)
theorem dX3_someOf_10 : decode cX3_someOf 10 = .ok (.getfield 103, 3) := dk_180 0 103 (dk_at dksX3_someOf_0 10 rfl rfl)
theorem dX3_someOf_13 : decode cX3_someOf 13 = .ok (.if_icmp .ge 46, 3) := dk_162 0 46 (dk_at dksX3_someOf_0 13 rfl rfl)
theorem dX3_someOf_16 : decode cX3_someOf 16 = .ok (.aload_n 0, 1) := dk_42 (dk_at dksX3_someOf_0 16 rfl rfl)
theorem dX3_someOf_17 : decode cX3_someOf 17 = .ok (.getfield 25, 3) := dk_180 0 25 (dk_at dksX3_someOf_0 17 rfl rfl)
theorem dX3_someOf_20 : decode cX3_someOf 20 = .ok (.bipush 8, 2) := dk_16 8 (dk_at dksX3_someOf_0 20 rfl rfl)
theorem dX3_someOf_22 : decode cX3_someOf 22 = .ok (.iaload, 1) := dk_46 (dk_at dksX3_someOf_0 22 rfl rfl)
theorem dX3_someOf_23 : decode cX3_someOf 23 = .ok (.iload 4, 2) := dk_21 4 (dk_at dksX3_someOf_1 0 rfl rfl)
theorem dX3_someOf_25 : decode cX3_someOf 25 = .ok (.invokestatic 149, 3) := dk_184 0 149 (dk_at dksX3_someOf_1 2 rfl rfl)
theorem dX3_someOf_28 : decode cX3_someOf 28 = .ok (.ifCond .ne 25, 3) := dk_154 0 25 (dk_at dksX3_someOf_1 5 rfl rfl)
theorem dX3_someOf_31 : decode cX3_someOf 31 = .ok (.iload_n 2, 1) := dk_28 (dk_at dksX3_someOf_1 8 rfl rfl)
theorem dX3_someOf_32 : decode cX3_someOf 32 = .ok (.iload_n 1, 1) := dk_27 (dk_at dksX3_someOf_1 9 rfl rfl)
theorem dX3_someOf_33 : decode cX3_someOf 33 = .ok (.iload_n 3, 1) := dk_29 (dk_at dksX3_someOf_1 10 rfl rfl)
theorem dX3_someOf_34 : decode cX3_someOf 34 = .ok (.invokestatic 149, 3) := dk_184 0 149 (dk_at dksX3_someOf_1 11 rfl rfl)
theorem dX3_someOf_37 : decode cX3_someOf 37 = .ok (.ifCond .eq 10, 3) := dk_153 0 10 (dk_at dksX3_someOf_1 14 rfl rfl)
theorem dX3_someOf_40 : decode cX3_someOf 40 = .ok (.iconst 1, 1) := dk_4 (dk_at dksX3_someOf_1 17 rfl rfl)
theorem dX3_someOf_41 : decode cX3_someOf 41 = .ok (.iload 4, 2) := dk_21 4 (dk_at dksX3_someOf_1 18 rfl rfl)
theorem dX3_someOf_43 : decode cX3_someOf 43 = .ok (.ishl, 1) := dk_120 (dk_at dksX3_someOf_1 20 rfl rfl)
theorem dX3_someOf_44 : decode cX3_someOf 44 = .ok (.goto 4, 3) := dk_167 0 4 (dk_at dksX3_someOf_1 21 rfl rfl)
theorem dX3_someOf_47 : decode cX3_someOf 47 = .ok (.iconst 0, 1) := dk_3 (dk_at dksX3_someOf_2 0 rfl rfl)
theorem dX3_someOf_48 : decode cX3_someOf 48 = .ok (.ior, 1) := dk_128 (dk_at dksX3_someOf_2 1 rfl rfl)
theorem dX3_someOf_49 : decode cX3_someOf 49 = .ok (.istore_n 2, 1) := dk_61 (dk_at dksX3_someOf_2 2 rfl rfl)
theorem dX3_someOf_50 : decode cX3_someOf 50 = .ok (.iinc 3 1, 3) := dk_132 3 1 (dk_at dksX3_someOf_2 3 rfl rfl)
theorem dX3_someOf_53 : decode cX3_someOf 53 = .ok (.iinc 4 1, 3) := dk_132 4 1 (dk_at dksX3_someOf_2 6 rfl rfl)
theorem dX3_someOf_56 : decode cX3_someOf 56 = .ok (.goto (-49), 3) := dk_167 255 207 (dk_at dksX3_someOf_2 9 rfl rfl)
theorem dX3_someOf_59 : decode cX3_someOf 59 = .ok (.iload_n 2, 1) := dk_28 (dk_at dksX3_someOf_2 12 rfl rfl)
theorem dX3_someOf_60 : decode cX3_someOf 60 = .ok (.ireturn, 1) := dk_172 (dk_at dksX3_someOf_2 13 rfl rfl)
abbrev cX3_factorial : ByteArray := prog_13_method_9_code
def yX3_factorial : MethodName := ⟨RX3, "factorial", "(I)I"⟩
def dkwX3_factorial_0 : List UInt8 := [4, 60, 5, 61, 28, 26, 163, 0, 13, 27, 28, 104, 60, 132, 2, 1, 167, 255, 244, 27, 172]
abbrev dktX3_factorial_0 : List UInt8 := dkwX3_factorial_0 ++ []
theorem dksX3_factorial_0 : cX3_factorial.data.toList.drop 0 = dktX3_factorial_0 := by decide +kernel
theorem dX3_factorial_0 : decode cX3_factorial 0 = .ok (.iconst 1, 1) := dk_4 (dk_at dksX3_factorial_0 0 rfl rfl)
theorem dX3_factorial_1 : decode cX3_factorial 1 = .ok (.istore_n 1, 1) := dk_60 (dk_at dksX3_factorial_0 1 rfl rfl)
theorem dX3_factorial_2 : decode cX3_factorial 2 = .ok (.iconst 2, 1) := dk_5 (dk_at dksX3_factorial_0 2 rfl rfl)
theorem dX3_factorial_3 : decode cX3_factorial 3 = .ok (.istore_n 2, 1) := dk_61 (dk_at dksX3_factorial_0 3 rfl rfl)
theorem dX3_factorial_4 : decode cX3_factorial 4 = .ok (.iload_n 2, 1) := dk_28 (dk_at dksX3_factorial_0 4 rfl rfl)
theorem dX3_factorial_5 : decode cX3_factorial 5 = .ok (.iload_n 0, 1) := dk_26 (dk_at dksX3_factorial_0 5 rfl rfl)
theorem dX3_factorial_6 : decode cX3_factorial 6 = .ok (.if_icmp .gt 13, 3) := dk_163 0 13 (dk_at dksX3_factorial_0 6 rfl rfl)
theorem dX3_factorial_9 : decode cX3_factorial 9 = .ok (.iload_n 1, 1) := dk_27 (dk_at dksX3_factorial_0 9 rfl rfl)
theorem dX3_factorial_10 : decode cX3_factorial 10 = .ok (.iload_n 2, 1) := dk_28 (dk_at dksX3_factorial_0 10 rfl rfl)
theorem dX3_factorial_11 : decode cX3_factorial 11 = .ok (.imul, 1) := dk_104 (dk_at dksX3_factorial_0 11 rfl rfl)
theorem dX3_factorial_12 : decode cX3_factorial 12 = .ok (.istore_n 1, 1) := dk_60 (dk_at dksX3_factorial_0 12 rfl rfl)
theorem dX3_factorial_13 : decode cX3_factorial 13 = .ok (.iinc 2 1, 3) := dk_132 2 1 (dk_at dksX3_factorial_0 13 rfl rfl)
theorem dX3_factorial_16 : decode cX3_factorial 16 = .ok (.goto (-12), 3) := dk_167 255 244 (dk_at dksX3_factorial_0 16 rfl rfl)
theorem dX3_factorial_19 : decode cX3_factorial 19 = .ok (.iload_n 1, 1) := dk_27 (dk_at dksX3_factorial_0 19 rfl rfl)
theorem dX3_factorial_20 : decode cX3_factorial 20 = .ok (.ireturn, 1) := dk_172 (dk_at dksX3_factorial_0 20 rfl rfl)
abbrev cX3_bitOf : ByteArray := prog_13_method_80_code
def yX3_bitOf : MethodName := ⟨RX3, "bitOf", "(I)I"⟩
def dkwX3_bitOf_1 : List UInt8 := [3, 167, 0, 4, 4, 96, 61, 132, 3, 1, 167, 255, 226, 4, 28, 120, 172]
abbrev dktX3_bitOf_1 : List UInt8 := dkwX3_bitOf_1 ++ []
def dkwX3_bitOf_0 : List UInt8 := [3, 61, 3, 62, 29, 27, 162, 0, 31, 28, 42, 180, 0, 25, 16, 8, 46, 29, 184, 0, 149, 153, 0, 7]
abbrev dktX3_bitOf_0 : List UInt8 := dkwX3_bitOf_0 ++ dktX3_bitOf_1
theorem dksX3_bitOf_0 : cX3_bitOf.data.toList.drop 0 = dktX3_bitOf_0 := by decide +kernel
theorem dksX3_bitOf_1 : cX3_bitOf.data.toList.drop 24 = dktX3_bitOf_1 := dk_seg dksX3_bitOf_0 24 rfl rfl
theorem dX3_bitOf_0 : decode cX3_bitOf 0 = .ok (.iconst 0, 1) := dk_3 (dk_at dksX3_bitOf_0 0 rfl rfl)
theorem dX3_bitOf_1 : decode cX3_bitOf 1 = .ok (.istore_n 2, 1) := dk_61 (dk_at dksX3_bitOf_0 1 rfl rfl)
theorem dX3_bitOf_2 : decode cX3_bitOf 2 = .ok (.iconst 0, 1) := dk_3 (dk_at dksX3_bitOf_0 2 rfl rfl)
theorem dX3_bitOf_3 : decode cX3_bitOf 3 = .ok (.istore_n 3, 1) := dk_62 (dk_at dksX3_bitOf_0 3 rfl rfl)
theorem dX3_bitOf_4 : decode cX3_bitOf 4 = .ok (.iload_n 3, 1) := dk_29 (dk_at dksX3_bitOf_0 4 rfl rfl)
theorem dX3_bitOf_5 : decode cX3_bitOf 5 = .ok (.iload_n 1, 1) := dk_27 (dk_at dksX3_bitOf_0 5 rfl rfl)
theorem dX3_bitOf_6 : decode cX3_bitOf 6 = .ok (.if_icmp .ge 31, 3) := dk_162 0 31 (dk_at dksX3_bitOf_0 6 rfl rfl)
theorem dX3_bitOf_9 : decode cX3_bitOf 9 = .ok (.iload_n 2, 1) := dk_28 (dk_at dksX3_bitOf_0 9 rfl rfl)
theorem dX3_bitOf_10 : decode cX3_bitOf 10 = .ok (.aload_n 0, 1) := dk_42 (dk_at dksX3_bitOf_0 10 rfl rfl)
theorem dX3_bitOf_11 : decode cX3_bitOf 11 = .ok (.getfield 25, 3) := dk_180 0 25 (dk_at dksX3_bitOf_0 11 rfl rfl)
theorem dX3_bitOf_14 : decode cX3_bitOf 14 = .ok (.bipush 8, 2) := dk_16 8 (dk_at dksX3_bitOf_0 14 rfl rfl)
theorem dX3_bitOf_16 : decode cX3_bitOf 16 = .ok (.iaload, 1) := dk_46 (dk_at dksX3_bitOf_0 16 rfl rfl)
theorem dX3_bitOf_17 : decode cX3_bitOf 17 = .ok (.iload_n 3, 1) := dk_29 (dk_at dksX3_bitOf_0 17 rfl rfl)
theorem dX3_bitOf_18 : decode cX3_bitOf 18 = .ok (.invokestatic 149, 3) := dk_184 0 149 (dk_at dksX3_bitOf_0 18 rfl rfl)
theorem dX3_bitOf_21 : decode cX3_bitOf 21 = .ok (.ifCond .eq 7, 3) := dk_153 0 7 (dk_at dksX3_bitOf_0 21 rfl rfl)
theorem dX3_bitOf_24 : decode cX3_bitOf 24 = .ok (.iconst 0, 1) := dk_3 (dk_at dksX3_bitOf_1 0 rfl rfl)
theorem dX3_bitOf_25 : decode cX3_bitOf 25 = .ok (.goto 4, 3) := dk_167 0 4 (dk_at dksX3_bitOf_1 1 rfl rfl)
theorem dX3_bitOf_28 : decode cX3_bitOf 28 = .ok (.iconst 1, 1) := dk_4 (dk_at dksX3_bitOf_1 4 rfl rfl)
theorem dX3_bitOf_29 : decode cX3_bitOf 29 = .ok (.iadd, 1) := dk_96 (dk_at dksX3_bitOf_1 5 rfl rfl)
theorem dX3_bitOf_30 : decode cX3_bitOf 30 = .ok (.istore_n 2, 1) := dk_61 (dk_at dksX3_bitOf_1 6 rfl rfl)
theorem dX3_bitOf_31 : decode cX3_bitOf 31 = .ok (.iinc 3 1, 3) := dk_132 3 1 (dk_at dksX3_bitOf_1 7 rfl rfl)
theorem dX3_bitOf_34 : decode cX3_bitOf 34 = .ok (.goto (-30), 3) := dk_167 255 226 (dk_at dksX3_bitOf_1 10 rfl rfl)
theorem dX3_bitOf_37 : decode cX3_bitOf 37 = .ok (.iconst 1, 1) := dk_4 (dk_at dksX3_bitOf_1 13 rfl rfl)
theorem dX3_bitOf_38 : decode cX3_bitOf 38 = .ok (.iload_n 2, 1) := dk_28 (dk_at dksX3_bitOf_1 14 rfl rfl)
theorem dX3_bitOf_39 : decode cX3_bitOf 39 = .ok (.ishl, 1) := dk_120 (dk_at dksX3_bitOf_1 15 rfl rfl)
theorem dX3_bitOf_40 : decode cX3_bitOf 40 = .ok (.ireturn, 1) := dk_172 (dk_at dksX3_bitOf_1 16 rfl rfl)
abbrev cX3_fraction : ByteArray := prog_13_method_10_code
def yX3_fraction : MethodName := ⟨RX3, "fraction", "(JJZ)J"⟩
def dkwX3_fraction_2 : List UInt8 := [22, 5, 109, 167, 0, 7, 32, 22, 5, 109, 173]
abbrev dktX3_fraction_2 : List UInt8 := dkwX3_fraction_2 ++ []
def dkwX3_fraction_1 : List UInt8 := [22, 5, 22, 7, 113, 55, 9, 22, 7, 55, 5, 22, 9, 55, 7, 167, 255, 234, 21, 4, 153, 0, 10, 30]
abbrev dktX3_fraction_1 : List UInt8 := dkwX3_fraction_1 ++ dktX3_fraction_2
def dkwX3_fraction_0 : List UInt8 := [30, 9, 148, 156, 0, 8, 30, 117, 167, 0, 4, 30, 55, 5, 32, 55, 7, 22, 7, 9, 148, 153, 0, 21]
abbrev dktX3_fraction_0 : List UInt8 := dkwX3_fraction_0 ++ dktX3_fraction_1
theorem dksX3_fraction_0 : cX3_fraction.data.toList.drop 0 = dktX3_fraction_0 := by decide +kernel
theorem dksX3_fraction_1 : cX3_fraction.data.toList.drop 24 = dktX3_fraction_1 := dk_seg dksX3_fraction_0 24 rfl rfl
theorem dksX3_fraction_2 : cX3_fraction.data.toList.drop 48 = dktX3_fraction_2 := dk_seg dksX3_fraction_1 24 rfl rfl
theorem dX3_fraction_0 : decode cX3_fraction 0 = .ok (.lload_n 0, 1) := dk_30 (dk_at dksX3_fraction_0 0 rfl rfl)
theorem dX3_fraction_1 : decode cX3_fraction 1 = .ok (.lconst 0, 1) := dk_9 (dk_at dksX3_fraction_0 1 rfl rfl)
theorem dX3_fraction_2 : decode cX3_fraction 2 = .ok (.lcmp, 1) := dk_148 (dk_at dksX3_fraction_0 2 rfl rfl)
theorem dX3_fraction_3 : decode cX3_fraction 3 = .ok (.ifCond .ge 8, 3) := dk_156 0 8 (dk_at dksX3_fraction_0 3 rfl rfl)
theorem dX3_fraction_6 : decode cX3_fraction 6 = .ok (.lload_n 0, 1) := dk_30 (dk_at dksX3_fraction_0 6 rfl rfl)
theorem dX3_fraction_7 : decode cX3_fraction 7 = .ok (.lneg, 1) := dk_117 (dk_at dksX3_fraction_0 7 rfl rfl)
theorem dX3_fraction_8 : decode cX3_fraction 8 = .ok (.goto 4, 3) := dk_167 0 4 (dk_at dksX3_fraction_0 8 rfl rfl)
theorem dX3_fraction_11 : decode cX3_fraction 11 = .ok (.lload_n 0, 1) := dk_30 (dk_at dksX3_fraction_0 11 rfl rfl)
theorem dX3_fraction_12 : decode cX3_fraction 12 = .ok (.lstore 5, 2) := dk_55 5 (dk_at dksX3_fraction_0 12 rfl rfl)
theorem dX3_fraction_14 : decode cX3_fraction 14 = .ok (.lload_n 2, 1) := dk_32 (dk_at dksX3_fraction_0 14 rfl rfl)
theorem dX3_fraction_15 : decode cX3_fraction 15 = .ok (.lstore 7, 2) := dk_55 7 (dk_at dksX3_fraction_0 15 rfl rfl)
theorem dX3_fraction_17 : decode cX3_fraction 17 = .ok (.lload 7, 2) := dk_22 7 (dk_at dksX3_fraction_0 17 rfl rfl)
theorem dX3_fraction_19 : decode cX3_fraction 19 = .ok (.lconst 0, 1) := dk_9 (dk_at dksX3_fraction_0 19 rfl rfl)
theorem dX3_fraction_20 : decode cX3_fraction 20 = .ok (.lcmp, 1) := dk_148 (dk_at dksX3_fraction_0 20 rfl rfl)
theorem dX3_fraction_21 : decode cX3_fraction 21 = .ok (.ifCond .eq 21, 3) := dk_153 0 21 (dk_at dksX3_fraction_0 21 rfl rfl)
theorem dX3_fraction_24 : decode cX3_fraction 24 = .ok (.lload 5, 2) := dk_22 5 (dk_at dksX3_fraction_1 0 rfl rfl)
theorem dX3_fraction_26 : decode cX3_fraction 26 = .ok (.lload 7, 2) := dk_22 7 (dk_at dksX3_fraction_1 2 rfl rfl)
theorem dX3_fraction_28 : decode cX3_fraction 28 = .ok (.lrem, 1) := dk_113 (dk_at dksX3_fraction_1 4 rfl rfl)
theorem dX3_fraction_29 : decode cX3_fraction 29 = .ok (.lstore 9, 2) := dk_55 9 (dk_at dksX3_fraction_1 5 rfl rfl)
theorem dX3_fraction_31 : decode cX3_fraction 31 = .ok (.lload 7, 2) := dk_22 7 (dk_at dksX3_fraction_1 7 rfl rfl)
theorem dX3_fraction_33 : decode cX3_fraction 33 = .ok (.lstore 5, 2) := dk_55 5 (dk_at dksX3_fraction_1 9 rfl rfl)
theorem dX3_fraction_35 : decode cX3_fraction 35 = .ok (.lload 9, 2) := dk_22 9 (dk_at dksX3_fraction_1 11 rfl rfl)
theorem dX3_fraction_37 : decode cX3_fraction 37 = .ok (.lstore 7, 2) := dk_55 7 (dk_at dksX3_fraction_1 13 rfl rfl)
theorem dX3_fraction_39 : decode cX3_fraction 39 = .ok (.goto (-22), 3) := dk_167 255 234 (dk_at dksX3_fraction_1 15 rfl rfl)
theorem dX3_fraction_42 : decode cX3_fraction 42 = .ok (.iload 4, 2) := dk_21 4 (dk_at dksX3_fraction_1 18 rfl rfl)
theorem dX3_fraction_44 : decode cX3_fraction 44 = .ok (.ifCond .eq 10, 3) := dk_153 0 10 (dk_at dksX3_fraction_1 20 rfl rfl)
theorem dX3_fraction_47 : decode cX3_fraction 47 = .ok (.lload_n 0, 1) := dk_30 (dk_at dksX3_fraction_1 23 rfl rfl)
theorem dX3_fraction_48 : decode cX3_fraction 48 = .ok (.lload 5, 2) := dk_22 5 (dk_at dksX3_fraction_2 0 rfl rfl)
theorem dX3_fraction_50 : decode cX3_fraction 50 = .ok (.ldiv, 1) := dk_109 (dk_at dksX3_fraction_2 2 rfl rfl)
theorem dX3_fraction_51 : decode cX3_fraction 51 = .ok (.goto 7, 3) := dk_167 0 7 (dk_at dksX3_fraction_2 3 rfl rfl)
theorem dX3_fraction_54 : decode cX3_fraction 54 = .ok (.lload_n 2, 1) := dk_32 (dk_at dksX3_fraction_2 6 rfl rfl)
theorem dX3_fraction_55 : decode cX3_fraction 55 = .ok (.lload 5, 2) := dk_22 5 (dk_at dksX3_fraction_2 7 rfl rfl)
theorem dX3_fraction_57 : decode cX3_fraction 57 = .ok (.ldiv, 1) := dk_109 (dk_at dksX3_fraction_2 9 rfl rfl)
theorem dX3_fraction_58 : decode cX3_fraction 58 = .ok (.lreturn, 1) := dk_173 (dk_at dksX3_fraction_2 10 rfl rfl)
abbrev cX3_hope : ByteArray := prog_13_method_81_code
def yX3_hope : MethodName := ⟨RX3, "hope", "(IZ)I"⟩
def dkwX3_hope_4 : List UInt8 := [132, 5, 1, 167, 255, 200, 21, 4, 133, 16, 10, 29, 184, 1, 100, 133, 28, 184, 1, 94, 136, 172]
abbrev dktX3_hope_4 : List UInt8 := dkwX3_hope_4 ++ []
def dkwX3_hope_3 : List UInt8 := [184, 1, 100, 27, 29, 21, 5, 184, 1, 74, 100, 184, 1, 100, 104, 167, 0, 4, 3, 96, 54, 4]
abbrev dktX3_hope_3 : List UInt8 := dkwX3_hope_3 ++ dktX3_hope_4
def dkwX3_hope_2 : List UInt8 := [21, 4, 42, 180, 0, 96, 21, 5, 47, 9, 148, 158, 0, 30, 16, 10, 27, 100, 21, 5, 184, 1, 74]
abbrev dktX3_hope_2 : List UInt8 := dkwX3_hope_2 ++ dktX3_hope_3
def dkwX3_hope_1 : List UInt8 := [164, 0, 6, 16, 253, 172, 42, 182, 1, 85, 3, 54, 4, 3, 54, 5, 21, 5, 4, 29, 120, 162, 0, 54]
abbrev dktX3_hope_1 : List UInt8 := dkwX3_hope_1 ++ dktX3_hope_2
def dkwX3_hope_0 : List UInt8 := [27, 133, 9, 20, 1, 98, 184, 0, 107, 154, 0, 6, 16, 254, 172, 42, 182, 1, 77, 62, 29, 16, 8]
abbrev dktX3_hope_0 : List UInt8 := dkwX3_hope_0 ++ dktX3_hope_1
theorem dksX3_hope_0 : cX3_hope.data.toList.drop 0 = dktX3_hope_0 := by decide +kernel
theorem dksX3_hope_1 : cX3_hope.data.toList.drop 23 = dktX3_hope_1 := dk_seg dksX3_hope_0 23 rfl rfl
theorem dksX3_hope_2 : cX3_hope.data.toList.drop 47 = dktX3_hope_2 := dk_seg dksX3_hope_1 24 rfl rfl
theorem dksX3_hope_3 : cX3_hope.data.toList.drop 70 = dktX3_hope_3 := dk_seg dksX3_hope_2 23 rfl rfl
theorem dksX3_hope_4 : cX3_hope.data.toList.drop 92 = dktX3_hope_4 := dk_seg dksX3_hope_3 22 rfl rfl
theorem dX3_hope_0 : decode cX3_hope 0 = .ok (.iload_n 1, 1) := dk_27 (dk_at dksX3_hope_0 0 rfl rfl)
theorem dX3_hope_1 : decode cX3_hope 1 = .ok (.i2l, 1) := dk_133 (dk_at dksX3_hope_0 1 rfl rfl)
theorem dX3_hope_2 : decode cX3_hope 2 = .ok (.lconst 0, 1) := dk_9 (dk_at dksX3_hope_0 2 rfl rfl)
theorem dX3_hope_3 : decode cX3_hope 3 = .ok (.ldc2_w 354, 3) := dk_20 1 98 (dk_at dksX3_hope_0 3 rfl rfl)
theorem dX3_hope_6 : decode cX3_hope 6 = .ok (.invokestatic 107, 3) := dk_184 0 107 (dk_at dksX3_hope_0 6 rfl rfl)
theorem dX3_hope_9 : decode cX3_hope 9 = .ok (.ifCond .ne 6, 3) := dk_154 0 6 (dk_at dksX3_hope_0 9 rfl rfl)
theorem dX3_hope_12 : decode cX3_hope 12 = .ok (.bipush (-2), 2) := dk_16 254 (dk_at dksX3_hope_0 12 rfl rfl)
theorem dX3_hope_14 : decode cX3_hope 14 = .ok (.ireturn, 1) := dk_172 (dk_at dksX3_hope_0 14 rfl rfl)
theorem dX3_hope_15 : decode cX3_hope 15 = .ok (.aload_n 0, 1) := dk_42 (dk_at dksX3_hope_0 15 rfl rfl)
theorem dX3_hope_16 : decode cX3_hope 16 = .ok (.invokevirtual 333, 3) := dk_182 1 77 (dk_at dksX3_hope_0 16 rfl rfl)
theorem dX3_hope_19 : decode cX3_hope 19 = .ok (.istore_n 3, 1) := dk_62 (dk_at dksX3_hope_0 19 rfl rfl)
theorem dX3_hope_20 : decode cX3_hope 20 = .ok (.iload_n 3, 1) := dk_29 (dk_at dksX3_hope_0 20 rfl rfl)
theorem dX3_hope_21 : decode cX3_hope 21 = .ok (.bipush 8, 2) := dk_16 8 (dk_at dksX3_hope_0 21 rfl rfl)
theorem dX3_hope_23 : decode cX3_hope 23 = .ok (.if_icmp .le 6, 3) := dk_164 0 6 (dk_at dksX3_hope_1 0 rfl rfl)
theorem dX3_hope_26 : decode cX3_hope 26 = .ok (.bipush (-3), 2) := dk_16 253 (dk_at dksX3_hope_1 3 rfl rfl)
theorem dX3_hope_28 : decode cX3_hope 28 = .ok (.ireturn, 1) := dk_172 (dk_at dksX3_hope_1 5 rfl rfl)
theorem dX3_hope_29 : decode cX3_hope 29 = .ok (.aload_n 0, 1) := dk_42 (dk_at dksX3_hope_1 6 rfl rfl)
theorem dX3_hope_30 : decode cX3_hope 30 = .ok (.invokevirtual 341, 3) := dk_182 1 85 (dk_at dksX3_hope_1 7 rfl rfl)
theorem dX3_hope_33 : decode cX3_hope 33 = .ok (.iconst 0, 1) := dk_3 (dk_at dksX3_hope_1 10 rfl rfl)
theorem dX3_hope_34 : decode cX3_hope 34 = .ok (.istore 4, 2) := dk_54 4 (dk_at dksX3_hope_1 11 rfl rfl)
theorem dX3_hope_36 : decode cX3_hope 36 = .ok (.iconst 0, 1) := dk_3 (dk_at dksX3_hope_1 13 rfl rfl)
theorem dX3_hope_37 : decode cX3_hope 37 = .ok (.istore 5, 2) := dk_54 5 (dk_at dksX3_hope_1 14 rfl rfl)
theorem dX3_hope_39 : decode cX3_hope 39 = .ok (.iload 5, 2) := dk_21 5 (dk_at dksX3_hope_1 16 rfl rfl)
theorem dX3_hope_41 : decode cX3_hope 41 = .ok (.iconst 1, 1) := dk_4 (dk_at dksX3_hope_1 18 rfl rfl)
theorem dX3_hope_42 : decode cX3_hope 42 = .ok (.iload_n 3, 1) := dk_29 (dk_at dksX3_hope_1 19 rfl rfl)
theorem dX3_hope_43 : decode cX3_hope 43 = .ok (.ishl, 1) := dk_120 (dk_at dksX3_hope_1 20 rfl rfl)
theorem dX3_hope_44 : decode cX3_hope 44 = .ok (.if_icmp .ge 54, 3) := dk_162 0 54 (dk_at dksX3_hope_1 21 rfl rfl)
theorem dX3_hope_47 : decode cX3_hope 47 = .ok (.iload 4, 2) := dk_21 4 (dk_at dksX3_hope_2 0 rfl rfl)
theorem dX3_hope_49 : decode cX3_hope 49 = .ok (.aload_n 0, 1) := dk_42 (dk_at dksX3_hope_2 2 rfl rfl)
theorem dX3_hope_50 : decode cX3_hope 50 = .ok (.getfield 96, 3) := dk_180 0 96 (dk_at dksX3_hope_2 3 rfl rfl)
theorem dX3_hope_53 : decode cX3_hope 53 = .ok (.iload 5, 2) := dk_21 5 (dk_at dksX3_hope_2 6 rfl rfl)
theorem dX3_hope_55 : decode cX3_hope 55 = .ok (.laload, 1) := dk_47 (dk_at dksX3_hope_2 8 rfl rfl)
theorem dX3_hope_56 : decode cX3_hope 56 = .ok (.lconst 0, 1) := dk_9 (dk_at dksX3_hope_2 9 rfl rfl)
theorem dX3_hope_57 : decode cX3_hope 57 = .ok (.lcmp, 1) := dk_148 (dk_at dksX3_hope_2 10 rfl rfl)
theorem dX3_hope_58 : decode cX3_hope 58 = .ok (.ifCond .le 30, 3) := dk_158 0 30 (dk_at dksX3_hope_2 11 rfl rfl)
theorem dX3_hope_61 : decode cX3_hope 61 = .ok (.bipush 10, 2) := dk_16 10 (dk_at dksX3_hope_2 14 rfl rfl)
theorem dX3_hope_63 : decode cX3_hope 63 = .ok (.iload_n 1, 1) := dk_27 (dk_at dksX3_hope_2 16 rfl rfl)
theorem dX3_hope_64 : decode cX3_hope 64 = .ok (.isub, 1) := dk_100 (dk_at dksX3_hope_2 17 rfl rfl)
theorem dX3_hope_65 : decode cX3_hope 65 = .ok (.iload 5, 2) := dk_21 5 (dk_at dksX3_hope_2 18 rfl rfl)
theorem dX3_hope_67 : decode cX3_hope 67 = .ok (.invokestatic 330, 3) := dk_184 1 74 (dk_at dksX3_hope_2 20 rfl rfl)
theorem dX3_hope_70 : decode cX3_hope 70 = .ok (.invokestatic 356, 3) := dk_184 1 100 (dk_at dksX3_hope_3 0 rfl rfl)
theorem dX3_hope_73 : decode cX3_hope 73 = .ok (.iload_n 1, 1) := dk_27 (dk_at dksX3_hope_3 3 rfl rfl)
theorem dX3_hope_74 : decode cX3_hope 74 = .ok (.iload_n 3, 1) := dk_29 (dk_at dksX3_hope_3 4 rfl rfl)
theorem dX3_hope_75 : decode cX3_hope 75 = .ok (.iload 5, 2) := dk_21 5 (dk_at dksX3_hope_3 5 rfl rfl)
theorem dX3_hope_77 : decode cX3_hope 77 = .ok (.invokestatic 330, 3) := dk_184 1 74 (dk_at dksX3_hope_3 7 rfl rfl)
theorem dX3_hope_80 : decode cX3_hope 80 = .ok (.isub, 1) := dk_100 (dk_at dksX3_hope_3 10 rfl rfl)
theorem dX3_hope_81 : decode cX3_hope 81 = .ok (.invokestatic 356, 3) := dk_184 1 100 (dk_at dksX3_hope_3 11 rfl rfl)
theorem dX3_hope_84 : decode cX3_hope 84 = .ok (.imul, 1) := dk_104 (dk_at dksX3_hope_3 14 rfl rfl)
theorem dX3_hope_85 : decode cX3_hope 85 = .ok (.goto 4, 3) := dk_167 0 4 (dk_at dksX3_hope_3 15 rfl rfl)
theorem dX3_hope_88 : decode cX3_hope 88 = .ok (.iconst 0, 1) := dk_3 (dk_at dksX3_hope_3 18 rfl rfl)
theorem dX3_hope_89 : decode cX3_hope 89 = .ok (.iadd, 1) := dk_96 (dk_at dksX3_hope_3 19 rfl rfl)
theorem dX3_hope_90 : decode cX3_hope 90 = .ok (.istore 4, 2) := dk_54 4 (dk_at dksX3_hope_3 20 rfl rfl)
theorem dX3_hope_92 : decode cX3_hope 92 = .ok (.iinc 5 1, 3) := dk_132 5 1 (dk_at dksX3_hope_4 0 rfl rfl)
theorem dX3_hope_95 : decode cX3_hope 95 = .ok (.goto (-56), 3) := dk_167 255 200 (dk_at dksX3_hope_4 3 rfl rfl)
theorem dX3_hope_98 : decode cX3_hope 98 = .ok (.iload 4, 2) := dk_21 4 (dk_at dksX3_hope_4 6 rfl rfl)
theorem dX3_hope_100 : decode cX3_hope 100 = .ok (.i2l, 1) := dk_133 (dk_at dksX3_hope_4 8 rfl rfl)
theorem dX3_hope_101 : decode cX3_hope 101 = .ok (.bipush 10, 2) := dk_16 10 (dk_at dksX3_hope_4 9 rfl rfl)
theorem dX3_hope_103 : decode cX3_hope 103 = .ok (.iload_n 3, 1) := dk_29 (dk_at dksX3_hope_4 11 rfl rfl)
theorem dX3_hope_104 : decode cX3_hope 104 = .ok (.invokestatic 356, 3) := dk_184 1 100 (dk_at dksX3_hope_4 12 rfl rfl)
theorem dX3_hope_107 : decode cX3_hope 107 = .ok (.i2l, 1) := dk_133 (dk_at dksX3_hope_4 15 rfl rfl)
theorem dX3_hope_108 : decode cX3_hope 108 = .ok (.iload_n 2, 1) := dk_28 (dk_at dksX3_hope_4 16 rfl rfl)
theorem dX3_hope_109 : decode cX3_hope 109 = .ok (.invokestatic 350, 3) := dk_184 1 94 (dk_at dksX3_hope_4 17 rfl rfl)
theorem dX3_hope_112 : decode cX3_hope 112 = .ok (.l2i, 1) := dk_136 (dk_at dksX3_hope_4 20 rfl rfl)
theorem dX3_hope_113 : decode cX3_hope 113 = .ok (.ireturn, 1) := dk_172 (dk_at dksX3_hope_4 21 rfl rfl)
abbrev cX3_power : ByteArray := prog_13_method_8_code
def yX3_power : MethodName := ⟨RX3, "power", "(II)I"⟩
def dkwX3_power_0 : List UInt8 := [4, 61, 3, 62, 29, 27, 162, 0, 13, 28, 26, 104, 61, 132, 3, 1, 167, 255, 244, 28, 172]
abbrev dktX3_power_0 : List UInt8 := dkwX3_power_0 ++ []
theorem dksX3_power_0 : cX3_power.data.toList.drop 0 = dktX3_power_0 := by decide +kernel
theorem dX3_power_0 : decode cX3_power 0 = .ok (.iconst 1, 1) := dk_4 (dk_at dksX3_power_0 0 rfl rfl)
theorem dX3_power_1 : decode cX3_power 1 = .ok (.istore_n 2, 1) := dk_61 (dk_at dksX3_power_0 1 rfl rfl)
theorem dX3_power_2 : decode cX3_power 2 = .ok (.iconst 0, 1) := dk_3 (dk_at dksX3_power_0 2 rfl rfl)
theorem dX3_power_3 : decode cX3_power 3 = .ok (.istore_n 3, 1) := dk_62 (dk_at dksX3_power_0 3 rfl rfl)
theorem dX3_power_4 : decode cX3_power 4 = .ok (.iload_n 3, 1) := dk_29 (dk_at dksX3_power_0 4 rfl rfl)
theorem dX3_power_5 : decode cX3_power 5 = .ok (.iload_n 1, 1) := dk_27 (dk_at dksX3_power_0 5 rfl rfl)
theorem dX3_power_6 : decode cX3_power 6 = .ok (.if_icmp .ge 13, 3) := dk_162 0 13 (dk_at dksX3_power_0 6 rfl rfl)
theorem dX3_power_9 : decode cX3_power 9 = .ok (.iload_n 2, 1) := dk_28 (dk_at dksX3_power_0 9 rfl rfl)
theorem dX3_power_10 : decode cX3_power 10 = .ok (.iload_n 0, 1) := dk_26 (dk_at dksX3_power_0 10 rfl rfl)
theorem dX3_power_11 : decode cX3_power 11 = .ok (.imul, 1) := dk_104 (dk_at dksX3_power_0 11 rfl rfl)
theorem dX3_power_12 : decode cX3_power 12 = .ok (.istore_n 2, 1) := dk_61 (dk_at dksX3_power_0 12 rfl rfl)
theorem dX3_power_13 : decode cX3_power 13 = .ok (.iinc 3 1, 3) := dk_132 3 1 (dk_at dksX3_power_0 13 rfl rfl)
theorem dX3_power_16 : decode cX3_power 16 = .ok (.goto (-12), 3) := dk_167 255 244 (dk_at dksX3_power_0 16 rfl rfl)
theorem dX3_power_19 : decode cX3_power 19 = .ok (.iload_n 2, 1) := dk_28 (dk_at dksX3_power_0 19 rfl rfl)
theorem dX3_power_20 : decode cX3_power 20 = .ok (.ireturn, 1) := dk_172 (dk_at dksX3_power_0 20 rfl rfl)
abbrev cX3_seed : ByteArray := prog_13_method_82_code
def yX3_seed : MethodName := ⟨RX3, "seed", "(J)J"⟩
def dkwX3_seed_0 : List UInt8 := [42, 180, 1, 103, 66, 42, 31, 181, 1, 103, 33, 173]
abbrev dktX3_seed_0 : List UInt8 := dkwX3_seed_0 ++ []
theorem dksX3_seed_0 : cX3_seed.data.toList.drop 0 = dktX3_seed_0 := by decide +kernel
theorem dX3_seed_0 : decode cX3_seed 0 = .ok (.aload_n 0, 1) := dk_42 (dk_at dksX3_seed_0 0 rfl rfl)
theorem dX3_seed_1 : decode cX3_seed 1 = .ok (.getfield 359, 3) := dk_180 1 103 (dk_at dksX3_seed_0 1 rfl rfl)
theorem dX3_seed_4 : decode cX3_seed 4 = .ok (.lstore_n 3, 1) := dk_66 (dk_at dksX3_seed_0 4 rfl rfl)
theorem dX3_seed_5 : decode cX3_seed 5 = .ok (.aload_n 0, 1) := dk_42 (dk_at dksX3_seed_0 5 rfl rfl)
theorem dX3_seed_6 : decode cX3_seed 6 = .ok (.lload_n 1, 1) := dk_31 (dk_at dksX3_seed_0 6 rfl rfl)
theorem dX3_seed_7 : decode cX3_seed 7 = .ok (.putfield 359, 3) := dk_181 1 103 (dk_at dksX3_seed_0 7 rfl rfl)
theorem dX3_seed_10 : decode cX3_seed 10 = .ok (.lload_n 3, 1) := dk_33 (dk_at dksX3_seed_0 10 rfl rfl)
theorem dX3_seed_11 : decode cX3_seed 11 = .ok (.lreturn, 1) := dk_173 (dk_at dksX3_seed_0 11 rfl rfl)
abbrev cX3_drawn : ByteArray := prog_13_method_83_code
def yX3_drawn : MethodName := ⟨RX3, "drawn", "(I)I"⟩
def dkwX3_drawn_3 : List UInt8 := [182, 1, 37, 182, 1, 34, 167, 0, 4, 3, 96, 54, 4, 132, 5, 1, 167, 255, 199, 21, 4, 172]
abbrev dktX3_drawn_3 : List UInt8 := dkwX3_drawn_3 ++ []
def dkwX3_drawn_2 : List UInt8 := [97, 181, 1, 103, 21, 4, 32, 9, 148, 158, 0, 23, 42, 42, 42, 180, 1, 103, 16, 33, 125, 32, 113]
abbrev dktX3_drawn_2 : List UInt8 := dkwX3_drawn_2 ++ dktX3_drawn_3
def dkwX3_drawn_1 : List UInt8 := [3, 54, 4, 3, 54, 5, 21, 5, 27, 162, 0, 57, 42, 42, 180, 1, 103, 20, 1, 109, 105, 20, 1, 111]
abbrev dktX3_drawn_1 : List UInt8 := dkwX3_drawn_1 ++ dktX3_drawn_2
def dkwX3_drawn_0 : List UInt8 := [27, 133, 10, 20, 1, 107, 184, 0, 107, 154, 0, 6, 16, 254, 172, 42, 42, 180, 0, 25, 182, 1, 16, 65]
abbrev dktX3_drawn_0 : List UInt8 := dkwX3_drawn_0 ++ dktX3_drawn_1
theorem dksX3_drawn_0 : cX3_drawn.data.toList.drop 0 = dktX3_drawn_0 := by decide +kernel
theorem dksX3_drawn_1 : cX3_drawn.data.toList.drop 24 = dktX3_drawn_1 := dk_seg dksX3_drawn_0 24 rfl rfl
theorem dksX3_drawn_2 : cX3_drawn.data.toList.drop 48 = dktX3_drawn_2 := dk_seg dksX3_drawn_1 24 rfl rfl
theorem dksX3_drawn_3 : cX3_drawn.data.toList.drop 71 = dktX3_drawn_3 := dk_seg dksX3_drawn_2 23 rfl rfl
theorem dX3_drawn_0 : decode cX3_drawn 0 = .ok (.iload_n 1, 1) := dk_27 (dk_at dksX3_drawn_0 0 rfl rfl)
theorem dX3_drawn_1 : decode cX3_drawn 1 = .ok (.i2l, 1) := dk_133 (dk_at dksX3_drawn_0 1 rfl rfl)
theorem dX3_drawn_2 : decode cX3_drawn 2 = .ok (.lconst 1, 1) := dk_10 (dk_at dksX3_drawn_0 2 rfl rfl)
theorem dX3_drawn_3 : decode cX3_drawn 3 = .ok (.ldc2_w 363, 3) := dk_20 1 107 (dk_at dksX3_drawn_0 3 rfl rfl)
theorem dX3_drawn_6 : decode cX3_drawn 6 = .ok (.invokestatic 107, 3) := dk_184 0 107 (dk_at dksX3_drawn_0 6 rfl rfl)
theorem dX3_drawn_9 : decode cX3_drawn 9 = .ok (.ifCond .ne 6, 3) := dk_154 0 6 (dk_at dksX3_drawn_0 9 rfl rfl)
theorem dX3_drawn_12 : decode cX3_drawn 12 = .ok (.bipush (-2), 2) := dk_16 254 (dk_at dksX3_drawn_0 12 rfl rfl)
theorem dX3_drawn_14 : decode cX3_drawn 14 = .ok (.ireturn, 1) := dk_172 (dk_at dksX3_drawn_0 14 rfl rfl)
theorem dX3_drawn_15 : decode cX3_drawn 15 = .ok (.aload_n 0, 1) := dk_42 (dk_at dksX3_drawn_0 15 rfl rfl)
theorem dX3_drawn_16 : decode cX3_drawn 16 = .ok (.aload_n 0, 1) := dk_42 (dk_at dksX3_drawn_0 16 rfl rfl)
theorem dX3_drawn_17 : decode cX3_drawn 17 = .ok (.getfield 25, 3) := dk_180 0 25 (dk_at dksX3_drawn_0 17 rfl rfl)
theorem dX3_drawn_20 : decode cX3_drawn 20 = .ok (.invokevirtual 272, 3) := dk_182 1 16 (dk_at dksX3_drawn_0 20 rfl rfl)
theorem dX3_drawn_23 : decode cX3_drawn 23 = .ok (.lstore_n 2, 1) := dk_65 (dk_at dksX3_drawn_0 23 rfl rfl)
theorem dX3_drawn_24 : decode cX3_drawn 24 = .ok (.iconst 0, 1) := dk_3 (dk_at dksX3_drawn_1 0 rfl rfl)
theorem dX3_drawn_25 : decode cX3_drawn 25 = .ok (.istore 4, 2) := dk_54 4 (dk_at dksX3_drawn_1 1 rfl rfl)
theorem dX3_drawn_27 : decode cX3_drawn 27 = .ok (.iconst 0, 1) := dk_3 (dk_at dksX3_drawn_1 3 rfl rfl)
theorem dX3_drawn_28 : decode cX3_drawn 28 = .ok (.istore 5, 2) := dk_54 5 (dk_at dksX3_drawn_1 4 rfl rfl)
theorem dX3_drawn_30 : decode cX3_drawn 30 = .ok (.iload 5, 2) := dk_21 5 (dk_at dksX3_drawn_1 6 rfl rfl)
theorem dX3_drawn_32 : decode cX3_drawn 32 = .ok (.iload_n 1, 1) := dk_27 (dk_at dksX3_drawn_1 8 rfl rfl)
theorem dX3_drawn_33 : decode cX3_drawn 33 = .ok (.if_icmp .ge 57, 3) := dk_162 0 57 (dk_at dksX3_drawn_1 9 rfl rfl)
theorem dX3_drawn_36 : decode cX3_drawn 36 = .ok (.aload_n 0, 1) := dk_42 (dk_at dksX3_drawn_1 12 rfl rfl)
theorem dX3_drawn_37 : decode cX3_drawn 37 = .ok (.aload_n 0, 1) := dk_42 (dk_at dksX3_drawn_1 13 rfl rfl)
theorem dX3_drawn_38 : decode cX3_drawn 38 = .ok (.getfield 359, 3) := dk_180 1 103 (dk_at dksX3_drawn_1 14 rfl rfl)
theorem dX3_drawn_41 : decode cX3_drawn 41 = .ok (.ldc2_w 365, 3) := dk_20 1 109 (dk_at dksX3_drawn_1 17 rfl rfl)
theorem dX3_drawn_44 : decode cX3_drawn 44 = .ok (.lmul, 1) := dk_105 (dk_at dksX3_drawn_1 20 rfl rfl)
theorem dX3_drawn_45 : decode cX3_drawn 45 = .ok (.ldc2_w 367, 3) := dk_20 1 111 (dk_at dksX3_drawn_1 21 rfl rfl)
theorem dX3_drawn_48 : decode cX3_drawn 48 = .ok (.ladd, 1) := dk_97 (dk_at dksX3_drawn_2 0 rfl rfl)
theorem dX3_drawn_49 : decode cX3_drawn 49 = .ok (.putfield 359, 3) := dk_181 1 103 (dk_at dksX3_drawn_2 1 rfl rfl)
theorem dX3_drawn_52 : decode cX3_drawn 52 = .ok (.iload 4, 2) := dk_21 4 (dk_at dksX3_drawn_2 4 rfl rfl)
theorem dX3_drawn_54 : decode cX3_drawn 54 = .ok (.lload_n 2, 1) := dk_32 (dk_at dksX3_drawn_2 6 rfl rfl)
theorem dX3_drawn_55 : decode cX3_drawn 55 = .ok (.lconst 0, 1) := dk_9 (dk_at dksX3_drawn_2 7 rfl rfl)
theorem dX3_drawn_56 : decode cX3_drawn 56 = .ok (.lcmp, 1) := dk_148 (dk_at dksX3_drawn_2 8 rfl rfl)
theorem dX3_drawn_57 : decode cX3_drawn 57 = .ok (.ifCond .le 23, 3) := dk_158 0 23 (dk_at dksX3_drawn_2 9 rfl rfl)
theorem dX3_drawn_60 : decode cX3_drawn 60 = .ok (.aload_n 0, 1) := dk_42 (dk_at dksX3_drawn_2 12 rfl rfl)
theorem dX3_drawn_61 : decode cX3_drawn 61 = .ok (.aload_n 0, 1) := dk_42 (dk_at dksX3_drawn_2 13 rfl rfl)
theorem dX3_drawn_62 : decode cX3_drawn 62 = .ok (.aload_n 0, 1) := dk_42 (dk_at dksX3_drawn_2 14 rfl rfl)
theorem dX3_drawn_63 : decode cX3_drawn 63 = .ok (.getfield 359, 3) := dk_180 1 103 (dk_at dksX3_drawn_2 15 rfl rfl)
theorem dX3_drawn_66 : decode cX3_drawn 66 = .ok (.bipush 33, 2) := dk_16 33 (dk_at dksX3_drawn_2 18 rfl rfl)
theorem dX3_drawn_68 : decode cX3_drawn 68 = .ok (.lushr, 1) := dk_125 (dk_at dksX3_drawn_2 20 rfl rfl)
theorem dX3_drawn_69 : decode cX3_drawn 69 = .ok (.lload_n 2, 1) := dk_32 (dk_at dksX3_drawn_2 21 rfl rfl)
theorem dX3_drawn_70 : decode cX3_drawn 70 = .ok (.lrem, 1) := dk_113 (dk_at dksX3_drawn_2 22 rfl rfl)
theorem dX3_drawn_71 : decode cX3_drawn 71 = .ok (.invokevirtual 293, 3) := dk_182 1 37 (dk_at dksX3_drawn_3 0 rfl rfl)
theorem dX3_drawn_74 : decode cX3_drawn 74 = .ok (.invokevirtual 290, 3) := dk_182 1 34 (dk_at dksX3_drawn_3 3 rfl rfl)
theorem dX3_drawn_77 : decode cX3_drawn 77 = .ok (.goto 4, 3) := dk_167 0 4 (dk_at dksX3_drawn_3 6 rfl rfl)
theorem dX3_drawn_80 : decode cX3_drawn 80 = .ok (.iconst 0, 1) := dk_3 (dk_at dksX3_drawn_3 9 rfl rfl)
theorem dX3_drawn_81 : decode cX3_drawn 81 = .ok (.iadd, 1) := dk_96 (dk_at dksX3_drawn_3 10 rfl rfl)
theorem dX3_drawn_82 : decode cX3_drawn 82 = .ok (.istore 4, 2) := dk_54 4 (dk_at dksX3_drawn_3 11 rfl rfl)
theorem dX3_drawn_84 : decode cX3_drawn 84 = .ok (.iinc 5 1, 3) := dk_132 5 1 (dk_at dksX3_drawn_3 13 rfl rfl)
theorem dX3_drawn_87 : decode cX3_drawn 87 = .ok (.goto (-57), 3) := dk_167 255 199 (dk_at dksX3_drawn_3 16 rfl rfl)
theorem dX3_drawn_90 : decode cX3_drawn 90 = .ok (.iload 4, 2) := dk_21 4 (dk_at dksX3_drawn_3 19 rfl rfl)
theorem dX3_drawn_92 : decode cX3_drawn 92 = .ok (.ireturn, 1) := dk_172 (dk_at dksX3_drawn_3 21 rfl rfl)
abbrev cX3_keep : ByteArray := prog_13_method_84_code
def yX3_keep : MethodName := ⟨RX3, "keep", "(I)I"⟩
def dkwX3_keep_2 : List UInt8 := [167, 255, 230, 42, 180, 0, 103, 172]
abbrev dktX3_keep_2 : List UInt8 := dkwX3_keep_2 ++ []
def dkwX3_keep_1 : List UInt8 := [162, 0, 26, 42, 180, 0, 34, 16, 25, 27, 104, 28, 96, 42, 180, 0, 25, 28, 46, 79, 132, 2, 1]
abbrev dktX3_keep_1 : List UInt8 := dkwX3_keep_1 ++ dktX3_keep_2
def dkwX3_keep_0 : List UInt8 := [27, 133, 9, 10, 184, 0, 107, 154, 0, 5, 2, 172, 42, 180, 0, 37, 27, 4, 84, 3, 61, 28, 16, 25]
abbrev dktX3_keep_0 : List UInt8 := dkwX3_keep_0 ++ dktX3_keep_1
theorem dksX3_keep_0 : cX3_keep.data.toList.drop 0 = dktX3_keep_0 := by decide +kernel
theorem dksX3_keep_1 : cX3_keep.data.toList.drop 24 = dktX3_keep_1 := dk_seg dksX3_keep_0 24 rfl rfl
theorem dksX3_keep_2 : cX3_keep.data.toList.drop 47 = dktX3_keep_2 := dk_seg dksX3_keep_1 23 rfl rfl
theorem dX3_keep_0 : decode cX3_keep 0 = .ok (.iload_n 1, 1) := dk_27 (dk_at dksX3_keep_0 0 rfl rfl)
theorem dX3_keep_1 : decode cX3_keep 1 = .ok (.i2l, 1) := dk_133 (dk_at dksX3_keep_0 1 rfl rfl)
theorem dX3_keep_2 : decode cX3_keep 2 = .ok (.lconst 0, 1) := dk_9 (dk_at dksX3_keep_0 2 rfl rfl)
theorem dX3_keep_3 : decode cX3_keep 3 = .ok (.lconst 1, 1) := dk_10 (dk_at dksX3_keep_0 3 rfl rfl)
theorem dX3_keep_4 : decode cX3_keep 4 = .ok (.invokestatic 107, 3) := dk_184 0 107 (dk_at dksX3_keep_0 4 rfl rfl)
theorem dX3_keep_7 : decode cX3_keep 7 = .ok (.ifCond .ne 5, 3) := dk_154 0 5 (dk_at dksX3_keep_0 7 rfl rfl)
theorem dX3_keep_10 : decode cX3_keep 10 = .ok (.iconst (-1), 1) := dk_2 (dk_at dksX3_keep_0 10 rfl rfl)
theorem dX3_keep_11 : decode cX3_keep 11 = .ok (.ireturn, 1) := dk_172 (dk_at dksX3_keep_0 11 rfl rfl)
theorem dX3_keep_12 : decode cX3_keep 12 = .ok (.aload_n 0, 1) := dk_42 (dk_at dksX3_keep_0 12 rfl rfl)
theorem dX3_keep_13 : decode cX3_keep 13 = .ok (.getfield 37, 3) := dk_180 0 37 (dk_at dksX3_keep_0 13 rfl rfl)
theorem dX3_keep_16 : decode cX3_keep 16 = .ok (.iload_n 1, 1) := dk_27 (dk_at dksX3_keep_0 16 rfl rfl)
theorem dX3_keep_17 : decode cX3_keep 17 = .ok (.iconst 1, 1) := dk_4 (dk_at dksX3_keep_0 17 rfl rfl)
theorem dX3_keep_18 : decode cX3_keep 18 = .ok (.bastore, 1) := dk_84 (dk_at dksX3_keep_0 18 rfl rfl)
theorem dX3_keep_19 : decode cX3_keep 19 = .ok (.iconst 0, 1) := dk_3 (dk_at dksX3_keep_0 19 rfl rfl)
theorem dX3_keep_20 : decode cX3_keep 20 = .ok (.istore_n 2, 1) := dk_61 (dk_at dksX3_keep_0 20 rfl rfl)
theorem dX3_keep_21 : decode cX3_keep 21 = .ok (.iload_n 2, 1) := dk_28 (dk_at dksX3_keep_0 21 rfl rfl)
theorem dX3_keep_22 : decode cX3_keep 22 = .ok (.bipush 25, 2) := dk_16 25 (dk_at dksX3_keep_0 22 rfl rfl)
theorem dX3_keep_24 : decode cX3_keep 24 = .ok (.if_icmp .ge 26, 3) := dk_162 0 26 (dk_at dksX3_keep_1 0 rfl rfl)
theorem dX3_keep_27 : decode cX3_keep 27 = .ok (.aload_n 0, 1) := dk_42 (dk_at dksX3_keep_1 3 rfl rfl)
theorem dX3_keep_28 : decode cX3_keep 28 = .ok (.getfield 34, 3) := dk_180 0 34 (dk_at dksX3_keep_1 4 rfl rfl)
theorem dX3_keep_31 : decode cX3_keep 31 = .ok (.bipush 25, 2) := dk_16 25 (dk_at dksX3_keep_1 7 rfl rfl)
theorem dX3_keep_33 : decode cX3_keep 33 = .ok (.iload_n 1, 1) := dk_27 (dk_at dksX3_keep_1 9 rfl rfl)
theorem dX3_keep_34 : decode cX3_keep 34 = .ok (.imul, 1) := dk_104 (dk_at dksX3_keep_1 10 rfl rfl)
theorem dX3_keep_35 : decode cX3_keep 35 = .ok (.iload_n 2, 1) := dk_28 (dk_at dksX3_keep_1 11 rfl rfl)
theorem dX3_keep_36 : decode cX3_keep 36 = .ok (.iadd, 1) := dk_96 (dk_at dksX3_keep_1 12 rfl rfl)
theorem dX3_keep_37 : decode cX3_keep 37 = .ok (.aload_n 0, 1) := dk_42 (dk_at dksX3_keep_1 13 rfl rfl)
theorem dX3_keep_38 : decode cX3_keep 38 = .ok (.getfield 25, 3) := dk_180 0 25 (dk_at dksX3_keep_1 14 rfl rfl)
theorem dX3_keep_41 : decode cX3_keep 41 = .ok (.iload_n 2, 1) := dk_28 (dk_at dksX3_keep_1 17 rfl rfl)
theorem dX3_keep_42 : decode cX3_keep 42 = .ok (.iaload, 1) := dk_46 (dk_at dksX3_keep_1 18 rfl rfl)
theorem dX3_keep_43 : decode cX3_keep 43 = .ok (.iastore, 1) := dk_79 (dk_at dksX3_keep_1 19 rfl rfl)
theorem dX3_keep_44 : decode cX3_keep 44 = .ok (.iinc 2 1, 3) := dk_132 2 1 (dk_at dksX3_keep_1 20 rfl rfl)
theorem dX3_keep_47 : decode cX3_keep 47 = .ok (.goto (-26), 3) := dk_167 255 230 (dk_at dksX3_keep_2 0 rfl rfl)
theorem dX3_keep_50 : decode cX3_keep 50 = .ok (.aload_n 0, 1) := dk_42 (dk_at dksX3_keep_2 3 rfl rfl)
theorem dX3_keep_51 : decode cX3_keep 51 = .ok (.getfield 103, 3) := dk_180 0 103 (dk_at dksX3_keep_2 4 rfl rfl)
theorem dX3_keep_54 : decode cX3_keep 54 = .ok (.ireturn, 1) := dk_172 (dk_at dksX3_keep_2 7 rfl rfl)
abbrev cX3_again : ByteArray := prog_13_method_85_code
def yX3_again : MethodName := ⟨RX3, "again", "(I)I"⟩
def dkwX3_again_2 : List UInt8 := [79, 132, 2, 1, 167, 255, 230, 42, 3, 181, 0, 182, 42, 180, 0, 103, 172]
abbrev dktX3_again_2 : List UInt8 := dkwX3_again_2 ++ []
def dkwX3_again_1 : List UInt8 := [3, 61, 28, 16, 25, 162, 0, 26, 42, 180, 0, 25, 28, 42, 180, 0, 34, 16, 25, 27, 104, 28, 96, 46]
abbrev dktX3_again_1 : List UInt8 := dkwX3_again_1 ++ dktX3_again_2
def dkwX3_again_0 : List UInt8 := [27, 133, 9, 10, 184, 0, 107, 154, 0, 5, 2, 172, 42, 180, 0, 37, 27, 51, 154, 0, 6, 16, 253, 172]
abbrev dktX3_again_0 : List UInt8 := dkwX3_again_0 ++ dktX3_again_1
theorem dksX3_again_0 : cX3_again.data.toList.drop 0 = dktX3_again_0 := by decide +kernel
theorem dksX3_again_1 : cX3_again.data.toList.drop 24 = dktX3_again_1 := dk_seg dksX3_again_0 24 rfl rfl
theorem dksX3_again_2 : cX3_again.data.toList.drop 48 = dktX3_again_2 := dk_seg dksX3_again_1 24 rfl rfl
theorem dX3_again_0 : decode cX3_again 0 = .ok (.iload_n 1, 1) := dk_27 (dk_at dksX3_again_0 0 rfl rfl)
theorem dX3_again_1 : decode cX3_again 1 = .ok (.i2l, 1) := dk_133 (dk_at dksX3_again_0 1 rfl rfl)
theorem dX3_again_2 : decode cX3_again 2 = .ok (.lconst 0, 1) := dk_9 (dk_at dksX3_again_0 2 rfl rfl)
theorem dX3_again_3 : decode cX3_again 3 = .ok (.lconst 1, 1) := dk_10 (dk_at dksX3_again_0 3 rfl rfl)
theorem dX3_again_4 : decode cX3_again 4 = .ok (.invokestatic 107, 3) := dk_184 0 107 (dk_at dksX3_again_0 4 rfl rfl)
theorem dX3_again_7 : decode cX3_again 7 = .ok (.ifCond .ne 5, 3) := dk_154 0 5 (dk_at dksX3_again_0 7 rfl rfl)
theorem dX3_again_10 : decode cX3_again 10 = .ok (.iconst (-1), 1) := dk_2 (dk_at dksX3_again_0 10 rfl rfl)
theorem dX3_again_11 : decode cX3_again 11 = .ok (.ireturn, 1) := dk_172 (dk_at dksX3_again_0 11 rfl rfl)
theorem dX3_again_12 : decode cX3_again 12 = .ok (.aload_n 0, 1) := dk_42 (dk_at dksX3_again_0 12 rfl rfl)
theorem dX3_again_13 : decode cX3_again 13 = .ok (.getfield 37, 3) := dk_180 0 37 (dk_at dksX3_again_0 13 rfl rfl)
theorem dX3_again_16 : decode cX3_again 16 = .ok (.iload_n 1, 1) := dk_27 (dk_at dksX3_again_0 16 rfl rfl)
theorem dX3_again_17 : decode cX3_again 17 = .ok (.baload, 1) := dk_51 (dk_at dksX3_again_0 17 rfl rfl)
theorem dX3_again_18 : decode cX3_again 18 = .ok (.ifCond .ne 6, 3) := dk_154 0 6 (dk_at dksX3_again_0 18 rfl rfl)
theorem dX3_again_21 : decode cX3_again 21 = .ok (.bipush (-3), 2) := dk_16 253 (dk_at dksX3_again_0 21 rfl rfl)
theorem dX3_again_23 : decode cX3_again 23 = .ok (.ireturn, 1) := dk_172 (dk_at dksX3_again_0 23 rfl rfl)
theorem dX3_again_24 : decode cX3_again 24 = .ok (.iconst 0, 1) := dk_3 (dk_at dksX3_again_1 0 rfl rfl)
theorem dX3_again_25 : decode cX3_again 25 = .ok (.istore_n 2, 1) := dk_61 (dk_at dksX3_again_1 1 rfl rfl)
theorem dX3_again_26 : decode cX3_again 26 = .ok (.iload_n 2, 1) := dk_28 (dk_at dksX3_again_1 2 rfl rfl)
theorem dX3_again_27 : decode cX3_again 27 = .ok (.bipush 25, 2) := dk_16 25 (dk_at dksX3_again_1 3 rfl rfl)
theorem dX3_again_29 : decode cX3_again 29 = .ok (.if_icmp .ge 26, 3) := dk_162 0 26 (dk_at dksX3_again_1 5 rfl rfl)
theorem dX3_again_32 : decode cX3_again 32 = .ok (.aload_n 0, 1) := dk_42 (dk_at dksX3_again_1 8 rfl rfl)
theorem dX3_again_33 : decode cX3_again 33 = .ok (.getfield 25, 3) := dk_180 0 25 (dk_at dksX3_again_1 9 rfl rfl)
theorem dX3_again_36 : decode cX3_again 36 = .ok (.iload_n 2, 1) := dk_28 (dk_at dksX3_again_1 12 rfl rfl)
theorem dX3_again_37 : decode cX3_again 37 = .ok (.aload_n 0, 1) := dk_42 (dk_at dksX3_again_1 13 rfl rfl)
theorem dX3_again_38 : decode cX3_again 38 = .ok (.getfield 34, 3) := dk_180 0 34 (dk_at dksX3_again_1 14 rfl rfl)
theorem dX3_again_41 : decode cX3_again 41 = .ok (.bipush 25, 2) := dk_16 25 (dk_at dksX3_again_1 17 rfl rfl)
theorem dX3_again_43 : decode cX3_again 43 = .ok (.iload_n 1, 1) := dk_27 (dk_at dksX3_again_1 19 rfl rfl)
theorem dX3_again_44 : decode cX3_again 44 = .ok (.imul, 1) := dk_104 (dk_at dksX3_again_1 20 rfl rfl)
theorem dX3_again_45 : decode cX3_again 45 = .ok (.iload_n 2, 1) := dk_28 (dk_at dksX3_again_1 21 rfl rfl)
theorem dX3_again_46 : decode cX3_again 46 = .ok (.iadd, 1) := dk_96 (dk_at dksX3_again_1 22 rfl rfl)
theorem dX3_again_47 : decode cX3_again 47 = .ok (.iaload, 1) := dk_46 (dk_at dksX3_again_1 23 rfl rfl)
theorem dX3_again_48 : decode cX3_again 48 = .ok (.iastore, 1) := dk_79 (dk_at dksX3_again_2 0 rfl rfl)
theorem dX3_again_49 : decode cX3_again 49 = .ok (.iinc 2 1, 3) := dk_132 2 1 (dk_at dksX3_again_2 1 rfl rfl)
theorem dX3_again_52 : decode cX3_again 52 = .ok (.goto (-26), 3) := dk_167 255 230 (dk_at dksX3_again_2 4 rfl rfl)
theorem dX3_again_55 : decode cX3_again 55 = .ok (.aload_n 0, 1) := dk_42 (dk_at dksX3_again_2 7 rfl rfl)
theorem dX3_again_56 : decode cX3_again 56 = .ok (.iconst 0, 1) := dk_3 (dk_at dksX3_again_2 8 rfl rfl)
theorem dX3_again_57 : decode cX3_again 57 = .ok (.putfield 182, 3) := dk_181 0 182 (dk_at dksX3_again_2 9 rfl rfl)
theorem dX3_again_60 : decode cX3_again 60 = .ok (.aload_n 0, 1) := dk_42 (dk_at dksX3_again_2 12 rfl rfl)
theorem dX3_again_61 : decode cX3_again 61 = .ok (.getfield 103, 3) := dk_180 0 103 (dk_at dksX3_again_2 13 rfl rfl)
theorem dX3_again_64 : decode cX3_again 64 = .ok (.ireturn, 1) := dk_172 (dk_at dksX3_again_2 16 rfl rfl)
theorem q88 : (Jvm.Cond.initialized "BagPhrasesModel") ∈ lw_all := lw_g (lw_at lw_m1 4 rfl) rfl
theorem q903 : (Jvm.Cond.instantiable "BagPhrasesModel" (45 : Nat)) ∈ lw_all := lw_g (lw_at lw_m4 99 rfl) rfl
theorem q905 : (Jvm.Cond.instanceMethod ({ cls := "BagPhrasesModel", name := "<init>", desc := "()V" } : Jvm.MethodName)) ∈ lw_all := lw_g (lw_at lw_m4 101 rfl) rfl
theorem q906 : (Jvm.Cond.code ({ cls := "BagPhrasesModel", name := "<init>", desc := "()V" } : Jvm.MethodName) prog_13_method_1_code (1 : Nat) (Option.none : Option Jvm.ClassFile.FieldType)) ∈ lw_all := lw_g (lw_at lw_m4 102 rfl) rfl
theorem q907 : (Jvm.Cond.methodLink "BagPhrasesModel" (1 : Nat) ({ cls := "java/lang/Object", name := "<init>", desc := "()V" } : Jvm.MethodName)) ∈ lw_all := lw_g (lw_at lw_m4 103 rfl) rfl
theorem q908 : (Jvm.Cond.methodLink "BagPhrasesModel" (99 : Nat) ({ cls := "BagPhrasesModel", name := "empty", desc := "([I)V" } : Jvm.MethodName)) ∈ lw_all := lw_g (lw_at lw_m4 104 rfl) rfl
theorem q909 : (Jvm.Cond.static ({ cls := "BagPhrasesModel", name := "empty", desc := "([I)V" } : Jvm.MethodName)) ∈ lw_all := lw_g (lw_at lw_m4 105 rfl) rfl
theorem q910 : (Jvm.Cond.code ({ cls := "BagPhrasesModel", name := "empty", desc := "([I)V" } : Jvm.MethodName) prog_13_method_3_code (2 : Nat) (Option.none : Option Jvm.ClassFile.FieldType)) ∈ lw_all := lw_g (lw_at lw_m4 106 rfl) rfl
theorem q911 : (Jvm.Cond.fieldLink "BagPhrasesModel" (7 : Nat) "BagPhrasesModel" "text" "[I") ∈ lw_all := lw_g (lw_at lw_m4 107 rfl) rfl
theorem q912 : (Jvm.Cond.fieldLink "BagPhrasesModel" (117 : Nat) "BagPhrasesModel" "length" "I") ∈ lw_all := lw_g (lw_at lw_m4 108 rfl) rfl
theorem q913 : (Jvm.Cond.fieldLink "BagPhrasesModel" (103 : Nat) "BagPhrasesModel" "words" "I") ∈ lw_all := lw_g (lw_at lw_m4 109 rfl) rfl
theorem q914 : (Jvm.Cond.fieldLink "BagPhrasesModel" (13 : Nat) "BagPhrasesModel" "spelt" "[I") ∈ lw_all := lw_g (lw_at lw_m4 110 rfl) rfl
theorem q915 : (Jvm.Cond.fieldLink "BagPhrasesModel" (16 : Nat) "BagPhrasesModel" "size" "[I") ∈ lw_all := lw_g (lw_at lw_m4 111 rfl) rfl
theorem q916 : (Jvm.Cond.fieldLink "BagPhrasesModel" (19 : Nat) "BagPhrasesModel" "kind" "[I") ∈ lw_all := lw_g (lw_at lw_m4 112 rfl) rfl
theorem q917 : (Jvm.Cond.fieldLink "BagPhrasesModel" (22 : Nat) "BagPhrasesModel" "need" "[I") ∈ lw_all := lw_g (lw_at lw_m4 113 rfl) rfl
theorem q918 : (Jvm.Cond.fieldLink "BagPhrasesModel" (25 : Nat) "BagPhrasesModel" "now" "[I") ∈ lw_all := lw_g (lw_at lw_m4 114 rfl) rfl
theorem q919 : (Jvm.Cond.fieldLink "BagPhrasesModel" (28 : Nat) "BagPhrasesModel" "trial" "[I") ∈ lw_all := lw_g (lw_at lw_m4 115 rfl) rfl
theorem q920 : (Jvm.Cond.fieldLink "BagPhrasesModel" (31 : Nat) "BagPhrasesModel" "diary" "[I") ∈ lw_all := lw_g (lw_at lw_m4 116 rfl) rfl
theorem q921 : (Jvm.Cond.fieldLink "BagPhrasesModel" (182 : Nat) "BagPhrasesModel" "doings" "I") ∈ lw_all := lw_g (lw_at lw_m4 117 rfl) rfl
theorem q922 : (Jvm.Cond.fieldLink "BagPhrasesModel" (258 : Nat) "BagPhrasesModel" "next" "I") ∈ lw_all := lw_g (lw_at lw_m4 118 rfl) rfl
theorem q923 : (Jvm.Cond.fieldLink "BagPhrasesModel" (34 : Nat) "BagPhrasesModel" "kept" "[I") ∈ lw_all := lw_g (lw_at lw_m4 119 rfl) rfl
theorem q924 : (Jvm.Cond.fieldLink "BagPhrasesModel" (37 : Nat) "BagPhrasesModel" "isKept" "[Z") ∈ lw_all := lw_g (lw_at lw_m4 120 rfl) rfl
theorem q925 : (Jvm.Cond.fieldLink "BagPhrasesModel" (41 : Nat) "BagPhrasesModel" "told" "[I") ∈ lw_all := lw_g (lw_at lw_m4 121 rfl) rfl
theorem q926 : (Jvm.Cond.fieldLink "BagPhrasesModel" (185 : Nat) "BagPhrasesModel" "tellings" "I") ∈ lw_all := lw_g (lw_at lw_m4 122 rfl) rfl
theorem q927 : (Jvm.Cond.fieldLink "BagPhrasesModel" (44 : Nat) "BagPhrasesModel" "seenWhat" "[I") ∈ lw_all := lw_g (lw_at lw_m4 123 rfl) rfl
theorem q928 : (Jvm.Cond.fieldLink "BagPhrasesModel" (47 : Nat) "BagPhrasesModel" "seenOf" "[I") ∈ lw_all := lw_g (lw_at lw_m4 124 rfl) rfl
theorem q929 : (Jvm.Cond.fieldLink "BagPhrasesModel" (50 : Nat) "BagPhrasesModel" "seenWas" "[I") ∈ lw_all := lw_g (lw_at lw_m4 125 rfl) rfl
theorem q930 : (Jvm.Cond.fieldLink "BagPhrasesModel" (237 : Nat) "BagPhrasesModel" "seen" "I") ∈ lw_all := lw_g (lw_at lw_m4 126 rfl) rfl
theorem q931 : (Jvm.Cond.fieldLink "BagPhrasesModel" (359 : Nat) "BagPhrasesModel" "seed" "J") ∈ lw_all := lw_g (lw_at lw_m4 127 rfl) rfl
theorem q932 : (Jvm.Cond.fieldLink "BagPhrasesModel" (126 : Nat) "BagPhrasesModel" "readWords" "I") ∈ lw_all := lw_g (lw_at lw_m4 128 rfl) rfl
theorem q933 : (Jvm.Cond.fieldLink "BagPhrasesModel" (53 : Nat) "BagPhrasesModel" "readSpelt" "[I") ∈ lw_all := lw_g (lw_at lw_m4 129 rfl) rfl
theorem q934 : (Jvm.Cond.fieldLink "BagPhrasesModel" (56 : Nat) "BagPhrasesModel" "readSize" "[I") ∈ lw_all := lw_g (lw_at lw_m4 130 rfl) rfl
theorem q935 : (Jvm.Cond.fieldLink "BagPhrasesModel" (59 : Nat) "BagPhrasesModel" "readKind" "[I") ∈ lw_all := lw_g (lw_at lw_m4 131 rfl) rfl
theorem q936 : (Jvm.Cond.fieldLink "BagPhrasesModel" (62 : Nat) "BagPhrasesModel" "readRow" "[I") ∈ lw_all := lw_g (lw_at lw_m4 132 rfl) rfl
theorem q937 : (Jvm.Cond.fieldLink "BagPhrasesModel" (120 : Nat) "BagPhrasesModel" "part" "I") ∈ lw_all := lw_g (lw_at lw_m4 133 rfl) rfl
theorem q938 : (Jvm.Cond.fieldLink "BagPhrasesModel" (123 : Nat) "BagPhrasesModel" "place" "I") ∈ lw_all := lw_g (lw_at lw_m4 134 rfl) rfl
theorem q939 : (Jvm.Cond.fieldLink "BagPhrasesModel" (153 : Nat) "BagPhrasesModel" "readFirst" "I") ∈ lw_all := lw_g (lw_at lw_m4 135 rfl) rfl
theorem q940 : (Jvm.Cond.fieldLink "BagPhrasesModel" (65 : Nat) "BagPhrasesModel" "open" "[I") ∈ lw_all := lw_g (lw_at lw_m4 136 rfl) rfl
theorem q941 : (Jvm.Cond.fieldLink "BagPhrasesModel" (68 : Nat) "BagPhrasesModel" "base" "[I") ∈ lw_all := lw_g (lw_at lw_m4 137 rfl) rfl
theorem q942 : (Jvm.Cond.fieldLink "BagPhrasesModel" (188 : Nat) "BagPhrasesModel" "whole" "I") ∈ lw_all := lw_g (lw_at lw_m4 138 rfl) rfl
theorem q943 : (Jvm.Cond.fieldLink "BagPhrasesModel" (191 : Nat) "BagPhrasesModel" "allowed" "I") ∈ lw_all := lw_g (lw_at lw_m4 139 rfl) rfl
theorem q944 : (Jvm.Cond.fieldLink "BagPhrasesModel" (71 : Nat) "BagPhrasesModel" "price" "[I") ∈ lw_all := lw_g (lw_at lw_m4 140 rfl) rfl
theorem q945 : (Jvm.Cond.fieldLink "BagPhrasesModel" (74 : Nat) "BagPhrasesModel" "ways" "[J") ∈ lw_all := lw_g (lw_at lw_m4 141 rfl) rfl
theorem q946 : (Jvm.Cond.fieldLink "BagPhrasesModel" (78 : Nat) "BagPhrasesModel" "layer" "[J") ∈ lw_all := lw_g (lw_at lw_m4 142 rfl) rfl
theorem q947 : (Jvm.Cond.fieldLink "BagPhrasesModel" (81 : Nat) "BagPhrasesModel" "later" "[J") ∈ lw_all := lw_g (lw_at lw_m4 143 rfl) rfl
theorem q948 : (Jvm.Cond.fieldLink "BagPhrasesModel" (84 : Nat) "BagPhrasesModel" "best" "[I") ∈ lw_all := lw_g (lw_at lw_m4 144 rfl) rfl
theorem q949 : (Jvm.Cond.fieldLink "BagPhrasesModel" (87 : Nat) "BagPhrasesModel" "fits" "[Z") ∈ lw_all := lw_g (lw_at lw_m4 145 rfl) rfl
theorem q950 : (Jvm.Cond.fieldLink "BagPhrasesModel" (90 : Nat) "BagPhrasesModel" "found" "[I") ∈ lw_all := lw_g (lw_at lw_m4 146 rfl) rfl
theorem q951 : (Jvm.Cond.fieldLink "BagPhrasesModel" (93 : Nat) "BagPhrasesModel" "left" "[I") ∈ lw_all := lw_g (lw_at lw_m4 147 rfl) rfl
theorem q952 : (Jvm.Cond.fieldLink "BagPhrasesModel" (303 : Nat) "BagPhrasesModel" "whyAt" "I") ∈ lw_all := lw_g (lw_at lw_m4 148 rfl) rfl
theorem q953 : (Jvm.Cond.fieldLink "BagPhrasesModel" (297 : Nat) "BagPhrasesModel" "whyLetter" "I") ∈ lw_all := lw_g (lw_at lw_m4 149 rfl) rfl
theorem q954 : (Jvm.Cond.fieldLink "BagPhrasesModel" (300 : Nat) "BagPhrasesModel" "whyMany" "I") ∈ lw_all := lw_g (lw_at lw_m4 150 rfl) rfl
theorem q955 : (Jvm.Cond.fieldLink "BagPhrasesModel" (96 : Nat) "BagPhrasesModel" "worth" "[J") ∈ lw_all := lw_g (lw_at lw_m4 151 rfl) rfl
theorem q956 : (Jvm.Cond.laysFinal "BagPhrasesModel" "BagPhrasesModel" "text" "[I") ∈ lw_all := lw_g (lw_at lw_m4 152 rfl) rfl
theorem q957 : (Jvm.Cond.soleField "BagPhrasesModel" "text") ∈ lw_all := lw_g (lw_at lw_m4 153 rfl) rfl
theorem q958 : (Jvm.Cond.lays "BagPhrasesModel" "BagPhrasesModel" "length" "I") ∈ lw_all := lw_g (lw_at lw_m4 154 rfl) rfl
theorem q959 : (Jvm.Cond.soleField "BagPhrasesModel" "length") ∈ lw_all := lw_g (lw_at lw_m4 155 rfl) rfl
theorem q960 : (Jvm.Cond.lays "BagPhrasesModel" "BagPhrasesModel" "words" "I") ∈ lw_all := lw_g (lw_at lw_m4 156 rfl) rfl
theorem q961 : (Jvm.Cond.soleField "BagPhrasesModel" "words") ∈ lw_all := lw_g (lw_at lw_m4 157 rfl) rfl
theorem q962 : (Jvm.Cond.laysFinal "BagPhrasesModel" "BagPhrasesModel" "spelt" "[I") ∈ lw_all := lw_g (lw_at lw_m4 158 rfl) rfl
theorem q963 : (Jvm.Cond.soleField "BagPhrasesModel" "spelt") ∈ lw_all := lw_g (lw_at lw_m4 159 rfl) rfl
theorem q964 : (Jvm.Cond.laysFinal "BagPhrasesModel" "BagPhrasesModel" "size" "[I") ∈ lw_all := lw_g (lw_at lw_m4 160 rfl) rfl
theorem q965 : (Jvm.Cond.soleField "BagPhrasesModel" "size") ∈ lw_all := lw_g (lw_at lw_m4 161 rfl) rfl
theorem q966 : (Jvm.Cond.laysFinal "BagPhrasesModel" "BagPhrasesModel" "kind" "[I") ∈ lw_all := lw_g (lw_at lw_m4 162 rfl) rfl
theorem q967 : (Jvm.Cond.soleField "BagPhrasesModel" "kind") ∈ lw_all := lw_g (lw_at lw_m4 163 rfl) rfl
theorem q968 : (Jvm.Cond.laysFinal "BagPhrasesModel" "BagPhrasesModel" "need" "[I") ∈ lw_all := lw_g (lw_at lw_m4 164 rfl) rfl
theorem q969 : (Jvm.Cond.soleField "BagPhrasesModel" "need") ∈ lw_all := lw_g (lw_at lw_m4 165 rfl) rfl
theorem q970 : (Jvm.Cond.laysFinal "BagPhrasesModel" "BagPhrasesModel" "now" "[I") ∈ lw_all := lw_g (lw_at lw_m4 166 rfl) rfl
theorem q971 : (Jvm.Cond.soleField "BagPhrasesModel" "now") ∈ lw_all := lw_g (lw_at lw_m4 167 rfl) rfl
theorem q972 : (Jvm.Cond.laysFinal "BagPhrasesModel" "BagPhrasesModel" "trial" "[I") ∈ lw_all := lw_g (lw_at lw_m4 168 rfl) rfl
theorem q973 : (Jvm.Cond.soleField "BagPhrasesModel" "trial") ∈ lw_all := lw_g (lw_at lw_m4 169 rfl) rfl
theorem q974 : (Jvm.Cond.laysFinal "BagPhrasesModel" "BagPhrasesModel" "diary" "[I") ∈ lw_all := lw_g (lw_at lw_m4 170 rfl) rfl
theorem q975 : (Jvm.Cond.soleField "BagPhrasesModel" "diary") ∈ lw_all := lw_g (lw_at lw_m4 171 rfl) rfl
theorem q976 : (Jvm.Cond.lays "BagPhrasesModel" "BagPhrasesModel" "doings" "I") ∈ lw_all := lw_g (lw_at lw_m4 172 rfl) rfl
theorem q977 : (Jvm.Cond.soleField "BagPhrasesModel" "doings") ∈ lw_all := lw_g (lw_at lw_m4 173 rfl) rfl
theorem q978 : (Jvm.Cond.lays "BagPhrasesModel" "BagPhrasesModel" "next" "I") ∈ lw_all := lw_g (lw_at lw_m4 174 rfl) rfl
theorem q979 : (Jvm.Cond.soleField "BagPhrasesModel" "next") ∈ lw_all := lw_g (lw_at lw_m4 175 rfl) rfl
theorem q980 : (Jvm.Cond.laysFinal "BagPhrasesModel" "BagPhrasesModel" "kept" "[I") ∈ lw_all := lw_g (lw_at lw_m4 176 rfl) rfl
theorem q981 : (Jvm.Cond.soleField "BagPhrasesModel" "kept") ∈ lw_all := lw_g (lw_at lw_m4 177 rfl) rfl
theorem q982 : (Jvm.Cond.laysFinal "BagPhrasesModel" "BagPhrasesModel" "isKept" "[Z") ∈ lw_all := lw_g (lw_at lw_m4 178 rfl) rfl
theorem q983 : (Jvm.Cond.soleField "BagPhrasesModel" "isKept") ∈ lw_all := lw_g (lw_at lw_m4 179 rfl) rfl
theorem q984 : (Jvm.Cond.laysFinal "BagPhrasesModel" "BagPhrasesModel" "told" "[I") ∈ lw_all := lw_g (lw_at lw_m4 180 rfl) rfl
theorem q985 : (Jvm.Cond.soleField "BagPhrasesModel" "told") ∈ lw_all := lw_g (lw_at lw_m4 181 rfl) rfl
theorem q986 : (Jvm.Cond.lays "BagPhrasesModel" "BagPhrasesModel" "tellings" "I") ∈ lw_all := lw_g (lw_at lw_m4 182 rfl) rfl
theorem q987 : (Jvm.Cond.soleField "BagPhrasesModel" "tellings") ∈ lw_all := lw_g (lw_at lw_m4 183 rfl) rfl
theorem q988 : (Jvm.Cond.laysFinal "BagPhrasesModel" "BagPhrasesModel" "seenWhat" "[I") ∈ lw_all := lw_g (lw_at lw_m4 184 rfl) rfl
theorem q989 : (Jvm.Cond.soleField "BagPhrasesModel" "seenWhat") ∈ lw_all := lw_g (lw_at lw_m4 185 rfl) rfl
theorem q990 : (Jvm.Cond.laysFinal "BagPhrasesModel" "BagPhrasesModel" "seenOf" "[I") ∈ lw_all := lw_g (lw_at lw_m4 186 rfl) rfl
theorem q991 : (Jvm.Cond.soleField "BagPhrasesModel" "seenOf") ∈ lw_all := lw_g (lw_at lw_m4 187 rfl) rfl
theorem q992 : (Jvm.Cond.laysFinal "BagPhrasesModel" "BagPhrasesModel" "seenWas" "[I") ∈ lw_all := lw_g (lw_at lw_m4 188 rfl) rfl
theorem q993 : (Jvm.Cond.soleField "BagPhrasesModel" "seenWas") ∈ lw_all := lw_g (lw_at lw_m4 189 rfl) rfl
theorem q994 : (Jvm.Cond.lays "BagPhrasesModel" "BagPhrasesModel" "seen" "I") ∈ lw_all := lw_g (lw_at lw_m4 190 rfl) rfl
theorem q995 : (Jvm.Cond.soleField "BagPhrasesModel" "seen") ∈ lw_all := lw_g (lw_at lw_m4 191 rfl) rfl
theorem q996 : (Jvm.Cond.lays "BagPhrasesModel" "BagPhrasesModel" "seed" "J") ∈ lw_all := lw_g (lw_at lw_m4 192 rfl) rfl
theorem q997 : (Jvm.Cond.soleField "BagPhrasesModel" "seed") ∈ lw_all := lw_g (lw_at lw_m4 193 rfl) rfl
theorem q998 : (Jvm.Cond.lays "BagPhrasesModel" "BagPhrasesModel" "readWords" "I") ∈ lw_all := lw_g (lw_at lw_m4 194 rfl) rfl
theorem q999 : (Jvm.Cond.soleField "BagPhrasesModel" "readWords") ∈ lw_all := lw_g (lw_at lw_m4 195 rfl) rfl
theorem q1000 : (Jvm.Cond.laysFinal "BagPhrasesModel" "BagPhrasesModel" "readSpelt" "[I") ∈ lw_all := lw_g (lw_at lw_m4 196 rfl) rfl
theorem q1001 : (Jvm.Cond.soleField "BagPhrasesModel" "readSpelt") ∈ lw_all := lw_g (lw_at lw_m4 197 rfl) rfl
theorem q1002 : (Jvm.Cond.laysFinal "BagPhrasesModel" "BagPhrasesModel" "readSize" "[I") ∈ lw_all := lw_g (lw_at lw_m4 198 rfl) rfl
theorem q1003 : (Jvm.Cond.soleField "BagPhrasesModel" "readSize") ∈ lw_all := lw_g (lw_at lw_m4 199 rfl) rfl
theorem q1004 : (Jvm.Cond.laysFinal "BagPhrasesModel" "BagPhrasesModel" "readKind" "[I") ∈ lw_all := lw_g (lw_at lw_m4 200 rfl) rfl
theorem q1005 : (Jvm.Cond.soleField "BagPhrasesModel" "readKind") ∈ lw_all := lw_g (lw_at lw_m4 201 rfl) rfl
theorem q1006 : (Jvm.Cond.laysFinal "BagPhrasesModel" "BagPhrasesModel" "readRow" "[I") ∈ lw_all := lw_g (lw_at lw_m4 202 rfl) rfl
theorem q1007 : (Jvm.Cond.soleField "BagPhrasesModel" "readRow") ∈ lw_all := lw_g (lw_at lw_m4 203 rfl) rfl
theorem q1008 : (Jvm.Cond.lays "BagPhrasesModel" "BagPhrasesModel" "part" "I") ∈ lw_all := lw_g (lw_at lw_m4 204 rfl) rfl
theorem q1009 : (Jvm.Cond.soleField "BagPhrasesModel" "part") ∈ lw_all := lw_g (lw_at lw_m4 205 rfl) rfl
theorem q1010 : (Jvm.Cond.lays "BagPhrasesModel" "BagPhrasesModel" "place" "I") ∈ lw_all := lw_g (lw_at lw_m4 206 rfl) rfl
theorem q1011 : (Jvm.Cond.soleField "BagPhrasesModel" "place") ∈ lw_all := lw_g (lw_at lw_m4 207 rfl) rfl
theorem q1012 : (Jvm.Cond.lays "BagPhrasesModel" "BagPhrasesModel" "readFirst" "I") ∈ lw_all := lw_g (lw_at lw_m4 208 rfl) rfl
theorem q1013 : (Jvm.Cond.soleField "BagPhrasesModel" "readFirst") ∈ lw_all := lw_g (lw_at lw_m4 209 rfl) rfl
theorem q1014 : (Jvm.Cond.laysFinal "BagPhrasesModel" "BagPhrasesModel" "open" "[I") ∈ lw_all := lw_g (lw_at lw_m4 210 rfl) rfl
theorem q1015 : (Jvm.Cond.soleField "BagPhrasesModel" "open") ∈ lw_all := lw_g (lw_at lw_m4 211 rfl) rfl
theorem q1016 : (Jvm.Cond.laysFinal "BagPhrasesModel" "BagPhrasesModel" "base" "[I") ∈ lw_all := lw_g (lw_at lw_m4 212 rfl) rfl
theorem q1017 : (Jvm.Cond.soleField "BagPhrasesModel" "base") ∈ lw_all := lw_g (lw_at lw_m4 213 rfl) rfl
theorem q1018 : (Jvm.Cond.lays "BagPhrasesModel" "BagPhrasesModel" "whole" "I") ∈ lw_all := lw_g (lw_at lw_m4 214 rfl) rfl
theorem q1019 : (Jvm.Cond.soleField "BagPhrasesModel" "whole") ∈ lw_all := lw_g (lw_at lw_m4 215 rfl) rfl
theorem q1020 : (Jvm.Cond.lays "BagPhrasesModel" "BagPhrasesModel" "allowed" "I") ∈ lw_all := lw_g (lw_at lw_m4 216 rfl) rfl
theorem q1021 : (Jvm.Cond.soleField "BagPhrasesModel" "allowed") ∈ lw_all := lw_g (lw_at lw_m4 217 rfl) rfl
theorem q1022 : (Jvm.Cond.laysFinal "BagPhrasesModel" "BagPhrasesModel" "price" "[I") ∈ lw_all := lw_g (lw_at lw_m4 218 rfl) rfl
theorem q1023 : (Jvm.Cond.soleField "BagPhrasesModel" "price") ∈ lw_all := lw_g (lw_at lw_m4 219 rfl) rfl
theorem q1024 : (Jvm.Cond.laysFinal "BagPhrasesModel" "BagPhrasesModel" "ways" "[J") ∈ lw_all := lw_g (lw_at lw_m4 220 rfl) rfl
theorem q1025 : (Jvm.Cond.soleField "BagPhrasesModel" "ways") ∈ lw_all := lw_g (lw_at lw_m4 221 rfl) rfl
theorem q1026 : (Jvm.Cond.laysFinal "BagPhrasesModel" "BagPhrasesModel" "layer" "[J") ∈ lw_all := lw_g (lw_at lw_m4 222 rfl) rfl
theorem q1027 : (Jvm.Cond.soleField "BagPhrasesModel" "layer") ∈ lw_all := lw_g (lw_at lw_m4 223 rfl) rfl
theorem q1028 : (Jvm.Cond.laysFinal "BagPhrasesModel" "BagPhrasesModel" "later" "[J") ∈ lw_all := lw_g (lw_at lw_m4 224 rfl) rfl
theorem q1029 : (Jvm.Cond.soleField "BagPhrasesModel" "later") ∈ lw_all := lw_g (lw_at lw_m4 225 rfl) rfl
theorem q1030 : (Jvm.Cond.laysFinal "BagPhrasesModel" "BagPhrasesModel" "best" "[I") ∈ lw_all := lw_g (lw_at lw_m4 226 rfl) rfl
theorem q1031 : (Jvm.Cond.soleField "BagPhrasesModel" "best") ∈ lw_all := lw_g (lw_at lw_m4 227 rfl) rfl
theorem q1032 : (Jvm.Cond.laysFinal "BagPhrasesModel" "BagPhrasesModel" "fits" "[Z") ∈ lw_all := lw_g (lw_at lw_m4 228 rfl) rfl
theorem q1033 : (Jvm.Cond.soleField "BagPhrasesModel" "fits") ∈ lw_all := lw_g (lw_at lw_m4 229 rfl) rfl
theorem q1034 : (Jvm.Cond.laysFinal "BagPhrasesModel" "BagPhrasesModel" "found" "[I") ∈ lw_all := lw_g (lw_at lw_m4 230 rfl) rfl
theorem q1035 : (Jvm.Cond.soleField "BagPhrasesModel" "found") ∈ lw_all := lw_g (lw_at lw_m4 231 rfl) rfl
theorem q1036 : (Jvm.Cond.laysFinal "BagPhrasesModel" "BagPhrasesModel" "left" "[I") ∈ lw_all := lw_g (lw_at lw_m4 232 rfl) rfl
theorem q1037 : (Jvm.Cond.soleField "BagPhrasesModel" "left") ∈ lw_all := lw_g (lw_at lw_m4 233 rfl) rfl
theorem q1038 : (Jvm.Cond.lays "BagPhrasesModel" "BagPhrasesModel" "whyAt" "I") ∈ lw_all := lw_g (lw_at lw_m4 234 rfl) rfl
theorem q1039 : (Jvm.Cond.soleField "BagPhrasesModel" "whyAt") ∈ lw_all := lw_g (lw_at lw_m4 235 rfl) rfl
theorem q1040 : (Jvm.Cond.lays "BagPhrasesModel" "BagPhrasesModel" "whyLetter" "I") ∈ lw_all := lw_g (lw_at lw_m4 236 rfl) rfl
theorem q1041 : (Jvm.Cond.soleField "BagPhrasesModel" "whyLetter") ∈ lw_all := lw_g (lw_at lw_m4 237 rfl) rfl
theorem q1042 : (Jvm.Cond.lays "BagPhrasesModel" "BagPhrasesModel" "whyMany" "I") ∈ lw_all := lw_g (lw_at lw_m4 238 rfl) rfl
theorem q1043 : (Jvm.Cond.soleField "BagPhrasesModel" "whyMany") ∈ lw_all := lw_g (lw_at lw_m4 239 rfl) rfl
theorem q1044 : (Jvm.Cond.laysFinal "BagPhrasesModel" "BagPhrasesModel" "worth" "[J") ∈ lw_all := lw_g (lw_at lw_m5 0 rfl) rfl
theorem q1045 : (Jvm.Cond.soleField "BagPhrasesModel" "worth") ∈ lw_all := lw_g (lw_at lw_m5 1 rfl) rfl
theorem q1046 : (Jvm.Cond.superclass "BagPhrasesModel" "java/lang/Object") ∈ lw_all := lw_g (lw_at lw_m5 2 rfl) rfl
theorem q1048 : (Jvm.Cond.instanceMethod ({ cls := "BagPhrasesModel", name := "write", desc := "(I)I" } : Jvm.MethodName)) ∈ lw_all := lw_g (lw_at lw_m5 4 rfl) rfl
theorem q1049 : (Jvm.Cond.selects "BagPhrasesModel" ({ cls := "BagPhrasesModel", name := "write", desc := "(I)I" } : Jvm.MethodName) ({ cls := "BagPhrasesModel", name := "write", desc := "(I)I" } : Jvm.MethodName)) ∈ lw_all := lw_g (lw_at lw_m5 5 rfl) rfl
theorem q1050 : (Jvm.Cond.code ({ cls := "BagPhrasesModel", name := "write", desc := "(I)I" } : Jvm.MethodName) prog_13_method_15_code (2 : Nat) (Option.some Jvm.ClassFile.FieldType.int)) ∈ lw_all := lw_g (lw_at lw_m5 6 rfl) rfl
theorem q1051 : (Jvm.Cond.constantLong "BagPhrasesModel" (115 : Nat) (255 : Int64)) ∈ lw_all := lw_g (lw_at lw_m5 7 rfl) rfl
theorem q1052 : (Jvm.Cond.methodLink "BagPhrasesModel" (107 : Nat) ({ cls := "BagPhrasesModel", name := "in", desc := "(JJJ)Z" } : Jvm.MethodName)) ∈ lw_all := lw_g (lw_at lw_m5 8 rfl) rfl
theorem q1053 : (Jvm.Cond.static ({ cls := "BagPhrasesModel", name := "in", desc := "(JJJ)Z" } : Jvm.MethodName)) ∈ lw_all := lw_g (lw_at lw_m5 9 rfl) rfl
theorem q1054 : (Jvm.Cond.code ({ cls := "BagPhrasesModel", name := "in", desc := "(JJJ)Z" } : Jvm.MethodName) prog_13_method_5_code (6 : Nat) (Option.some Jvm.ClassFile.FieldType.boolean)) ∈ lw_all := lw_g (lw_at lw_m5 10 rfl) rfl
theorem q1056 : (Jvm.Cond.instanceMethod ({ cls := "BagPhrasesModel", name := "wipe", desc := "()I" } : Jvm.MethodName)) ∈ lw_all := lw_g (lw_at lw_m5 12 rfl) rfl
theorem q1057 : (Jvm.Cond.selects "BagPhrasesModel" ({ cls := "BagPhrasesModel", name := "wipe", desc := "()I" } : Jvm.MethodName) ({ cls := "BagPhrasesModel", name := "wipe", desc := "()I" } : Jvm.MethodName)) ∈ lw_all := lw_g (lw_at lw_m5 13 rfl) rfl
theorem q1058 : (Jvm.Cond.code ({ cls := "BagPhrasesModel", name := "wipe", desc := "()I" } : Jvm.MethodName) prog_13_method_16_code (2 : Nat) (Option.some Jvm.ClassFile.FieldType.int)) ∈ lw_all := lw_g (lw_at lw_m5 14 rfl) rfl
theorem q1060 : (Jvm.Cond.instanceMethod ({ cls := "BagPhrasesModel", name := "fault", desc := "()I" } : Jvm.MethodName)) ∈ lw_all := lw_g (lw_at lw_m5 16 rfl) rfl
theorem q1061 : (Jvm.Cond.selects "BagPhrasesModel" ({ cls := "BagPhrasesModel", name := "fault", desc := "()I" } : Jvm.MethodName) ({ cls := "BagPhrasesModel", name := "fault", desc := "()I" } : Jvm.MethodName)) ∈ lw_all := lw_g (lw_at lw_m5 17 rfl) rfl
theorem q1062 : (Jvm.Cond.code ({ cls := "BagPhrasesModel", name := "fault", desc := "()I" } : Jvm.MethodName) prog_13_method_24_code (1 : Nat) (Option.some Jvm.ClassFile.FieldType.int)) ∈ lw_all := lw_g (lw_at lw_m5 18 rfl) rfl
theorem q1063 : (Jvm.Cond.methodLink "BagPhrasesModel" (174 : Nat) ({ cls := "BagPhrasesModel", name := "readText", desc := "()I" } : Jvm.MethodName)) ∈ lw_all := lw_g (lw_at lw_m5 19 rfl) rfl
theorem q1064 : (Jvm.Cond.privateMethod ({ cls := "BagPhrasesModel", name := "readText", desc := "()I" } : Jvm.MethodName)) ∈ lw_tbl := lw_at lw_m5 20 rfl
theorem q1065 : (Jvm.Cond.instanceMethod ({ cls := "BagPhrasesModel", name := "readText", desc := "()I" } : Jvm.MethodName)) ∈ lw_all := lw_g (lw_at lw_m5 21 rfl) rfl
theorem q1066 : (Jvm.Cond.code ({ cls := "BagPhrasesModel", name := "readText", desc := "()I" } : Jvm.MethodName) prog_13_method_23_code (2 : Nat) (Option.some Jvm.ClassFile.FieldType.int)) ∈ lw_all := lw_g (lw_at lw_m5 22 rfl) rfl
theorem q1067 : (Jvm.Cond.methodLink "BagPhrasesModel" (168 : Nat) ({ cls := "BagPhrasesModel", name := "takeSign", desc := "(I)Z" } : Jvm.MethodName)) ∈ lw_all := lw_g (lw_at lw_m5 23 rfl) rfl
theorem q1068 : (Jvm.Cond.privateMethod ({ cls := "BagPhrasesModel", name := "takeSign", desc := "(I)Z" } : Jvm.MethodName)) ∈ lw_tbl := lw_at lw_m5 24 rfl
theorem q1069 : (Jvm.Cond.instanceMethod ({ cls := "BagPhrasesModel", name := "takeSign", desc := "(I)Z" } : Jvm.MethodName)) ∈ lw_all := lw_g (lw_at lw_m5 25 rfl) rfl
theorem q1070 : (Jvm.Cond.code ({ cls := "BagPhrasesModel", name := "takeSign", desc := "(I)Z" } : Jvm.MethodName) prog_13_method_17_code (2 : Nat) (Option.some Jvm.ClassFile.FieldType.boolean)) ∈ lw_all := lw_g (lw_at lw_m5 26 rfl) rfl
theorem q1071 : (Jvm.Cond.methodLink "BagPhrasesModel" (129 : Nat) ({ cls := "BagPhrasesModel", name := "bagOf", desc := "([I)I" } : Jvm.MethodName)) ∈ lw_all := lw_g (lw_at lw_m5 27 rfl) rfl
theorem q1072 : (Jvm.Cond.static ({ cls := "BagPhrasesModel", name := "bagOf", desc := "([I)I" } : Jvm.MethodName)) ∈ lw_all := lw_g (lw_at lw_m5 28 rfl) rfl
theorem q1073 : (Jvm.Cond.code ({ cls := "BagPhrasesModel", name := "bagOf", desc := "([I)I" } : Jvm.MethodName) prog_13_method_14_code (3 : Nat) (Option.some Jvm.ClassFile.FieldType.int)) ∈ lw_all := lw_g (lw_at lw_m5 29 rfl) rfl
theorem q1074 : (Jvm.Cond.methodLink "BagPhrasesModel" (171 : Nat) ({ cls := "BagPhrasesModel", name := "takeIn", desc := "(I)Z" } : Jvm.MethodName)) ∈ lw_all := lw_g (lw_at lw_m5 30 rfl) rfl
theorem q1075 : (Jvm.Cond.privateMethod ({ cls := "BagPhrasesModel", name := "takeIn", desc := "(I)Z" } : Jvm.MethodName)) ∈ lw_tbl := lw_at lw_m5 31 rfl
theorem q1076 : (Jvm.Cond.instanceMethod ({ cls := "BagPhrasesModel", name := "takeIn", desc := "(I)Z" } : Jvm.MethodName)) ∈ lw_all := lw_g (lw_at lw_m5 32 rfl) rfl
theorem q1077 : (Jvm.Cond.code ({ cls := "BagPhrasesModel", name := "takeIn", desc := "(I)Z" } : Jvm.MethodName) prog_13_method_22_code (2 : Nat) (Option.some Jvm.ClassFile.FieldType.boolean)) ∈ lw_all := lw_g (lw_at lw_m5 33 rfl) rfl
theorem q1078 : (Jvm.Cond.methodLink "BagPhrasesModel" (159 : Nat) ({ cls := "BagPhrasesModel", name := "takeOfWord", desc := "(I)Z" } : Jvm.MethodName)) ∈ lw_all := lw_g (lw_at lw_m5 34 rfl) rfl
theorem q1079 : (Jvm.Cond.privateMethod ({ cls := "BagPhrasesModel", name := "takeOfWord", desc := "(I)Z" } : Jvm.MethodName)) ∈ lw_tbl := lw_at lw_m5 35 rfl
theorem q1080 : (Jvm.Cond.instanceMethod ({ cls := "BagPhrasesModel", name := "takeOfWord", desc := "(I)Z" } : Jvm.MethodName)) ∈ lw_all := lw_g (lw_at lw_m5 36 rfl) rfl
theorem q1081 : (Jvm.Cond.code ({ cls := "BagPhrasesModel", name := "takeOfWord", desc := "(I)Z" } : Jvm.MethodName) prog_13_method_18_code (3 : Nat) (Option.some Jvm.ClassFile.FieldType.boolean)) ∈ lw_all := lw_g (lw_at lw_m5 37 rfl) rfl
theorem q1082 : (Jvm.Cond.constantLong "BagPhrasesModel" (133 : Nat) (48 : Int64)) ∈ lw_all := lw_g (lw_at lw_m5 38 rfl) rfl
theorem q1083 : (Jvm.Cond.constantLong "BagPhrasesModel" (135 : Nat) (57 : Int64)) ∈ lw_all := lw_g (lw_at lw_m5 39 rfl) rfl
theorem q1084 : (Jvm.Cond.constantLong "BagPhrasesModel" (137 : Nat) (97 : Int64)) ∈ lw_all := lw_g (lw_at lw_m5 40 rfl) rfl
theorem q1085 : (Jvm.Cond.constantLong "BagPhrasesModel" (139 : Nat) (104 : Int64)) ∈ lw_all := lw_g (lw_at lw_m5 41 rfl) rfl
theorem q1086 : (Jvm.Cond.constantLong "BagPhrasesModel" (141 : Nat) (65 : Int64)) ∈ lw_all := lw_g (lw_at lw_m5 42 rfl) rfl
theorem q1087 : (Jvm.Cond.constantLong "BagPhrasesModel" (143 : Nat) (68 : Int64)) ∈ lw_all := lw_g (lw_at lw_m5 43 rfl) rfl
theorem q1088 : (Jvm.Cond.methodLink "BagPhrasesModel" (162 : Nat) ({ cls := "BagPhrasesModel", name := "takeOfBag", desc := "(I)Z" } : Jvm.MethodName)) ∈ lw_all := lw_g (lw_at lw_m5 44 rfl) rfl
theorem q1089 : (Jvm.Cond.privateMethod ({ cls := "BagPhrasesModel", name := "takeOfBag", desc := "(I)Z" } : Jvm.MethodName)) ∈ lw_tbl := lw_at lw_m5 45 rfl
theorem q1090 : (Jvm.Cond.instanceMethod ({ cls := "BagPhrasesModel", name := "takeOfBag", desc := "(I)Z" } : Jvm.MethodName)) ∈ lw_all := lw_g (lw_at lw_m5 46 rfl) rfl
theorem q1091 : (Jvm.Cond.code ({ cls := "BagPhrasesModel", name := "takeOfBag", desc := "(I)Z" } : Jvm.MethodName) prog_13_method_21_code (2 : Nat) (Option.some Jvm.ClassFile.FieldType.boolean)) ∈ lw_all := lw_g (lw_at lw_m5 47 rfl) rfl
theorem q1092 : (Jvm.Cond.methodLink "BagPhrasesModel" (156 : Nat) ({ cls := "BagPhrasesModel", name := "takeKind", desc := "(II)Z" } : Jvm.MethodName)) ∈ lw_all := lw_g (lw_at lw_m5 48 rfl) rfl
theorem q1093 : (Jvm.Cond.privateMethod ({ cls := "BagPhrasesModel", name := "takeKind", desc := "(II)Z" } : Jvm.MethodName)) ∈ lw_tbl := lw_at lw_m5 49 rfl
theorem q1094 : (Jvm.Cond.instanceMethod ({ cls := "BagPhrasesModel", name := "takeKind", desc := "(II)Z" } : Jvm.MethodName)) ∈ lw_all := lw_g (lw_at lw_m5 50 rfl) rfl
theorem q1095 : (Jvm.Cond.code ({ cls := "BagPhrasesModel", name := "takeKind", desc := "(II)Z" } : Jvm.MethodName) prog_13_method_19_code (4 : Nat) (Option.some Jvm.ClassFile.FieldType.boolean)) ∈ lw_all := lw_g (lw_at lw_m5 51 rfl) rfl
theorem q1096 : (Jvm.Cond.methodLink "BagPhrasesModel" (145 : Nat) ({ cls := "BagPhrasesModel", name := "isKind", desc := "(I)Z" } : Jvm.MethodName)) ∈ lw_all := lw_g (lw_at lw_m5 52 rfl) rfl
theorem q1097 : (Jvm.Cond.static ({ cls := "BagPhrasesModel", name := "isKind", desc := "(I)Z" } : Jvm.MethodName)) ∈ lw_all := lw_g (lw_at lw_m5 53 rfl) rfl
theorem q1098 : (Jvm.Cond.code ({ cls := "BagPhrasesModel", name := "isKind", desc := "(I)Z" } : Jvm.MethodName) prog_13_method_13_code (1 : Nat) (Option.some Jvm.ClassFile.FieldType.boolean)) ∈ lw_all := lw_g (lw_at lw_m5 54 rfl) rfl
theorem q1099 : (Jvm.Cond.constantLong "BagPhrasesModel" (113 : Nat) (3 : Int64)) ∈ lw_all := lw_g (lw_at lw_m5 55 rfl) rfl
theorem q1100 : (Jvm.Cond.methodLink "BagPhrasesModel" (149 : Nat) ({ cls := "BagPhrasesModel", name := "has", desc := "(II)Z" } : Jvm.MethodName)) ∈ lw_all := lw_g (lw_at lw_m5 56 rfl) rfl
theorem q1101 : (Jvm.Cond.static ({ cls := "BagPhrasesModel", name := "has", desc := "(II)Z" } : Jvm.MethodName)) ∈ lw_all := lw_g (lw_at lw_m5 57 rfl) rfl
theorem q1102 : (Jvm.Cond.code ({ cls := "BagPhrasesModel", name := "has", desc := "(II)Z" } : Jvm.MethodName) prog_13_method_6_code (2 : Nat) (Option.some Jvm.ClassFile.FieldType.boolean)) ∈ lw_all := lw_g (lw_at lw_m5 58 rfl) rfl
theorem q1103 : (Jvm.Cond.methodLink "BagPhrasesModel" (165 : Nat) ({ cls := "BagPhrasesModel", name := "takeOfPair", desc := "(I)Z" } : Jvm.MethodName)) ∈ lw_all := lw_g (lw_at lw_m5 59 rfl) rfl
theorem q1104 : (Jvm.Cond.privateMethod ({ cls := "BagPhrasesModel", name := "takeOfPair", desc := "(I)Z" } : Jvm.MethodName)) ∈ lw_tbl := lw_at lw_m5 60 rfl
theorem q1105 : (Jvm.Cond.instanceMethod ({ cls := "BagPhrasesModel", name := "takeOfPair", desc := "(I)Z" } : Jvm.MethodName)) ∈ lw_all := lw_g (lw_at lw_m5 61 rfl) rfl
theorem q1106 : (Jvm.Cond.code ({ cls := "BagPhrasesModel", name := "takeOfPair", desc := "(I)Z" } : Jvm.MethodName) prog_13_method_20_code (3 : Nat) (Option.some Jvm.ClassFile.FieldType.boolean)) ∈ lw_all := lw_g (lw_at lw_m5 62 rfl) rfl
theorem q1108 : (Jvm.Cond.instanceMethod ({ cls := "BagPhrasesModel", name := "house", desc := "()I" } : Jvm.MethodName)) ∈ lw_all := lw_g (lw_at lw_m5 64 rfl) rfl
theorem q1109 : (Jvm.Cond.selects "BagPhrasesModel" ({ cls := "BagPhrasesModel", name := "house", desc := "()I" } : Jvm.MethodName) ({ cls := "BagPhrasesModel", name := "house", desc := "()I" } : Jvm.MethodName)) ∈ lw_all := lw_g (lw_at lw_m5 65 rfl) rfl
theorem q1110 : (Jvm.Cond.code ({ cls := "BagPhrasesModel", name := "house", desc := "()I" } : Jvm.MethodName) prog_13_method_25_code (3 : Nat) (Option.some Jvm.ClassFile.FieldType.int)) ∈ lw_all := lw_g (lw_at lw_m5 66 rfl) rfl
theorem q1111 : (Jvm.Cond.methodLink "BagPhrasesModel" (178 : Nat) ({ cls := "BagPhrasesModel", name := "copy", desc := "([I[I)V" } : Jvm.MethodName)) ∈ lw_all := lw_g (lw_at lw_m5 67 rfl) rfl
theorem q1112 : (Jvm.Cond.static ({ cls := "BagPhrasesModel", name := "copy", desc := "([I[I)V" } : Jvm.MethodName)) ∈ lw_all := lw_g (lw_at lw_m5 68 rfl) rfl
theorem q1113 : (Jvm.Cond.code ({ cls := "BagPhrasesModel", name := "copy", desc := "([I[I)V" } : Jvm.MethodName) prog_13_method_4_code (3 : Nat) (Option.none : Option Jvm.ClassFile.FieldType)) ∈ lw_all := lw_g (lw_at lw_m5 69 rfl) rfl
theorem q1115 : (Jvm.Cond.instanceMethod ({ cls := "BagPhrasesModel", name := "about", desc := "(I)I" } : Jvm.MethodName)) ∈ lw_all := lw_g (lw_at lw_m5 71 rfl) rfl
theorem q1116 : (Jvm.Cond.selects "BagPhrasesModel" ({ cls := "BagPhrasesModel", name := "about", desc := "(I)I" } : Jvm.MethodName) ({ cls := "BagPhrasesModel", name := "about", desc := "(I)I" } : Jvm.MethodName)) ∈ lw_all := lw_g (lw_at lw_m5 72 rfl) rfl
theorem q1117 : (Jvm.Cond.code ({ cls := "BagPhrasesModel", name := "about", desc := "(I)I" } : Jvm.MethodName) prog_13_method_37_code (2 : Nat) (Option.some Jvm.ClassFile.FieldType.int)) ∈ lw_all := lw_g (lw_at lw_m5 73 rfl) rfl
theorem q1118 : (Jvm.Cond.methodLink "BagPhrasesModel" (202 : Nat) ({ cls := "BagPhrasesModel", name := "look", desc := "([I)V" } : Jvm.MethodName)) ∈ lw_all := lw_g (lw_at lw_m5 74 rfl) rfl
theorem q1119 : (Jvm.Cond.privateMethod ({ cls := "BagPhrasesModel", name := "look", desc := "([I)V" } : Jvm.MethodName)) ∈ lw_tbl := lw_at lw_m5 75 rfl
theorem q1120 : (Jvm.Cond.instanceMethod ({ cls := "BagPhrasesModel", name := "look", desc := "([I)V" } : Jvm.MethodName)) ∈ lw_all := lw_g (lw_at lw_m5 76 rfl) rfl
theorem q1121 : (Jvm.Cond.code ({ cls := "BagPhrasesModel", name := "look", desc := "([I)V" } : Jvm.MethodName) prog_13_method_26_code (6 : Nat) (Option.none : Option Jvm.ClassFile.FieldType)) ∈ lw_all := lw_g (lw_at lw_m5 77 rfl) rfl
theorem q1122 : (Jvm.Cond.methodLink "BagPhrasesModel" (224 : Nat) ({ cls := "BagPhrasesModel", name := "unlike", desc := "()I" } : Jvm.MethodName)) ∈ lw_all := lw_g (lw_at lw_m5 78 rfl) rfl
theorem q1123 : (Jvm.Cond.privateMethod ({ cls := "BagPhrasesModel", name := "unlike", desc := "()I" } : Jvm.MethodName)) ∈ lw_tbl := lw_at lw_m5 79 rfl
theorem q1124 : (Jvm.Cond.instanceMethod ({ cls := "BagPhrasesModel", name := "unlike", desc := "()I" } : Jvm.MethodName)) ∈ lw_all := lw_g (lw_at lw_m5 80 rfl) rfl
theorem q1125 : (Jvm.Cond.code ({ cls := "BagPhrasesModel", name := "unlike", desc := "()I" } : Jvm.MethodName) prog_13_method_36_code (3 : Nat) (Option.some Jvm.ClassFile.FieldType.int)) ∈ lw_all := lw_g (lw_at lw_m5 81 rfl) rfl
theorem q1126 : (Jvm.Cond.methodLink "BagPhrasesModel" (227 : Nat) ({ cls := "BagPhrasesModel", name := "makeable", desc := "()I" } : Jvm.MethodName)) ∈ lw_all := lw_g (lw_at lw_m5 82 rfl) rfl
theorem q1127 : (Jvm.Cond.privateMethod ({ cls := "BagPhrasesModel", name := "makeable", desc := "()I" } : Jvm.MethodName)) ∈ lw_tbl := lw_at lw_m5 83 rfl
theorem q1128 : (Jvm.Cond.instanceMethod ({ cls := "BagPhrasesModel", name := "makeable", desc := "()I" } : Jvm.MethodName)) ∈ lw_all := lw_g (lw_at lw_m5 84 rfl) rfl
theorem q1129 : (Jvm.Cond.code ({ cls := "BagPhrasesModel", name := "makeable", desc := "()I" } : Jvm.MethodName) prog_13_method_35_code (3 : Nat) (Option.some Jvm.ClassFile.FieldType.int)) ∈ lw_all := lw_g (lw_at lw_m5 85 rfl) rfl
theorem q1130 : (Jvm.Cond.methodLink "BagPhrasesModel" (220 : Nat) ({ cls := "BagPhrasesModel", name := "madeOf", desc := "(I)I" } : Jvm.MethodName)) ∈ lw_all := lw_g (lw_at lw_m5 86 rfl) rfl
theorem q1131 : (Jvm.Cond.privateMethod ({ cls := "BagPhrasesModel", name := "madeOf", desc := "(I)I" } : Jvm.MethodName)) ∈ lw_tbl := lw_at lw_m5 87 rfl
theorem q1132 : (Jvm.Cond.instanceMethod ({ cls := "BagPhrasesModel", name := "madeOf", desc := "(I)I" } : Jvm.MethodName)) ∈ lw_all := lw_g (lw_at lw_m5 88 rfl) rfl
theorem q1133 : (Jvm.Cond.code ({ cls := "BagPhrasesModel", name := "madeOf", desc := "(I)I" } : Jvm.MethodName) prog_13_method_41_code (5 : Nat) (Option.some Jvm.ClassFile.FieldType.int)) ∈ lw_all := lw_g (lw_at lw_m5 89 rfl) rfl
theorem q1134 : (Jvm.Cond.methodLink "BagPhrasesModel" (230 : Nat) ({ cls := "BagPhrasesModel", name := "inPhrases", desc := "()I" } : Jvm.MethodName)) ∈ lw_all := lw_g (lw_at lw_m5 90 rfl) rfl
theorem q1135 : (Jvm.Cond.privateMethod ({ cls := "BagPhrasesModel", name := "inPhrases", desc := "()I" } : Jvm.MethodName)) ∈ lw_tbl := lw_at lw_m5 91 rfl
theorem q1136 : (Jvm.Cond.instanceMethod ({ cls := "BagPhrasesModel", name := "inPhrases", desc := "()I" } : Jvm.MethodName)) ∈ lw_all := lw_g (lw_at lw_m5 92 rfl) rfl
theorem q1137 : (Jvm.Cond.code ({ cls := "BagPhrasesModel", name := "inPhrases", desc := "()I" } : Jvm.MethodName) prog_13_method_34_code (3 : Nat) (Option.some Jvm.ClassFile.FieldType.int)) ∈ lw_all := lw_g (lw_at lw_m5 93 rfl) rfl
theorem q1138 : (Jvm.Cond.methodLink "BagPhrasesModel" (216 : Nat) ({ cls := "BagPhrasesModel", name := "withWord", desc := "([II)J" } : Jvm.MethodName)) ∈ lw_all := lw_g (lw_at lw_m5 94 rfl) rfl
theorem q1139 : (Jvm.Cond.privateMethod ({ cls := "BagPhrasesModel", name := "withWord", desc := "([II)J" } : Jvm.MethodName)) ∈ lw_tbl := lw_at lw_m5 95 rfl
theorem q1140 : (Jvm.Cond.instanceMethod ({ cls := "BagPhrasesModel", name := "withWord", desc := "([II)J" } : Jvm.MethodName)) ∈ lw_all := lw_g (lw_at lw_m5 96 rfl) rfl
theorem q1141 : (Jvm.Cond.code ({ cls := "BagPhrasesModel", name := "withWord", desc := "([II)J" } : Jvm.MethodName) prog_13_method_53_code (5 : Nat) (Option.some Jvm.ClassFile.FieldType.long)) ∈ lw_all := lw_g (lw_at lw_m5 97 rfl) rfl
theorem q1142 : (Jvm.Cond.methodLink "BagPhrasesModel" (272 : Nat) ({ cls := "BagPhrasesModel", name := "manyOf", desc := "([I)J" } : Jvm.MethodName)) ∈ lw_all := lw_g (lw_at lw_m5 98 rfl) rfl
theorem q1143 : (Jvm.Cond.privateMethod ({ cls := "BagPhrasesModel", name := "manyOf", desc := "([I)J" } : Jvm.MethodName)) ∈ lw_tbl := lw_at lw_m5 99 rfl
theorem q1144 : (Jvm.Cond.instanceMethod ({ cls := "BagPhrasesModel", name := "manyOf", desc := "([I)J" } : Jvm.MethodName)) ∈ lw_all := lw_g (lw_at lw_m5 100 rfl) rfl
theorem q1145 : (Jvm.Cond.code ({ cls := "BagPhrasesModel", name := "manyOf", desc := "([I)J" } : Jvm.MethodName) prog_13_method_31_code (2 : Nat) (Option.some Jvm.ClassFile.FieldType.long)) ∈ lw_all := lw_g (lw_at lw_m5 101 rfl) rfl
theorem q1146 : (Jvm.Cond.methodLink "BagPhrasesModel" (205 : Nat) ({ cls := "BagPhrasesModel", name := "layWays", desc := "()V" } : Jvm.MethodName)) ∈ lw_all := lw_g (lw_at lw_m5 102 rfl) rfl
theorem q1147 : (Jvm.Cond.privateMethod ({ cls := "BagPhrasesModel", name := "layWays", desc := "()V" } : Jvm.MethodName)) ∈ lw_tbl := lw_at lw_m5 103 rfl
theorem q1148 : (Jvm.Cond.instanceMethod ({ cls := "BagPhrasesModel", name := "layWays", desc := "()V" } : Jvm.MethodName)) ∈ lw_all := lw_g (lw_at lw_m5 104 rfl) rfl
theorem q1149 : (Jvm.Cond.code ({ cls := "BagPhrasesModel", name := "layWays", desc := "()V" } : Jvm.MethodName) prog_13_method_29_code (6 : Nat) (Option.none : Option Jvm.ClassFile.FieldType)) ∈ lw_all := lw_g (lw_at lw_m5 105 rfl) rfl
theorem q1150 : (Jvm.Cond.methodLink "BagPhrasesModel" (194 : Nat) ({ cls := "BagPhrasesModel", name := "mayCome", desc := "(III)Z" } : Jvm.MethodName)) ∈ lw_all := lw_g (lw_at lw_m5 106 rfl) rfl
theorem q1151 : (Jvm.Cond.privateMethod ({ cls := "BagPhrasesModel", name := "mayCome", desc := "(III)Z" } : Jvm.MethodName)) ∈ lw_tbl := lw_at lw_m5 107 rfl
theorem q1152 : (Jvm.Cond.instanceMethod ({ cls := "BagPhrasesModel", name := "mayCome", desc := "(III)Z" } : Jvm.MethodName)) ∈ lw_all := lw_g (lw_at lw_m5 108 rfl) rfl
theorem q1153 : (Jvm.Cond.code ({ cls := "BagPhrasesModel", name := "mayCome", desc := "(III)Z" } : Jvm.MethodName) prog_13_method_27_code (5 : Nat) (Option.some Jvm.ClassFile.FieldType.boolean)) ∈ lw_all := lw_g (lw_at lw_m5 109 rfl) rfl
theorem q1154 : (Jvm.Cond.methodLink "BagPhrasesModel" (198 : Nat) ({ cls := "BagPhrasesModel", name := "endsAs", desc := "([JII)J" } : Jvm.MethodName)) ∈ lw_all := lw_g (lw_at lw_m5 110 rfl) rfl
theorem q1155 : (Jvm.Cond.privateMethod ({ cls := "BagPhrasesModel", name := "endsAs", desc := "([JII)J" } : Jvm.MethodName)) ∈ lw_tbl := lw_at lw_m5 111 rfl
theorem q1156 : (Jvm.Cond.instanceMethod ({ cls := "BagPhrasesModel", name := "endsAs", desc := "([JII)J" } : Jvm.MethodName)) ∈ lw_all := lw_g (lw_at lw_m5 112 rfl) rfl
theorem q1157 : (Jvm.Cond.code ({ cls := "BagPhrasesModel", name := "endsAs", desc := "([JII)J" } : Jvm.MethodName) prog_13_method_28_code (5 : Nat) (Option.some Jvm.ClassFile.FieldType.long)) ∈ lw_all := lw_g (lw_at lw_m5 113 rfl) rfl
theorem q1158 : (Jvm.Cond.methodLink "BagPhrasesModel" (208 : Nat) ({ cls := "BagPhrasesModel", name := "all", desc := "()J" } : Jvm.MethodName)) ∈ lw_all := lw_g (lw_at lw_m5 114 rfl) rfl
theorem q1159 : (Jvm.Cond.privateMethod ({ cls := "BagPhrasesModel", name := "all", desc := "()J" } : Jvm.MethodName)) ∈ lw_tbl := lw_at lw_m5 115 rfl
theorem q1160 : (Jvm.Cond.instanceMethod ({ cls := "BagPhrasesModel", name := "all", desc := "()J" } : Jvm.MethodName)) ∈ lw_all := lw_g (lw_at lw_m5 116 rfl) rfl
theorem q1161 : (Jvm.Cond.code ({ cls := "BagPhrasesModel", name := "all", desc := "()J" } : Jvm.MethodName) prog_13_method_30_code (1 : Nat) (Option.some Jvm.ClassFile.FieldType.long)) ∈ lw_all := lw_g (lw_at lw_m5 117 rfl) rfl
theorem q1162 : (Jvm.Cond.methodLink "BagPhrasesModel" (233 : Nat) ({ cls := "BagPhrasesModel", name := "few", desc := "(Z)I" } : Jvm.MethodName)) ∈ lw_all := lw_g (lw_at lw_m5 118 rfl) rfl
theorem q1163 : (Jvm.Cond.privateMethod ({ cls := "BagPhrasesModel", name := "few", desc := "(Z)I" } : Jvm.MethodName)) ∈ lw_tbl := lw_at lw_m5 119 rfl
theorem q1164 : (Jvm.Cond.instanceMethod ({ cls := "BagPhrasesModel", name := "few", desc := "(Z)I" } : Jvm.MethodName)) ∈ lw_all := lw_g (lw_at lw_m5 120 rfl) rfl
theorem q1165 : (Jvm.Cond.code ({ cls := "BagPhrasesModel", name := "few", desc := "(Z)I" } : Jvm.MethodName) prog_13_method_33_code (4 : Nat) (Option.some Jvm.ClassFile.FieldType.int)) ∈ lw_all := lw_g (lw_at lw_m5 121 rfl) rfl
theorem q1166 : (Jvm.Cond.methodLink "BagPhrasesModel" (212 : Nat) ({ cls := "BagPhrasesModel", name := "manyBy", desc := "(I)J" } : Jvm.MethodName)) ∈ lw_all := lw_g (lw_at lw_m5 122 rfl) rfl
theorem q1167 : (Jvm.Cond.privateMethod ({ cls := "BagPhrasesModel", name := "manyBy", desc := "(I)J" } : Jvm.MethodName)) ∈ lw_tbl := lw_at lw_m5 123 rfl
theorem q1168 : (Jvm.Cond.instanceMethod ({ cls := "BagPhrasesModel", name := "manyBy", desc := "(I)J" } : Jvm.MethodName)) ∈ lw_all := lw_g (lw_at lw_m5 124 rfl) rfl
theorem q1169 : (Jvm.Cond.code ({ cls := "BagPhrasesModel", name := "manyBy", desc := "(I)J" } : Jvm.MethodName) prog_13_method_32_code (9 : Nat) (Option.some Jvm.ClassFile.FieldType.long)) ∈ lw_all := lw_g (lw_at lw_m5 125 rfl) rfl
theorem q1171 : (Jvm.Cond.instanceMethod ({ cls := "BagPhrasesModel", name := "word", desc := "(II)I" } : Jvm.MethodName)) ∈ lw_all := lw_g (lw_at lw_m5 127 rfl) rfl
theorem q1172 : (Jvm.Cond.selects "BagPhrasesModel" ({ cls := "BagPhrasesModel", name := "word", desc := "(II)I" } : Jvm.MethodName) ({ cls := "BagPhrasesModel", name := "word", desc := "(II)I" } : Jvm.MethodName)) ∈ lw_all := lw_g (lw_at lw_m5 128 rfl) rfl
theorem q1173 : (Jvm.Cond.code ({ cls := "BagPhrasesModel", name := "word", desc := "(II)I" } : Jvm.MethodName) prog_13_method_43_code (3 : Nat) (Option.some Jvm.ClassFile.FieldType.int)) ∈ lw_all := lw_g (lw_at lw_m5 129 rfl) rfl
theorem q1174 : (Jvm.Cond.methodLink "BagPhrasesModel" (243 : Nat) ({ cls := "BagPhrasesModel", name := "isWord", desc := "(I)Z" } : Jvm.MethodName)) ∈ lw_all := lw_g (lw_at lw_m5 130 rfl) rfl
theorem q1175 : (Jvm.Cond.privateMethod ({ cls := "BagPhrasesModel", name := "isWord", desc := "(I)Z" } : Jvm.MethodName)) ∈ lw_tbl := lw_at lw_m5 131 rfl
theorem q1176 : (Jvm.Cond.instanceMethod ({ cls := "BagPhrasesModel", name := "isWord", desc := "(I)Z" } : Jvm.MethodName)) ∈ lw_all := lw_g (lw_at lw_m5 132 rfl) rfl
theorem q1177 : (Jvm.Cond.code ({ cls := "BagPhrasesModel", name := "isWord", desc := "(I)Z" } : Jvm.MethodName) prog_13_method_11_code (2 : Nat) (Option.some Jvm.ClassFile.FieldType.boolean)) ∈ lw_all := lw_g (lw_at lw_m5 133 rfl) rfl
theorem q1178 : (Jvm.Cond.methodLink "BagPhrasesModel" (246 : Nat) ({ cls := "BagPhrasesModel", name := "rarest", desc := "(I)I" } : Jvm.MethodName)) ∈ lw_all := lw_g (lw_at lw_m5 134 rfl) rfl
theorem q1179 : (Jvm.Cond.privateMethod ({ cls := "BagPhrasesModel", name := "rarest", desc := "(I)I" } : Jvm.MethodName)) ∈ lw_tbl := lw_at lw_m5 135 rfl
theorem q1180 : (Jvm.Cond.instanceMethod ({ cls := "BagPhrasesModel", name := "rarest", desc := "(I)I" } : Jvm.MethodName)) ∈ lw_all := lw_g (lw_at lw_m5 136 rfl) rfl
theorem q1181 : (Jvm.Cond.code ({ cls := "BagPhrasesModel", name := "rarest", desc := "(I)I" } : Jvm.MethodName) prog_13_method_39_code (4 : Nat) (Option.some Jvm.ClassFile.FieldType.int)) ∈ lw_all := lw_g (lw_at lw_m5 137 rfl) rfl
theorem q1182 : (Jvm.Cond.methodLink "BagPhrasesModel" (240 : Nat) ({ cls := "BagPhrasesModel", name := "havers", desc := "(I)I" } : Jvm.MethodName)) ∈ lw_all := lw_g (lw_at lw_m5 138 rfl) rfl
theorem q1183 : (Jvm.Cond.privateMethod ({ cls := "BagPhrasesModel", name := "havers", desc := "(I)I" } : Jvm.MethodName)) ∈ lw_tbl := lw_at lw_m5 139 rfl
theorem q1184 : (Jvm.Cond.instanceMethod ({ cls := "BagPhrasesModel", name := "havers", desc := "(I)I" } : Jvm.MethodName)) ∈ lw_all := lw_g (lw_at lw_m5 140 rfl) rfl
theorem q1185 : (Jvm.Cond.code ({ cls := "BagPhrasesModel", name := "havers", desc := "(I)I" } : Jvm.MethodName) prog_13_method_38_code (4 : Nat) (Option.some Jvm.ClassFile.FieldType.int)) ∈ lw_all := lw_g (lw_at lw_m5 141 rfl) rfl
theorem q1186 : (Jvm.Cond.methodLink "BagPhrasesModel" (249 : Nat) ({ cls := "BagPhrasesModel", name := "twins", desc := "(I)I" } : Jvm.MethodName)) ∈ lw_all := lw_g (lw_at lw_m5 142 rfl) rfl
theorem q1187 : (Jvm.Cond.privateMethod ({ cls := "BagPhrasesModel", name := "twins", desc := "(I)I" } : Jvm.MethodName)) ∈ lw_tbl := lw_at lw_m5 143 rfl
theorem q1188 : (Jvm.Cond.instanceMethod ({ cls := "BagPhrasesModel", name := "twins", desc := "(I)I" } : Jvm.MethodName)) ∈ lw_all := lw_g (lw_at lw_m5 144 rfl) rfl
theorem q1189 : (Jvm.Cond.code ({ cls := "BagPhrasesModel", name := "twins", desc := "(I)I" } : Jvm.MethodName) prog_13_method_40_code (6 : Nat) (Option.some Jvm.ClassFile.FieldType.int)) ∈ lw_all := lw_g (lw_at lw_m5 145 rfl) rfl
theorem q1190 : (Jvm.Cond.methodLink "BagPhrasesModel" (252 : Nat) ({ cls := "BagPhrasesModel", name := "lettersOf", desc := "(I)I" } : Jvm.MethodName)) ∈ lw_all := lw_g (lw_at lw_m5 146 rfl) rfl
theorem q1191 : (Jvm.Cond.privateMethod ({ cls := "BagPhrasesModel", name := "lettersOf", desc := "(I)I" } : Jvm.MethodName)) ∈ lw_tbl := lw_at lw_m5 147 rfl
theorem q1192 : (Jvm.Cond.instanceMethod ({ cls := "BagPhrasesModel", name := "lettersOf", desc := "(I)I" } : Jvm.MethodName)) ∈ lw_all := lw_g (lw_at lw_m5 148 rfl) rfl
theorem q1193 : (Jvm.Cond.code ({ cls := "BagPhrasesModel", name := "lettersOf", desc := "(I)I" } : Jvm.MethodName) prog_13_method_42_code (4 : Nat) (Option.some Jvm.ClassFile.FieldType.int)) ∈ lw_all := lw_g (lw_at lw_m5 149 rfl) rfl
theorem q1195 : (Jvm.Cond.instanceMethod ({ cls := "BagPhrasesModel", name := "letter", desc := "(II)I" } : Jvm.MethodName)) ∈ lw_all := lw_g (lw_at lw_m5 151 rfl) rfl
theorem q1196 : (Jvm.Cond.selects "BagPhrasesModel" ({ cls := "BagPhrasesModel", name := "letter", desc := "(II)I" } : Jvm.MethodName) ({ cls := "BagPhrasesModel", name := "letter", desc := "(II)I" } : Jvm.MethodName)) ∈ lw_all := lw_g (lw_at lw_m5 152 rfl) rfl
theorem q1197 : (Jvm.Cond.code ({ cls := "BagPhrasesModel", name := "letter", desc := "(II)I" } : Jvm.MethodName) prog_13_method_44_code (3 : Nat) (Option.some Jvm.ClassFile.FieldType.int)) ∈ lw_all := lw_g (lw_at lw_m5 153 rfl) rfl
theorem q1198 : (Jvm.Cond.methodLink "BagPhrasesModel" (255 : Nat) ({ cls := "BagPhrasesModel", name := "isLetter", desc := "(I)Z" } : Jvm.MethodName)) ∈ lw_all := lw_g (lw_at lw_m5 154 rfl) rfl
theorem q1199 : (Jvm.Cond.static ({ cls := "BagPhrasesModel", name := "isLetter", desc := "(I)Z" } : Jvm.MethodName)) ∈ lw_all := lw_g (lw_at lw_m5 155 rfl) rfl
theorem q1200 : (Jvm.Cond.code ({ cls := "BagPhrasesModel", name := "isLetter", desc := "(I)Z" } : Jvm.MethodName) prog_13_method_12_code (1 : Nat) (Option.some Jvm.ClassFile.FieldType.boolean)) ∈ lw_all := lw_g (lw_at lw_m5 156 rfl) rfl
theorem q1201 : (Jvm.Cond.constantLong "BagPhrasesModel" (111 : Nat) (7 : Int64)) ∈ lw_all := lw_g (lw_at lw_m5 157 rfl) rfl
theorem q1203 : (Jvm.Cond.instanceMethod ({ cls := "BagPhrasesModel", name := "put", desc := "(I)I" } : Jvm.MethodName)) ∈ lw_all := lw_g (lw_at lw_m5 159 rfl) rfl
theorem q1204 : (Jvm.Cond.selects "BagPhrasesModel" ({ cls := "BagPhrasesModel", name := "put", desc := "(I)I" } : Jvm.MethodName) ({ cls := "BagPhrasesModel", name := "put", desc := "(I)I" } : Jvm.MethodName)) ∈ lw_all := lw_g (lw_at lw_m5 160 rfl) rfl
theorem q1205 : (Jvm.Cond.code ({ cls := "BagPhrasesModel", name := "put", desc := "(I)I" } : Jvm.MethodName) prog_13_method_46_code (2 : Nat) (Option.some Jvm.ClassFile.FieldType.int)) ∈ lw_all := lw_g (lw_at lw_m5 161 rfl) rfl
theorem q1206 : (Jvm.Cond.methodLink "BagPhrasesModel" (261 : Nat) ({ cls := "BagPhrasesModel", name := "note", desc := "()V" } : Jvm.MethodName)) ∈ lw_all := lw_g (lw_at lw_m5 162 rfl) rfl
theorem q1207 : (Jvm.Cond.privateMethod ({ cls := "BagPhrasesModel", name := "note", desc := "()V" } : Jvm.MethodName)) ∈ lw_tbl := lw_at lw_m5 163 rfl
theorem q1208 : (Jvm.Cond.instanceMethod ({ cls := "BagPhrasesModel", name := "note", desc := "()V" } : Jvm.MethodName)) ∈ lw_all := lw_g (lw_at lw_m5 164 rfl) rfl
theorem q1209 : (Jvm.Cond.code ({ cls := "BagPhrasesModel", name := "note", desc := "()V" } : Jvm.MethodName) prog_13_method_45_code (2 : Nat) (Option.none : Option Jvm.ClassFile.FieldType)) ∈ lw_all := lw_g (lw_at lw_m5 165 rfl) rfl
theorem q1211 : (Jvm.Cond.instanceMethod ({ cls := "BagPhrasesModel", name := "take", desc := "(I)I" } : Jvm.MethodName)) ∈ lw_all := lw_g (lw_at lw_m5 167 rfl) rfl
theorem q1212 : (Jvm.Cond.selects "BagPhrasesModel" ({ cls := "BagPhrasesModel", name := "take", desc := "(I)I" } : Jvm.MethodName) ({ cls := "BagPhrasesModel", name := "take", desc := "(I)I" } : Jvm.MethodName)) ∈ lw_all := lw_g (lw_at lw_m5 168 rfl) rfl
theorem q1213 : (Jvm.Cond.code ({ cls := "BagPhrasesModel", name := "take", desc := "(I)I" } : Jvm.MethodName) prog_13_method_47_code (2 : Nat) (Option.some Jvm.ClassFile.FieldType.int)) ∈ lw_all := lw_g (lw_at lw_m5 169 rfl) rfl
theorem q1215 : (Jvm.Cond.instanceMethod ({ cls := "BagPhrasesModel", name := "bar", desc := "(I)I" } : Jvm.MethodName)) ∈ lw_all := lw_g (lw_at lw_m5 171 rfl) rfl
theorem q1216 : (Jvm.Cond.selects "BagPhrasesModel" ({ cls := "BagPhrasesModel", name := "bar", desc := "(I)I" } : Jvm.MethodName) ({ cls := "BagPhrasesModel", name := "bar", desc := "(I)I" } : Jvm.MethodName)) ∈ lw_all := lw_g (lw_at lw_m5 172 rfl) rfl
theorem q1217 : (Jvm.Cond.code ({ cls := "BagPhrasesModel", name := "bar", desc := "(I)I" } : Jvm.MethodName) prog_13_method_48_code (2 : Nat) (Option.some Jvm.ClassFile.FieldType.int)) ∈ lw_all := lw_g (lw_at lw_m5 173 rfl) rfl
theorem q1219 : (Jvm.Cond.instanceMethod ({ cls := "BagPhrasesModel", name := "rank", desc := "(II)I" } : Jvm.MethodName)) ∈ lw_all := lw_g (lw_at lw_m5 175 rfl) rfl
theorem q1220 : (Jvm.Cond.selects "BagPhrasesModel" ({ cls := "BagPhrasesModel", name := "rank", desc := "(II)I" } : Jvm.MethodName) ({ cls := "BagPhrasesModel", name := "rank", desc := "(II)I" } : Jvm.MethodName)) ∈ lw_all := lw_g (lw_at lw_m5 176 rfl) rfl
theorem q1221 : (Jvm.Cond.code ({ cls := "BagPhrasesModel", name := "rank", desc := "(II)I" } : Jvm.MethodName) prog_13_method_49_code (4 : Nat) (Option.some Jvm.ClassFile.FieldType.int)) ∈ lw_all := lw_g (lw_at lw_m5 177 rfl) rfl
theorem q1222 : (Jvm.Cond.constantLong "BagPhrasesModel" (264 : Nat) (9 : Int64)) ∈ lw_all := lw_g (lw_at lw_m5 178 rfl) rfl
theorem q1224 : (Jvm.Cond.instanceMethod ({ cls := "BagPhrasesModel", name := "allow", desc := "(III)I" } : Jvm.MethodName)) ∈ lw_all := lw_g (lw_at lw_m5 180 rfl) rfl
theorem q1225 : (Jvm.Cond.selects "BagPhrasesModel" ({ cls := "BagPhrasesModel", name := "allow", desc := "(III)I" } : Jvm.MethodName) ({ cls := "BagPhrasesModel", name := "allow", desc := "(III)I" } : Jvm.MethodName)) ∈ lw_all := lw_g (lw_at lw_m5 181 rfl) rfl
theorem q1226 : (Jvm.Cond.code ({ cls := "BagPhrasesModel", name := "allow", desc := "(III)I" } : Jvm.MethodName) prog_13_method_50_code (6 : Nat) (Option.some Jvm.ClassFile.FieldType.int)) ∈ lw_all := lw_g (lw_at lw_m5 182 rfl) rfl
theorem q1227 : (Jvm.Cond.constantLong "BagPhrasesModel" (266 : Nat) (2 : Int64)) ∈ lw_all := lw_g (lw_at lw_m5 183 rfl) rfl
theorem q1229 : (Jvm.Cond.instanceMethod ({ cls := "BagPhrasesModel", name := "undo", desc := "()I" } : Jvm.MethodName)) ∈ lw_all := lw_g (lw_at lw_m5 185 rfl) rfl
theorem q1230 : (Jvm.Cond.selects "BagPhrasesModel" ({ cls := "BagPhrasesModel", name := "undo", desc := "()I" } : Jvm.MethodName) ({ cls := "BagPhrasesModel", name := "undo", desc := "()I" } : Jvm.MethodName)) ∈ lw_all := lw_g (lw_at lw_m5 186 rfl) rfl
theorem q1231 : (Jvm.Cond.code ({ cls := "BagPhrasesModel", name := "undo", desc := "()I" } : Jvm.MethodName) prog_13_method_51_code (2 : Nat) (Option.some Jvm.ClassFile.FieldType.int)) ∈ lw_all := lw_g (lw_at lw_m5 187 rfl) rfl
theorem q1233 : (Jvm.Cond.instanceMethod ({ cls := "BagPhrasesModel", name := "many", desc := "(I)J" } : Jvm.MethodName)) ∈ lw_all := lw_g (lw_at lw_m5 189 rfl) rfl
theorem q1234 : (Jvm.Cond.selects "BagPhrasesModel" ({ cls := "BagPhrasesModel", name := "many", desc := "(I)J" } : Jvm.MethodName) ({ cls := "BagPhrasesModel", name := "many", desc := "(I)J" } : Jvm.MethodName)) ∈ lw_all := lw_g (lw_at lw_m5 190 rfl) rfl
theorem q1235 : (Jvm.Cond.code ({ cls := "BagPhrasesModel", name := "many", desc := "(I)J" } : Jvm.MethodName) prog_13_method_52_code (4 : Nat) (Option.some Jvm.ClassFile.FieldType.long)) ∈ lw_all := lw_g (lw_at lw_m5 191 rfl) rfl
theorem q1236 : (Jvm.Cond.constantLong "BagPhrasesModel" (268 : Nat) (12 : Int64)) ∈ lw_all := lw_g (lw_at lw_m5 192 rfl) rfl
theorem q1237 : (Jvm.Cond.constantLong "BagPhrasesModel" (270 : Nat) (-2 : Int64)) ∈ lw_all := lw_g (lw_at lw_m5 193 rfl) rfl
theorem q1239 : (Jvm.Cond.instanceMethod ({ cls := "BagPhrasesModel", name := "having", desc := "(I)J" } : Jvm.MethodName)) ∈ lw_all := lw_g (lw_at lw_m5 195 rfl) rfl
theorem q1240 : (Jvm.Cond.selects "BagPhrasesModel" ({ cls := "BagPhrasesModel", name := "having", desc := "(I)J" } : Jvm.MethodName) ({ cls := "BagPhrasesModel", name := "having", desc := "(I)J" } : Jvm.MethodName)) ∈ lw_all := lw_g (lw_at lw_m5 196 rfl) rfl
theorem q1241 : (Jvm.Cond.code ({ cls := "BagPhrasesModel", name := "having", desc := "(I)J" } : Jvm.MethodName) prog_13_method_54_code (2 : Nat) (Option.some Jvm.ClassFile.FieldType.long)) ∈ lw_all := lw_g (lw_at lw_m5 197 rfl) rfl
theorem q1242 : (Jvm.Cond.constantLong "BagPhrasesModel" (276 : Nat) (-1 : Int64)) ∈ lw_all := lw_g (lw_at lw_m5 198 rfl) rfl
theorem q1244 : (Jvm.Cond.instanceMethod ({ cls := "BagPhrasesModel", name := "best", desc := "(I)I" } : Jvm.MethodName)) ∈ lw_all := lw_g (lw_at lw_m5 200 rfl) rfl
theorem q1245 : (Jvm.Cond.selects "BagPhrasesModel" ({ cls := "BagPhrasesModel", name := "best", desc := "(I)I" } : Jvm.MethodName) ({ cls := "BagPhrasesModel", name := "best", desc := "(I)I" } : Jvm.MethodName)) ∈ lw_all := lw_g (lw_at lw_m5 201 rfl) rfl
theorem q1246 : (Jvm.Cond.code ({ cls := "BagPhrasesModel", name := "best", desc := "(I)I" } : Jvm.MethodName) prog_13_method_59_code (3 : Nat) (Option.some Jvm.ClassFile.FieldType.int)) ∈ lw_all := lw_g (lw_at lw_m5 202 rfl) rfl
theorem q1247 : (Jvm.Cond.constantLong "BagPhrasesModel" (285 : Nat) (13 : Int64)) ∈ lw_all := lw_g (lw_at lw_m5 203 rfl) rfl
theorem q1248 : (Jvm.Cond.methodLink "BagPhrasesModel" (287 : Nat) ({ cls := "BagPhrasesModel", name := "findBest", desc := "()I" } : Jvm.MethodName)) ∈ lw_all := lw_g (lw_at lw_m5 204 rfl) rfl
theorem q1249 : (Jvm.Cond.privateMethod ({ cls := "BagPhrasesModel", name := "findBest", desc := "()I" } : Jvm.MethodName)) ∈ lw_tbl := lw_at lw_m5 205 rfl
theorem q1250 : (Jvm.Cond.instanceMethod ({ cls := "BagPhrasesModel", name := "findBest", desc := "()I" } : Jvm.MethodName)) ∈ lw_all := lw_g (lw_at lw_m5 206 rfl) rfl
theorem q1251 : (Jvm.Cond.code ({ cls := "BagPhrasesModel", name := "findBest", desc := "()I" } : Jvm.MethodName) prog_13_method_57_code (5 : Nat) (Option.some Jvm.ClassFile.FieldType.int)) ∈ lw_all := lw_g (lw_at lw_m5 207 rfl) rfl
theorem q1252 : (Jvm.Cond.methodLink "BagPhrasesModel" (282 : Nat) ({ cls := "BagPhrasesModel", name := "layBest", desc := "()V" } : Jvm.MethodName)) ∈ lw_all := lw_g (lw_at lw_m5 208 rfl) rfl
theorem q1253 : (Jvm.Cond.privateMethod ({ cls := "BagPhrasesModel", name := "layBest", desc := "()V" } : Jvm.MethodName)) ∈ lw_tbl := lw_at lw_m5 209 rfl
theorem q1254 : (Jvm.Cond.instanceMethod ({ cls := "BagPhrasesModel", name := "layBest", desc := "()V" } : Jvm.MethodName)) ∈ lw_all := lw_g (lw_at lw_m5 210 rfl) rfl
theorem q1255 : (Jvm.Cond.code ({ cls := "BagPhrasesModel", name := "layBest", desc := "()V" } : Jvm.MethodName) prog_13_method_55_code (4 : Nat) (Option.none : Option Jvm.ClassFile.FieldType)) ∈ lw_all := lw_g (lw_at lw_m5 211 rfl) rfl
theorem q1256 : (Jvm.Cond.methodLink "BagPhrasesModel" (278 : Nat) ({ cls := "BagPhrasesModel", name := "bestWith", desc := "(II)I" } : Jvm.MethodName)) ∈ lw_all := lw_g (lw_at lw_m5 212 rfl) rfl
theorem q1257 : (Jvm.Cond.privateMethod ({ cls := "BagPhrasesModel", name := "bestWith", desc := "(II)I" } : Jvm.MethodName)) ∈ lw_tbl := lw_at lw_m5 213 rfl
theorem q1258 : (Jvm.Cond.instanceMethod ({ cls := "BagPhrasesModel", name := "bestWith", desc := "(II)I" } : Jvm.MethodName)) ∈ lw_all := lw_g (lw_at lw_m5 214 rfl) rfl
theorem q1259 : (Jvm.Cond.code ({ cls := "BagPhrasesModel", name := "bestWith", desc := "(II)I" } : Jvm.MethodName) prog_13_method_56_code (4 : Nat) (Option.some Jvm.ClassFile.FieldType.int)) ∈ lw_all := lw_g (lw_at lw_m5 215 rfl) rfl
theorem q1260 : (Jvm.Cond.methodLink "BagPhrasesModel" (290 : Nat) ({ cls := "BagPhrasesModel", name := "worthOf", desc := "(I)I" } : Jvm.MethodName)) ∈ lw_all := lw_g (lw_at lw_m5 216 rfl) rfl
theorem q1261 : (Jvm.Cond.privateMethod ({ cls := "BagPhrasesModel", name := "worthOf", desc := "(I)I" } : Jvm.MethodName)) ∈ lw_tbl := lw_at lw_m5 217 rfl
theorem q1262 : (Jvm.Cond.instanceMethod ({ cls := "BagPhrasesModel", name := "worthOf", desc := "(I)I" } : Jvm.MethodName)) ∈ lw_all := lw_g (lw_at lw_m5 218 rfl) rfl
theorem q1263 : (Jvm.Cond.code ({ cls := "BagPhrasesModel", name := "worthOf", desc := "(I)I" } : Jvm.MethodName) prog_13_method_58_code (4 : Nat) (Option.some Jvm.ClassFile.FieldType.int)) ∈ lw_all := lw_g (lw_at lw_m5 219 rfl) rfl
theorem q1265 : (Jvm.Cond.instanceMethod ({ cls := "BagPhrasesModel", name := "phrase", desc := "(JI)I" } : Jvm.MethodName)) ∈ lw_all := lw_g (lw_at lw_m5 221 rfl) rfl
theorem q1266 : (Jvm.Cond.selects "BagPhrasesModel" ({ cls := "BagPhrasesModel", name := "phrase", desc := "(JI)I" } : Jvm.MethodName) ({ cls := "BagPhrasesModel", name := "phrase", desc := "(JI)I" } : Jvm.MethodName)) ∈ lw_all := lw_g (lw_at lw_m5 222 rfl) rfl
theorem q1267 : (Jvm.Cond.code ({ cls := "BagPhrasesModel", name := "phrase", desc := "(JI)I" } : Jvm.MethodName) prog_13_method_61_code (5 : Nat) (Option.some Jvm.ClassFile.FieldType.int)) ∈ lw_all := lw_g (lw_at lw_m5 223 rfl) rfl
theorem q1268 : (Jvm.Cond.methodLink "BagPhrasesModel" (293 : Nat) ({ cls := "BagPhrasesModel", name := "find", desc := "(J)I" } : Jvm.MethodName)) ∈ lw_all := lw_g (lw_at lw_m5 224 rfl) rfl
theorem q1269 : (Jvm.Cond.privateMethod ({ cls := "BagPhrasesModel", name := "find", desc := "(J)I" } : Jvm.MethodName)) ∈ lw_tbl := lw_at lw_m5 225 rfl
theorem q1270 : (Jvm.Cond.instanceMethod ({ cls := "BagPhrasesModel", name := "find", desc := "(J)I" } : Jvm.MethodName)) ∈ lw_all := lw_g (lw_at lw_m5 226 rfl) rfl
theorem q1271 : (Jvm.Cond.code ({ cls := "BagPhrasesModel", name := "find", desc := "(J)I" } : Jvm.MethodName) prog_13_method_60_code (11 : Nat) (Option.some Jvm.ClassFile.FieldType.int)) ∈ lw_all := lw_g (lw_at lw_m5 227 rfl) rfl
theorem q1273 : (Jvm.Cond.instanceMethod ({ cls := "BagPhrasesModel", name := "tell", desc := "(I)I" } : Jvm.MethodName)) ∈ lw_all := lw_g (lw_at lw_m5 229 rfl) rfl
theorem q1274 : (Jvm.Cond.selects "BagPhrasesModel" ({ cls := "BagPhrasesModel", name := "tell", desc := "(I)I" } : Jvm.MethodName) ({ cls := "BagPhrasesModel", name := "tell", desc := "(I)I" } : Jvm.MethodName)) ∈ lw_all := lw_g (lw_at lw_m5 230 rfl) rfl
theorem q1275 : (Jvm.Cond.code ({ cls := "BagPhrasesModel", name := "tell", desc := "(I)I" } : Jvm.MethodName) prog_13_method_62_code (2 : Nat) (Option.some Jvm.ClassFile.FieldType.int)) ∈ lw_all := lw_g (lw_at lw_m5 231 rfl) rfl
theorem q1277 : (Jvm.Cond.instanceMethod ({ cls := "BagPhrasesModel", name := "clear", desc := "()I" } : Jvm.MethodName)) ∈ lw_all := lw_g (lw_at lw_m5 233 rfl) rfl
theorem q1278 : (Jvm.Cond.selects "BagPhrasesModel" ({ cls := "BagPhrasesModel", name := "clear", desc := "()I" } : Jvm.MethodName) ({ cls := "BagPhrasesModel", name := "clear", desc := "()I" } : Jvm.MethodName)) ∈ lw_all := lw_g (lw_at lw_m5 234 rfl) rfl
theorem q1279 : (Jvm.Cond.code ({ cls := "BagPhrasesModel", name := "clear", desc := "()I" } : Jvm.MethodName) prog_13_method_63_code (2 : Nat) (Option.some Jvm.ClassFile.FieldType.int)) ∈ lw_all := lw_g (lw_at lw_m5 235 rfl) rfl
theorem q1281 : (Jvm.Cond.instanceMethod ({ cls := "BagPhrasesModel", name := "why", desc := "(I)I" } : Jvm.MethodName)) ∈ lw_all := lw_g (lw_at lw_m5 237 rfl) rfl
theorem q1282 : (Jvm.Cond.selects "BagPhrasesModel" ({ cls := "BagPhrasesModel", name := "why", desc := "(I)I" } : Jvm.MethodName) ({ cls := "BagPhrasesModel", name := "why", desc := "(I)I" } : Jvm.MethodName)) ∈ lw_all := lw_g (lw_at lw_m5 238 rfl) rfl
theorem q1283 : (Jvm.Cond.code ({ cls := "BagPhrasesModel", name := "why", desc := "(I)I" } : Jvm.MethodName) prog_13_method_66_code (3 : Nat) (Option.some Jvm.ClassFile.FieldType.int)) ∈ lw_all := lw_g (lw_at lw_m5 239 rfl) rfl
theorem q1284 : (Jvm.Cond.methodLink "BagPhrasesModel" (309 : Nat) ({ cls := "BagPhrasesModel", name := "reason", desc := "()I" } : Jvm.MethodName)) ∈ lw_all := lw_g (lw_at lw_m6 0 rfl) rfl
theorem q1285 : (Jvm.Cond.privateMethod ({ cls := "BagPhrasesModel", name := "reason", desc := "()I" } : Jvm.MethodName)) ∈ lw_tbl := lw_at lw_m6 1 rfl
theorem q1286 : (Jvm.Cond.instanceMethod ({ cls := "BagPhrasesModel", name := "reason", desc := "()I" } : Jvm.MethodName)) ∈ lw_all := lw_g (lw_at lw_m6 2 rfl) rfl
theorem q1287 : (Jvm.Cond.code ({ cls := "BagPhrasesModel", name := "reason", desc := "()I" } : Jvm.MethodName) prog_13_method_65_code (5 : Nat) (Option.some Jvm.ClassFile.FieldType.int)) ∈ lw_all := lw_g (lw_at lw_m6 3 rfl) rfl
theorem q1288 : (Jvm.Cond.methodLink "BagPhrasesModel" (306 : Nat) ({ cls := "BagPhrasesModel", name := "wantedBy", desc := "(I)I" } : Jvm.MethodName)) ∈ lw_all := lw_g (lw_at lw_m6 4 rfl) rfl
theorem q1289 : (Jvm.Cond.privateMethod ({ cls := "BagPhrasesModel", name := "wantedBy", desc := "(I)I" } : Jvm.MethodName)) ∈ lw_tbl := lw_at lw_m6 5 rfl
theorem q1290 : (Jvm.Cond.instanceMethod ({ cls := "BagPhrasesModel", name := "wantedBy", desc := "(I)I" } : Jvm.MethodName)) ∈ lw_all := lw_g (lw_at lw_m6 6 rfl) rfl
theorem q1291 : (Jvm.Cond.code ({ cls := "BagPhrasesModel", name := "wantedBy", desc := "(I)I" } : Jvm.MethodName) prog_13_method_64_code (5 : Nat) (Option.some Jvm.ClassFile.FieldType.int)) ∈ lw_all := lw_g (lw_at lw_m6 7 rfl) rfl
theorem q1293 : (Jvm.Cond.instanceMethod ({ cls := "BagPhrasesModel", name := "number", desc := "()J" } : Jvm.MethodName)) ∈ lw_all := lw_g (lw_at lw_m6 9 rfl) rfl
theorem q1294 : (Jvm.Cond.selects "BagPhrasesModel" ({ cls := "BagPhrasesModel", name := "number", desc := "()J" } : Jvm.MethodName) ({ cls := "BagPhrasesModel", name := "number", desc := "()J" } : Jvm.MethodName)) ∈ lw_all := lw_g (lw_at lw_m6 10 rfl) rfl
theorem q1295 : (Jvm.Cond.code ({ cls := "BagPhrasesModel", name := "number", desc := "()J" } : Jvm.MethodName) prog_13_method_67_code (7 : Nat) (Option.some Jvm.ClassFile.FieldType.long)) ∈ lw_all := lw_g (lw_at lw_m6 11 rfl) rfl
theorem q1296 : (Jvm.Cond.constantLong "BagPhrasesModel" (312 : Nat) (-9 : Int64)) ∈ lw_all := lw_g (lw_at lw_m6 12 rfl) rfl
theorem q1298 : (Jvm.Cond.instanceMethod ({ cls := "BagPhrasesModel", name := "nearly", desc := "(I)I" } : Jvm.MethodName)) ∈ lw_all := lw_g (lw_at lw_m6 14 rfl) rfl
theorem q1299 : (Jvm.Cond.selects "BagPhrasesModel" ({ cls := "BagPhrasesModel", name := "nearly", desc := "(I)I" } : Jvm.MethodName) ({ cls := "BagPhrasesModel", name := "nearly", desc := "(I)I" } : Jvm.MethodName)) ∈ lw_all := lw_g (lw_at lw_m6 15 rfl) rfl
theorem q1300 : (Jvm.Cond.code ({ cls := "BagPhrasesModel", name := "nearly", desc := "(I)I" } : Jvm.MethodName) prog_13_method_68_code (5 : Nat) (Option.some Jvm.ClassFile.FieldType.int)) ∈ lw_all := lw_g (lw_at lw_m6 16 rfl) rfl
theorem q1302 : (Jvm.Cond.instanceMethod ({ cls := "BagPhrasesModel", name := "judge", desc := "(IJ)I" } : Jvm.MethodName)) ∈ lw_all := lw_g (lw_at lw_m6 18 rfl) rfl
theorem q1303 : (Jvm.Cond.selects "BagPhrasesModel" ({ cls := "BagPhrasesModel", name := "judge", desc := "(IJ)I" } : Jvm.MethodName) ({ cls := "BagPhrasesModel", name := "judge", desc := "(IJ)I" } : Jvm.MethodName)) ∈ lw_all := lw_g (lw_at lw_m6 19 rfl) rfl
theorem q1304 : (Jvm.Cond.code ({ cls := "BagPhrasesModel", name := "judge", desc := "(IJ)I" } : Jvm.MethodName) prog_13_method_71_code (6 : Nat) (Option.some Jvm.ClassFile.FieldType.int)) ∈ lw_all := lw_g (lw_at lw_m6 20 rfl) rfl
theorem q1305 : (Jvm.Cond.constantLong "BagPhrasesModel" (316 : Nat) (4 : Int64)) ∈ lw_all := lw_g (lw_at lw_m6 21 rfl) rfl
theorem q1306 : (Jvm.Cond.methodLink "BagPhrasesModel" (318 : Nat) ({ cls := "BagPhrasesModel", name := "tenThousands", desc := "(I)J" } : Jvm.MethodName)) ∈ lw_all := lw_g (lw_at lw_m6 22 rfl) rfl
theorem q1307 : (Jvm.Cond.static ({ cls := "BagPhrasesModel", name := "tenThousands", desc := "(I)J" } : Jvm.MethodName)) ∈ lw_all := lw_g (lw_at lw_m6 23 rfl) rfl
theorem q1308 : (Jvm.Cond.code ({ cls := "BagPhrasesModel", name := "tenThousands", desc := "(I)J" } : Jvm.MethodName) prog_13_method_70_code (4 : Nat) (Option.some Jvm.ClassFile.FieldType.long)) ∈ lw_all := lw_g (lw_at lw_m6 24 rfl) rfl
theorem q1309 : (Jvm.Cond.constantLong "BagPhrasesModel" (314 : Nat) (10000 : Int64)) ∈ lw_all := lw_g (lw_at lw_m6 25 rfl) rfl
theorem q1310 : (Jvm.Cond.methodLink "BagPhrasesModel" (321 : Nat) ({ cls := "BagPhrasesModel", name := "judged", desc := "(IIII)Z" } : Jvm.MethodName)) ∈ lw_all := lw_g (lw_at lw_m6 26 rfl) rfl
theorem q1311 : (Jvm.Cond.privateMethod ({ cls := "BagPhrasesModel", name := "judged", desc := "(IIII)Z" } : Jvm.MethodName)) ∈ lw_tbl := lw_at lw_m6 27 rfl
theorem q1312 : (Jvm.Cond.instanceMethod ({ cls := "BagPhrasesModel", name := "judged", desc := "(IIII)Z" } : Jvm.MethodName)) ∈ lw_all := lw_g (lw_at lw_m6 28 rfl) rfl
theorem q1313 : (Jvm.Cond.code ({ cls := "BagPhrasesModel", name := "judged", desc := "(IIII)Z" } : Jvm.MethodName) prog_13_method_69_code (6 : Nat) (Option.some Jvm.ClassFile.FieldType.boolean)) ∈ lw_all := lw_g (lw_at lw_m6 29 rfl) rfl
theorem q1315 : (Jvm.Cond.instanceMethod ({ cls := "BagPhrasesModel", name := "see", desc := "(III)I" } : Jvm.MethodName)) ∈ lw_all := lw_g (lw_at lw_m6 31 rfl) rfl
theorem q1316 : (Jvm.Cond.selects "BagPhrasesModel" ({ cls := "BagPhrasesModel", name := "see", desc := "(III)I" } : Jvm.MethodName) ({ cls := "BagPhrasesModel", name := "see", desc := "(III)I" } : Jvm.MethodName)) ∈ lw_all := lw_g (lw_at lw_m6 32 rfl) rfl
theorem q1317 : (Jvm.Cond.code ({ cls := "BagPhrasesModel", name := "see", desc := "(III)I" } : Jvm.MethodName) prog_13_method_72_code (4 : Nat) (Option.some Jvm.ClassFile.FieldType.int)) ∈ lw_all := lw_g (lw_at lw_m6 33 rfl) rfl
theorem q1319 : (Jvm.Cond.instanceMethod ({ cls := "BagPhrasesModel", name := "unsee", desc := "()I" } : Jvm.MethodName)) ∈ lw_all := lw_g (lw_at lw_m6 35 rfl) rfl
theorem q1320 : (Jvm.Cond.selects "BagPhrasesModel" ({ cls := "BagPhrasesModel", name := "unsee", desc := "()I" } : Jvm.MethodName) ({ cls := "BagPhrasesModel", name := "unsee", desc := "()I" } : Jvm.MethodName)) ∈ lw_all := lw_g (lw_at lw_m6 36 rfl) rfl
theorem q1321 : (Jvm.Cond.code ({ cls := "BagPhrasesModel", name := "unsee", desc := "()I" } : Jvm.MethodName) prog_13_method_73_code (2 : Nat) (Option.some Jvm.ClassFile.FieldType.int)) ∈ lw_all := lw_g (lw_at lw_m6 37 rfl) rfl
theorem q1323 : (Jvm.Cond.instanceMethod ({ cls := "BagPhrasesModel", name := "left", desc := "(I)I" } : Jvm.MethodName)) ∈ lw_all := lw_g (lw_at lw_m6 39 rfl) rfl
theorem q1324 : (Jvm.Cond.selects "BagPhrasesModel" ({ cls := "BagPhrasesModel", name := "left", desc := "(I)I" } : Jvm.MethodName) ({ cls := "BagPhrasesModel", name := "left", desc := "(I)I" } : Jvm.MethodName)) ∈ lw_all := lw_g (lw_at lw_m6 40 rfl) rfl
theorem q1325 : (Jvm.Cond.code ({ cls := "BagPhrasesModel", name := "left", desc := "(I)I" } : Jvm.MethodName) prog_13_method_75_code (10 : Nat) (Option.some Jvm.ClassFile.FieldType.int)) ∈ lw_all := lw_g (lw_at lw_m6 41 rfl) rfl
theorem q1326 : (Jvm.Cond.constantLong "BagPhrasesModel" (325 : Nat) (2000 : Int64)) ∈ lw_all := lw_g (lw_at lw_m6 42 rfl) rfl
theorem q1327 : (Jvm.Cond.methodLink "BagPhrasesModel" (327 : Nat) ({ cls := "BagPhrasesModel", name := "isSo", desc := "(III)Z" } : Jvm.MethodName)) ∈ lw_all := lw_g (lw_at lw_m6 43 rfl) rfl
theorem q1328 : (Jvm.Cond.privateMethod ({ cls := "BagPhrasesModel", name := "isSo", desc := "(III)Z" } : Jvm.MethodName)) ∈ lw_tbl := lw_at lw_m6 44 rfl
theorem q1329 : (Jvm.Cond.instanceMethod ({ cls := "BagPhrasesModel", name := "isSo", desc := "(III)Z" } : Jvm.MethodName)) ∈ lw_all := lw_g (lw_at lw_m6 45 rfl) rfl
theorem q1330 : (Jvm.Cond.code ({ cls := "BagPhrasesModel", name := "isSo", desc := "(III)Z" } : Jvm.MethodName) prog_13_method_74_code (6 : Nat) (Option.some Jvm.ClassFile.FieldType.boolean)) ∈ lw_all := lw_g (lw_at lw_m6 46 rfl) rfl
theorem q1332 : (Jvm.Cond.instanceMethod ({ cls := "BagPhrasesModel", name := "share", desc := "(IZ)J" } : Jvm.MethodName)) ∈ lw_all := lw_g (lw_at lw_m6 48 rfl) rfl
theorem q1333 : (Jvm.Cond.selects "BagPhrasesModel" ({ cls := "BagPhrasesModel", name := "share", desc := "(IZ)J" } : Jvm.MethodName) ({ cls := "BagPhrasesModel", name := "share", desc := "(IZ)J" } : Jvm.MethodName)) ∈ lw_all := lw_g (lw_at lw_m6 49 rfl) rfl
theorem q1334 : (Jvm.Cond.code ({ cls := "BagPhrasesModel", name := "share", desc := "(IZ)J" } : Jvm.MethodName) prog_13_method_79_code (9 : Nat) (Option.some Jvm.ClassFile.FieldType.long)) ∈ lw_all := lw_g (lw_at lw_m6 50 rfl) rfl
theorem q1335 : (Jvm.Cond.methodLink "BagPhrasesModel" (333 : Nat) ({ cls := "BagPhrasesModel", name := "unbarred", desc := "()I" } : Jvm.MethodName)) ∈ lw_all := lw_g (lw_at lw_m6 51 rfl) rfl
theorem q1336 : (Jvm.Cond.privateMethod ({ cls := "BagPhrasesModel", name := "unbarred", desc := "()I" } : Jvm.MethodName)) ∈ lw_tbl := lw_at lw_m6 52 rfl
theorem q1337 : (Jvm.Cond.instanceMethod ({ cls := "BagPhrasesModel", name := "unbarred", desc := "()I" } : Jvm.MethodName)) ∈ lw_all := lw_g (lw_at lw_m6 53 rfl) rfl
theorem q1338 : (Jvm.Cond.code ({ cls := "BagPhrasesModel", name := "unbarred", desc := "()I" } : Jvm.MethodName) prog_13_method_77_code (1 : Nat) (Option.some Jvm.ClassFile.FieldType.int)) ∈ lw_all := lw_g (lw_at lw_m6 54 rfl) rfl
theorem q1339 : (Jvm.Cond.methodLink "BagPhrasesModel" (330 : Nat) ({ cls := "BagPhrasesModel", name := "ones", desc := "(I)I" } : Jvm.MethodName)) ∈ lw_all := lw_g (lw_at lw_m6 55 rfl) rfl
theorem q1340 : (Jvm.Cond.static ({ cls := "BagPhrasesModel", name := "ones", desc := "(I)I" } : Jvm.MethodName)) ∈ lw_all := lw_g (lw_at lw_m6 56 rfl) rfl
theorem q1341 : (Jvm.Cond.code ({ cls := "BagPhrasesModel", name := "ones", desc := "(I)I" } : Jvm.MethodName) prog_13_method_7_code (3 : Nat) (Option.some Jvm.ClassFile.FieldType.int)) ∈ lw_all := lw_g (lw_at lw_m6 57 rfl) rfl
theorem q1342 : (Jvm.Cond.constantLong "BagPhrasesModel" (339 : Nat) (-3 : Int64)) ∈ lw_all := lw_g (lw_at lw_m6 58 rfl) rfl
theorem q1343 : (Jvm.Cond.methodLink "BagPhrasesModel" (341 : Nat) ({ cls := "BagPhrasesModel", name := "layWorth", desc := "()V" } : Jvm.MethodName)) ∈ lw_all := lw_g (lw_at lw_m6 59 rfl) rfl
theorem q1344 : (Jvm.Cond.privateMethod ({ cls := "BagPhrasesModel", name := "layWorth", desc := "()V" } : Jvm.MethodName)) ∈ lw_tbl := lw_at lw_m6 60 rfl
theorem q1345 : (Jvm.Cond.instanceMethod ({ cls := "BagPhrasesModel", name := "layWorth", desc := "()V" } : Jvm.MethodName)) ∈ lw_all := lw_g (lw_at lw_m6 61 rfl) rfl
theorem q1346 : (Jvm.Cond.code ({ cls := "BagPhrasesModel", name := "layWorth", desc := "()V" } : Jvm.MethodName) prog_13_method_78_code (2 : Nat) (Option.none : Option Jvm.ClassFile.FieldType)) ∈ lw_all := lw_g (lw_at lw_m6 62 rfl) rfl
theorem q1347 : (Jvm.Cond.methodLink "BagPhrasesModel" (336 : Nat) ({ cls := "BagPhrasesModel", name := "someOf", desc := "(I)I" } : Jvm.MethodName)) ∈ lw_all := lw_g (lw_at lw_m6 63 rfl) rfl
theorem q1348 : (Jvm.Cond.privateMethod ({ cls := "BagPhrasesModel", name := "someOf", desc := "(I)I" } : Jvm.MethodName)) ∈ lw_tbl := lw_at lw_m6 64 rfl
theorem q1349 : (Jvm.Cond.instanceMethod ({ cls := "BagPhrasesModel", name := "someOf", desc := "(I)I" } : Jvm.MethodName)) ∈ lw_all := lw_g (lw_at lw_m6 65 rfl) rfl
theorem q1350 : (Jvm.Cond.code ({ cls := "BagPhrasesModel", name := "someOf", desc := "(I)I" } : Jvm.MethodName) prog_13_method_76_code (5 : Nat) (Option.some Jvm.ClassFile.FieldType.int)) ∈ lw_all := lw_g (lw_at lw_m6 66 rfl) rfl
theorem q1351 : (Jvm.Cond.methodLink "BagPhrasesModel" (344 : Nat) ({ cls := "BagPhrasesModel", name := "factorial", desc := "(I)I" } : Jvm.MethodName)) ∈ lw_all := lw_g (lw_at lw_m6 67 rfl) rfl
theorem q1352 : (Jvm.Cond.static ({ cls := "BagPhrasesModel", name := "factorial", desc := "(I)I" } : Jvm.MethodName)) ∈ lw_all := lw_g (lw_at lw_m6 68 rfl) rfl
theorem q1353 : (Jvm.Cond.code ({ cls := "BagPhrasesModel", name := "factorial", desc := "(I)I" } : Jvm.MethodName) prog_13_method_9_code (3 : Nat) (Option.some Jvm.ClassFile.FieldType.int)) ∈ lw_all := lw_g (lw_at lw_m6 69 rfl) rfl
theorem q1354 : (Jvm.Cond.methodLink "BagPhrasesModel" (347 : Nat) ({ cls := "BagPhrasesModel", name := "bitOf", desc := "(I)I" } : Jvm.MethodName)) ∈ lw_all := lw_g (lw_at lw_m6 70 rfl) rfl
theorem q1355 : (Jvm.Cond.privateMethod ({ cls := "BagPhrasesModel", name := "bitOf", desc := "(I)I" } : Jvm.MethodName)) ∈ lw_tbl := lw_at lw_m6 71 rfl
theorem q1356 : (Jvm.Cond.instanceMethod ({ cls := "BagPhrasesModel", name := "bitOf", desc := "(I)I" } : Jvm.MethodName)) ∈ lw_all := lw_g (lw_at lw_m6 72 rfl) rfl
theorem q1357 : (Jvm.Cond.code ({ cls := "BagPhrasesModel", name := "bitOf", desc := "(I)I" } : Jvm.MethodName) prog_13_method_80_code (4 : Nat) (Option.some Jvm.ClassFile.FieldType.int)) ∈ lw_all := lw_g (lw_at lw_m6 73 rfl) rfl
theorem q1358 : (Jvm.Cond.methodLink "BagPhrasesModel" (350 : Nat) ({ cls := "BagPhrasesModel", name := "fraction", desc := "(JJZ)J" } : Jvm.MethodName)) ∈ lw_all := lw_g (lw_at lw_m6 74 rfl) rfl
theorem q1359 : (Jvm.Cond.static ({ cls := "BagPhrasesModel", name := "fraction", desc := "(JJZ)J" } : Jvm.MethodName)) ∈ lw_all := lw_g (lw_at lw_m6 75 rfl) rfl
theorem q1360 : (Jvm.Cond.code ({ cls := "BagPhrasesModel", name := "fraction", desc := "(JJZ)J" } : Jvm.MethodName) prog_13_method_10_code (11 : Nat) (Option.some Jvm.ClassFile.FieldType.long)) ∈ lw_all := lw_g (lw_at lw_m6 76 rfl) rfl
theorem q1362 : (Jvm.Cond.instanceMethod ({ cls := "BagPhrasesModel", name := "hope", desc := "(IZ)I" } : Jvm.MethodName)) ∈ lw_all := lw_g (lw_at lw_m6 78 rfl) rfl
theorem q1363 : (Jvm.Cond.selects "BagPhrasesModel" ({ cls := "BagPhrasesModel", name := "hope", desc := "(IZ)I" } : Jvm.MethodName) ({ cls := "BagPhrasesModel", name := "hope", desc := "(IZ)I" } : Jvm.MethodName)) ∈ lw_all := lw_g (lw_at lw_m6 79 rfl) rfl
theorem q1364 : (Jvm.Cond.code ({ cls := "BagPhrasesModel", name := "hope", desc := "(IZ)I" } : Jvm.MethodName) prog_13_method_81_code (6 : Nat) (Option.some Jvm.ClassFile.FieldType.int)) ∈ lw_all := lw_g (lw_at lw_m6 80 rfl) rfl
theorem q1365 : (Jvm.Cond.constantLong "BagPhrasesModel" (354 : Nat) (10 : Int64)) ∈ lw_all := lw_g (lw_at lw_m6 81 rfl) rfl
theorem q1366 : (Jvm.Cond.methodLink "BagPhrasesModel" (356 : Nat) ({ cls := "BagPhrasesModel", name := "power", desc := "(II)I" } : Jvm.MethodName)) ∈ lw_all := lw_g (lw_at lw_m6 82 rfl) rfl
theorem q1367 : (Jvm.Cond.static ({ cls := "BagPhrasesModel", name := "power", desc := "(II)I" } : Jvm.MethodName)) ∈ lw_all := lw_g (lw_at lw_m6 83 rfl) rfl
theorem q1368 : (Jvm.Cond.code ({ cls := "BagPhrasesModel", name := "power", desc := "(II)I" } : Jvm.MethodName) prog_13_method_8_code (4 : Nat) (Option.some Jvm.ClassFile.FieldType.int)) ∈ lw_all := lw_g (lw_at lw_m6 84 rfl) rfl
theorem q1370 : (Jvm.Cond.instanceMethod ({ cls := "BagPhrasesModel", name := "seed", desc := "(J)J" } : Jvm.MethodName)) ∈ lw_all := lw_g (lw_at lw_m6 86 rfl) rfl
theorem q1371 : (Jvm.Cond.selects "BagPhrasesModel" ({ cls := "BagPhrasesModel", name := "seed", desc := "(J)J" } : Jvm.MethodName) ({ cls := "BagPhrasesModel", name := "seed", desc := "(J)J" } : Jvm.MethodName)) ∈ lw_all := lw_g (lw_at lw_m6 87 rfl) rfl
theorem q1372 : (Jvm.Cond.code ({ cls := "BagPhrasesModel", name := "seed", desc := "(J)J" } : Jvm.MethodName) prog_13_method_82_code (5 : Nat) (Option.some Jvm.ClassFile.FieldType.long)) ∈ lw_all := lw_g (lw_at lw_m6 88 rfl) rfl
theorem q1374 : (Jvm.Cond.instanceMethod ({ cls := "BagPhrasesModel", name := "drawn", desc := "(I)I" } : Jvm.MethodName)) ∈ lw_all := lw_g (lw_at lw_m6 90 rfl) rfl
theorem q1375 : (Jvm.Cond.selects "BagPhrasesModel" ({ cls := "BagPhrasesModel", name := "drawn", desc := "(I)I" } : Jvm.MethodName) ({ cls := "BagPhrasesModel", name := "drawn", desc := "(I)I" } : Jvm.MethodName)) ∈ lw_all := lw_g (lw_at lw_m6 91 rfl) rfl
theorem q1376 : (Jvm.Cond.code ({ cls := "BagPhrasesModel", name := "drawn", desc := "(I)I" } : Jvm.MethodName) prog_13_method_83_code (6 : Nat) (Option.some Jvm.ClassFile.FieldType.int)) ∈ lw_all := lw_g (lw_at lw_m6 92 rfl) rfl
theorem q1377 : (Jvm.Cond.constantLong "BagPhrasesModel" (363 : Nat) (20 : Int64)) ∈ lw_all := lw_g (lw_at lw_m6 93 rfl) rfl
theorem q1378 : (Jvm.Cond.constantLong "BagPhrasesModel" (365 : Nat) (6364136223846793005 : Int64)) ∈ lw_all := lw_g (lw_at lw_m6 94 rfl) rfl
theorem q1379 : (Jvm.Cond.constantLong "BagPhrasesModel" (367 : Nat) (1442695040888963407 : Int64)) ∈ lw_all := lw_g (lw_at lw_m6 95 rfl) rfl
theorem q1381 : (Jvm.Cond.instanceMethod ({ cls := "BagPhrasesModel", name := "keep", desc := "(I)I" } : Jvm.MethodName)) ∈ lw_all := lw_g (lw_at lw_m6 97 rfl) rfl
theorem q1382 : (Jvm.Cond.selects "BagPhrasesModel" ({ cls := "BagPhrasesModel", name := "keep", desc := "(I)I" } : Jvm.MethodName) ({ cls := "BagPhrasesModel", name := "keep", desc := "(I)I" } : Jvm.MethodName)) ∈ lw_all := lw_g (lw_at lw_m6 98 rfl) rfl
theorem q1383 : (Jvm.Cond.code ({ cls := "BagPhrasesModel", name := "keep", desc := "(I)I" } : Jvm.MethodName) prog_13_method_84_code (3 : Nat) (Option.some Jvm.ClassFile.FieldType.int)) ∈ lw_all := lw_g (lw_at lw_m6 99 rfl) rfl
theorem q1385 : (Jvm.Cond.instanceMethod ({ cls := "BagPhrasesModel", name := "again", desc := "(I)I" } : Jvm.MethodName)) ∈ lw_all := lw_g (lw_at lw_m6 101 rfl) rfl
theorem q1386 : (Jvm.Cond.selects "BagPhrasesModel" ({ cls := "BagPhrasesModel", name := "again", desc := "(I)I" } : Jvm.MethodName) ({ cls := "BagPhrasesModel", name := "again", desc := "(I)I" } : Jvm.MethodName)) ∈ lw_all := lw_g (lw_at lw_m6 102 rfl) rfl
theorem q1387 : (Jvm.Cond.code ({ cls := "BagPhrasesModel", name := "again", desc := "(I)I" } : Jvm.MethodName) prog_13_method_85_code (3 : Nat) (Option.some Jvm.ClassFile.FieldType.int)) ∈ lw_all := lw_g (lw_at lw_m6 103 rfl) rfl
theorem in_X3 : ∀ w ∈ wsX30, w ∈ lw_all := lw_in wsX30 [956, 958, 960, 962, 964, 966, 968, 970, 972, 974, 976, 978, 980, 982, 984, 986, 988, 990, 992, 994, 996, 998, 1000, 1002, 1004, 1006, 1008, 1010, 1012, 1014, 1016, 1018, 1020, 1022, 1024, 1026, 1028, 1030, 1032, 1034, 1036, 1038, 1040, 1042, 1044] (by decide +kernel) (by decide +kernel)
