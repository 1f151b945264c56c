/-! SmokeWordModel -/
set_option maxRecDepth 100000
def RX4 : String := "SmokeWordModel"
def TX4 : u_T := fun k => match k with
  | 0 => ("SmokeWordModel", "tape", "[B", true)
  | 1 => ("SmokeWordModel", "taped", "I", false)
  | 2 => ("SmokeWordModel", "rules", "I", false)
  | 3 => ("SmokeWordModel", "sign", "[I", true)
  | 4 => ("SmokeWordModel", "length", "[I", true)
  | 5 => ("SmokeWordModel", "clause", "[I", true)
  | 6 => ("SmokeWordModel", "clauses", "[I", true)
  | 7 => ("SmokeWordModel", "read", "[I", true)
  | 8 => ("SmokeWordModel", "next", "I", false)
  | 9 => ("SmokeWordModel", "wrong", "I", false)
  | 10 => ("SmokeWordModel", "number", "I", false)
  | 11 => ("SmokeWordModel", "text", "I", false)
  | 12 => ("SmokeWordModel", "made", "I", false)
  | 13 => ("SmokeWordModel", "deep", "I", false)
  | 14 => ("SmokeWordModel", "lines", "I", false)
  | 15 => ("SmokeWordModel", "open", "[I", true)
  | 16 => ("SmokeWordModel", "opened", "I", false)
  | 17 => ("SmokeWordModel", "one1", "I", false)
  | 18 => ("SmokeWordModel", "stack", "[J", true)
  | 19 => ("SmokeWordModel", "top", "I", false)
  | 20 => ("SmokeWordModel", "word", "[J", true)
  | 21 => ("SmokeWordModel", "said", "[I", true)
  | 22 => ("SmokeWordModel", "force", "I", false)
  | 23 => ("SmokeWordModel", "x", "I", false)
  | 24 => ("SmokeWordModel", "row", "[I", true)
  | 25 => ("SmokeWordModel", "rowMany", "I", false)
  | 26 => ("SmokeWordModel", "rowAt", "I", false)
  | 27 => ("SmokeWordModel", "savedThen", "I", false)
  | 28 => ("SmokeWordModel", "leapers", "I", false)
  | 29 => ("SmokeWordModel", "came", "I", false)
  | 30 => ("SmokeWordModel", "wasSaid", "[I", true)
  | 31 => ("SmokeWordModel", "undone", "I", false)
  | 32 => ("SmokeWordModel", "kept", "[I", true)
  | 33 => ("SmokeWordModel", "bestRow", "[I", true)
  | 34 => ("SmokeWordModel", "orderMost", "I", false)
  | 35 => ("SmokeWordModel", "hasBy", "[I", true)
  | 36 => ("SmokeWordModel", "isFit", "[Z", true)
  | 37 => ("SmokeWordModel", "placeBy", "[I", true)
  | 38 => ("SmokeWordModel", "drawX", "J", false)
  | 39 => ("SmokeWordModel", "images", "[I", true)
  | 40 => ("SmokeWordModel", "imageForce", "[I", true)
  | 41 => ("SmokeWordModel", "imageX", "[I", true)
  | _ => ("SmokeWordModel", "isMade", "[Z", true)
def tyX4 : Nat → FieldType := fun k => match k with
  | 0 => .array .byte
  | 1 => .int
  | 2 => .int
  | 3 => .array .int
  | 4 => .array .int
  | 5 => .array .int
  | 6 => .array .int
  | 7 => .array .int
  | 8 => .int
  | 9 => .int
  | 10 => .int
  | 11 => .int
  | 12 => .int
  | 13 => .int
  | 14 => .int
  | 15 => .array .int
  | 16 => .int
  | 17 => .int
  | 18 => .array .long
  | 19 => .int
  | 20 => .array .long
  | 21 => .array .int
  | 22 => .int
  | 23 => .int
  | 24 => .array .int
  | 25 => .int
  | 26 => .int
  | 27 => .int
  | 28 => .int
  | 29 => .int
  | 30 => .array .int
  | 31 => .int
  | 32 => .array .int
  | 33 => .array .int
  | 34 => .int
  | 35 => .array .int
  | 36 => .array .boolean
  | 37 => .array .int
  | 38 => .long
  | 39 => .array .int
  | 40 => .array .int
  | 41 => .array .int
  | _ => .array .boolean
abbrev wsX40 : List Cond := u_ws RX4 TX4 43
set_option maxRecDepth 100000 in
theorem nmX4 : ∀ a, a < 43 → ∀ b, b < 43 → a ≠ b → (TX4 a).2.1 ≠ (TX4 b).2.1 := by decide +kernel
set_option maxRecDepth 100000 in
theorem tyX4_ok : ∀ k, k < 43 → parseFieldDescriptor (TX4 k).2.2.1 = some (tyX4 k) := by decide +kernel
abbrev cX4_init : ByteArray := prog_19_method_1_code
def yX4_init : MethodName := ⟨RX4, "<init>", "()V"⟩
def dkwX4_init_8 : List UInt8 := [181, 0, 80, 177]
abbrev dktX4_init_8 : List UInt8 := dkwX4_init_8 ++ []
def dkwX4_init_7 : List UInt8 := [188, 10, 181, 0, 71, 42, 7, 188, 10, 181, 0, 74, 42, 7, 188, 10, 181, 0, 77, 42, 7, 188, 4]
abbrev dktX4_init_7 : List UInt8 := dkwX4_init_7 ++ dktX4_init_8
def dkwX4_init_6 : List UInt8 := [181, 0, 61, 42, 16, 7, 188, 4, 181, 0, 64, 42, 17, 1, 171, 188, 10, 181, 0, 68, 42, 17, 2, 16]
abbrev dktX4_init_6 : List UInt8 := dkwX4_init_6 ++ dktX4_init_7
def dkwX4_init_5 : List UInt8 := [181, 0, 52, 42, 16, 28, 188, 10, 181, 0, 55, 42, 16, 6, 188, 10, 181, 0, 58, 42, 16, 50, 188, 10]
abbrev dktX4_init_5 : List UInt8 := dkwX4_init_5 ++ dktX4_init_6
def dkwX4_init_4 : List UInt8 := [181, 0, 42, 42, 16, 6, 188, 10, 181, 0, 46, 42, 2, 181, 0, 49, 42, 17, 2, 48, 188, 10]
abbrev dktX4_init_4 : List UInt8 := dkwX4_init_4 ++ dktX4_init_5
def dkwX4_init_3 : List UInt8 := [181, 0, 32, 42, 16, 11, 188, 11, 181, 0, 36, 42, 17, 0, 132, 188, 10, 181, 0, 39, 42, 2]
abbrev dktX4_init_3 : List UInt8 := dkwX4_init_3 ++ dktX4_init_4
def dkwX4_init_2 : List UInt8 := [42, 16, 111, 188, 10, 181, 0, 26, 42, 17, 1, 144, 188, 10, 181, 0, 29, 42, 16, 64, 188, 11]
abbrev dktX4_init_2 : List UInt8 := dkwX4_init_2 ++ dktX4_init_3
def dkwX4_init_1 : List UInt8 := [16, 7, 188, 10, 181, 0, 17, 42, 17, 1, 32, 188, 10, 181, 0, 20, 42, 16, 6, 188, 10, 181, 0, 23]
abbrev dktX4_init_1 : List UInt8 := dkwX4_init_1 ++ dktX4_init_2
def dkwX4_init_0 : List UInt8 := [42, 183, 0, 1, 42, 17, 1, 144, 188, 8, 181, 0, 7, 42, 17, 9, 96, 188, 10, 181, 0, 13, 42]
abbrev dktX4_init_0 : List UInt8 := dkwX4_init_0 ++ dktX4_init_1
theorem dksX4_init_0 : cX4_init.data.toList.drop 0 = dktX4_init_0 := by decide +kernel
theorem dksX4_init_1 : cX4_init.data.toList.drop 23 = dktX4_init_1 := dk_seg dksX4_init_0 23 rfl rfl
theorem dksX4_init_2 : cX4_init.data.toList.drop 47 = dktX4_init_2 := dk_seg dksX4_init_1 24 rfl rfl
theorem dksX4_init_3 : cX4_init.data.toList.drop 69 = dktX4_init_3 := dk_seg dksX4_init_2 22 rfl rfl
theorem dksX4_init_4 : cX4_init.data.toList.drop 91 = dktX4_init_4 := dk_seg dksX4_init_3 22 rfl rfl
theorem dksX4_init_5 : cX4_init.data.toList.drop 113 = dktX4_init_5 := dk_seg dksX4_init_4 22 rfl rfl
theorem dksX4_init_6 : cX4_init.data.toList.drop 137 = dktX4_init_6 := dk_seg dksX4_init_5 24 rfl rfl
theorem dksX4_init_7 : cX4_init.data.toList.drop 161 = dktX4_init_7 := dk_seg dksX4_init_6 24 rfl rfl
theorem dksX4_init_8 : cX4_init.data.toList.drop 184 = dktX4_init_8 := dk_seg dksX4_init_7 23 rfl rfl
theorem dX4_init_0 : decode cX4_init 0 = .ok (.aload_n 0, 1) := dk_42 (dk_at dksX4_init_0 0 rfl rfl)
theorem dX4_init_1 : decode cX4_init 1 = .ok (.invokespecial 1, 3) := dk_183 0 1 (dk_at dksX4_init_0 1 rfl rfl)
theorem dX4_init_4 : decode cX4_init 4 = .ok (.aload_n 0, 1) := dk_42 (dk_at dksX4_init_0 4 rfl rfl)
theorem dX4_init_5 : decode cX4_init 5 = .ok (.sipush 400, 3) := dk_17 1 144 (dk_at dksX4_init_0 5 rfl rfl)
theorem dX4_init_8 : decode cX4_init 8 = .ok (.newarray .byte, 2) := dk_188_8 (dk_at dksX4_init_0 8 rfl rfl)
theorem dX4_init_10 : decode cX4_init 10 = .ok (.putfield 7, 3) := dk_181 0 7 (dk_at dksX4_init_0 10 rfl rfl)
theorem dX4_init_13 : decode cX4_init 13 = .ok (.aload_n 0, 1) := dk_42 (dk_at dksX4_init_0 13 rfl rfl)
theorem dX4_init_14 : decode cX4_init 14 = .ok (.sipush 2400, 3) := dk_17 9 96 (dk_at dksX4_init_0 14 rfl rfl)
theorem dX4_init_17 : decode cX4_init 17 = .ok (.newarray .int, 2) := dk_188_10 (dk_at dksX4_init_0 17 rfl rfl)
theorem dX4_init_19 : decode cX4_init 19 = .ok (.putfield 13, 3) := dk_181 0 13 (dk_at dksX4_init_0 19 rfl rfl)
theorem dX4_init_22 : decode cX4_init 22 = .ok (.aload_n 0, 1) := dk_42 (dk_at dksX4_init_0 22 rfl rfl)
theorem dX4_init_23 : decode cX4_init 23 = .ok (.bipush 7, 2) := dk_16 7 (dk_at dksX4_init_1 0 rfl rfl)
theorem dX4_init_25 : decode cX4_init 25 = .ok (.newarray .int, 2) := dk_188_10 (dk_at dksX4_init_1 2 rfl rfl)
theorem dX4_init_27 : decode cX4_init 27 = .ok (.putfield 17, 3) := dk_181 0 17 (dk_at dksX4_init_1 4 rfl rfl)
theorem dX4_init_30 : decode cX4_init 30 = .ok (.aload_n 0, 1) := dk_42 (dk_at dksX4_init_1 7 rfl rfl)
theorem dX4_init_31 : decode cX4_init 31 = .ok (.sipush 288, 3) := dk_17 1 32 (dk_at dksX4_init_1 8 rfl rfl)
theorem dX4_init_34 : decode cX4_init 34 = .ok (.newarray .int, 2) := dk_188_10 (dk_at dksX4_init_1 11 rfl rfl)
theorem dX4_init_36 : decode cX4_init 36 = .ok (.putfield 20, 3) := dk_181 0 20 (dk_at dksX4_init_1 13 rfl rfl)
theorem dX4_init_39 : decode cX4_init 39 = .ok (.aload_n 0, 1) := dk_42 (dk_at dksX4_init_1 16 rfl rfl)
theorem dX4_init_40 : decode cX4_init 40 = .ok (.bipush 6, 2) := dk_16 6 (dk_at dksX4_init_1 17 rfl rfl)
theorem dX4_init_42 : decode cX4_init 42 = .ok (.newarray .int, 2) := dk_188_10 (dk_at dksX4_init_1 19 rfl rfl)
theorem dX4_init_44 : decode cX4_init 44 = .ok (.putfield 23, 3) := dk_181 0 23 (dk_at dksX4_init_1 21 rfl rfl)
theorem dX4_init_47 : decode cX4_init 47 = .ok (.aload_n 0, 1) := dk_42 (dk_at dksX4_init_2 0 rfl rfl)
theorem dX4_init_48 : decode cX4_init 48 = .ok (.bipush 111, 2) := dk_16 111 (dk_at dksX4_init_2 1 rfl rfl)
theorem dX4_init_50 : decode cX4_init 50 = .ok (.newarray .int, 2) := dk_188_10 (dk_at dksX4_init_2 3 rfl rfl)
theorem dX4_init_52 : decode cX4_init 52 = .ok (.putfield 26, 3) := dk_181 0 26 (dk_at dksX4_init_2 5 rfl rfl)
theorem dX4_init_55 : decode cX4_init 55 = .ok (.aload_n 0, 1) := dk_42 (dk_at dksX4_init_2 8 rfl rfl)
theorem dX4_init_56 : decode cX4_init 56 = .ok (.sipush 400, 3) := dk_17 1 144 (dk_at dksX4_init_2 9 rfl rfl)
theorem dX4_init_59 : decode cX4_init 59 = .ok (.newarray .int, 2) := dk_188_10 (dk_at dksX4_init_2 12 rfl rfl)
theorem dX4_init_61 : decode cX4_init 61 = .ok (.putfield 29, 3) := dk_181 0 29 (dk_at dksX4_init_2 14 rfl rfl)
theorem dX4_init_64 : decode cX4_init 64 = .ok (.aload_n 0, 1) := dk_42 (dk_at dksX4_init_2 17 rfl rfl)
theorem dX4_init_65 : decode cX4_init 65 = .ok (.bipush 64, 2) := dk_16 64 (dk_at dksX4_init_2 18 rfl rfl)
theorem dX4_init_67 : decode cX4_init 67 = .ok (.newarray .long, 2) := dk_188_11 (dk_at dksX4_init_2 20 rfl rfl)
theorem dX4_init_69 : decode cX4_init 69 = .ok (.putfield 32, 3) := dk_181 0 32 (dk_at dksX4_init_3 0 rfl rfl)
theorem dX4_init_72 : decode cX4_init 72 = .ok (.aload_n 0, 1) := dk_42 (dk_at dksX4_init_3 3 rfl rfl)
theorem dX4_init_73 : decode cX4_init 73 = .ok (.bipush 11, 2) := dk_16 11 (dk_at dksX4_init_3 4 rfl rfl)
theorem dX4_init_75 : decode cX4_init 75 = .ok (.newarray .long, 2) := dk_188_11 (dk_at dksX4_init_3 6 rfl rfl)
theorem dX4_init_77 : decode cX4_init 77 = .ok (.putfield 36, 3) := dk_181 0 36 (dk_at dksX4_init_3 8 rfl rfl)
theorem dX4_init_80 : decode cX4_init 80 = .ok (.aload_n 0, 1) := dk_42 (dk_at dksX4_init_3 11 rfl rfl)
theorem dX4_init_81 : decode cX4_init 81 = .ok (.sipush 132, 3) := dk_17 0 132 (dk_at dksX4_init_3 12 rfl rfl)
theorem dX4_init_84 : decode cX4_init 84 = .ok (.newarray .int, 2) := dk_188_10 (dk_at dksX4_init_3 15 rfl rfl)
theorem dX4_init_86 : decode cX4_init 86 = .ok (.putfield 39, 3) := dk_181 0 39 (dk_at dksX4_init_3 17 rfl rfl)
theorem dX4_init_89 : decode cX4_init 89 = .ok (.aload_n 0, 1) := dk_42 (dk_at dksX4_init_3 20 rfl rfl)
theorem dX4_init_90 : decode cX4_init 90 = .ok (.iconst (-1), 1) := dk_2 (dk_at dksX4_init_3 21 rfl rfl)
theorem dX4_init_91 : decode cX4_init 91 = .ok (.putfield 42, 3) := dk_181 0 42 (dk_at dksX4_init_4 0 rfl rfl)
theorem dX4_init_94 : decode cX4_init 94 = .ok (.aload_n 0, 1) := dk_42 (dk_at dksX4_init_4 3 rfl rfl)
theorem dX4_init_95 : decode cX4_init 95 = .ok (.bipush 6, 2) := dk_16 6 (dk_at dksX4_init_4 4 rfl rfl)
theorem dX4_init_97 : decode cX4_init 97 = .ok (.newarray .int, 2) := dk_188_10 (dk_at dksX4_init_4 6 rfl rfl)
theorem dX4_init_99 : decode cX4_init 99 = .ok (.putfield 46, 3) := dk_181 0 46 (dk_at dksX4_init_4 8 rfl rfl)
theorem dX4_init_102 : decode cX4_init 102 = .ok (.aload_n 0, 1) := dk_42 (dk_at dksX4_init_4 11 rfl rfl)
theorem dX4_init_103 : decode cX4_init 103 = .ok (.iconst (-1), 1) := dk_2 (dk_at dksX4_init_4 12 rfl rfl)
theorem dX4_init_104 : decode cX4_init 104 = .ok (.putfield 49, 3) := dk_181 0 49 (dk_at dksX4_init_4 13 rfl rfl)
theorem dX4_init_107 : decode cX4_init 107 = .ok (.aload_n 0, 1) := dk_42 (dk_at dksX4_init_4 16 rfl rfl)
theorem dX4_init_108 : decode cX4_init 108 = .ok (.sipush 560, 3) := dk_17 2 48 (dk_at dksX4_init_4 17 rfl rfl)
theorem dX4_init_111 : decode cX4_init 111 = .ok (.newarray .int, 2) := dk_188_10 (dk_at dksX4_init_4 20 rfl rfl)
theorem dX4_init_113 : decode cX4_init 113 = .ok (.putfield 52, 3) := dk_181 0 52 (dk_at dksX4_init_5 0 rfl rfl)
theorem dX4_init_116 : decode cX4_init 116 = .ok (.aload_n 0, 1) := dk_42 (dk_at dksX4_init_5 3 rfl rfl)
theorem dX4_init_117 : decode cX4_init 117 = .ok (.bipush 28, 2) := dk_16 28 (dk_at dksX4_init_5 4 rfl rfl)
theorem dX4_init_119 : decode cX4_init 119 = .ok (.newarray .int, 2) := dk_188_10 (dk_at dksX4_init_5 6 rfl rfl)
theorem dX4_init_121 : decode cX4_init 121 = .ok (.putfield 55, 3) := dk_181 0 55 (dk_at dksX4_init_5 8 rfl rfl)
theorem dX4_init_124 : decode cX4_init 124 = .ok (.aload_n 0, 1) := dk_42 (dk_at dksX4_init_5 11 rfl rfl)
theorem dX4_init_125 : decode cX4_init 125 = .ok (.bipush 6, 2) := dk_16 6 (dk_at dksX4_init_5 12 rfl rfl)
theorem dX4_init_127 : decode cX4_init 127 = .ok (.newarray .int, 2) := dk_188_10 (dk_at dksX4_init_5 14 rfl rfl)
theorem dX4_init_129 : decode cX4_init 129 = .ok (.putfield 58, 3) := dk_181 0 58 (dk_at dksX4_init_5 16 rfl rfl)
theorem dX4_init_132 : decode cX4_init 132 = .ok (.aload_n 0, 1) := dk_42 (dk_at dksX4_init_5 19 rfl rfl)
theorem dX4_init_133 : decode cX4_init 133 = .ok (.bipush 50, 2) := dk_16 50 (dk_at dksX4_init_5 20 rfl rfl)
theorem dX4_init_135 : decode cX4_init 135 = .ok (.newarray .int, 2) := dk_188_10 (dk_at dksX4_init_5 22 rfl rfl)
theorem dX4_init_137 : decode cX4_init 137 = .ok (.putfield 61, 3) := dk_181 0 61 (dk_at dksX4_init_6 0 rfl rfl)
theorem dX4_init_140 : decode cX4_init 140 = .ok (.aload_n 0, 1) := dk_42 (dk_at dksX4_init_6 3 rfl rfl)
theorem dX4_init_141 : decode cX4_init 141 = .ok (.bipush 7, 2) := dk_16 7 (dk_at dksX4_init_6 4 rfl rfl)
theorem dX4_init_143 : decode cX4_init 143 = .ok (.newarray .boolean, 2) := dk_188_4 (dk_at dksX4_init_6 6 rfl rfl)
theorem dX4_init_145 : decode cX4_init 145 = .ok (.putfield 64, 3) := dk_181 0 64 (dk_at dksX4_init_6 8 rfl rfl)
theorem dX4_init_148 : decode cX4_init 148 = .ok (.aload_n 0, 1) := dk_42 (dk_at dksX4_init_6 11 rfl rfl)
theorem dX4_init_149 : decode cX4_init 149 = .ok (.sipush 427, 3) := dk_17 1 171 (dk_at dksX4_init_6 12 rfl rfl)
theorem dX4_init_152 : decode cX4_init 152 = .ok (.newarray .int, 2) := dk_188_10 (dk_at dksX4_init_6 15 rfl rfl)
theorem dX4_init_154 : decode cX4_init 154 = .ok (.putfield 68, 3) := dk_181 0 68 (dk_at dksX4_init_6 17 rfl rfl)
theorem dX4_init_157 : decode cX4_init 157 = .ok (.aload_n 0, 1) := dk_42 (dk_at dksX4_init_6 20 rfl rfl)
theorem dX4_init_158 : decode cX4_init 158 = .ok (.sipush 528, 3) := dk_17 2 16 (dk_at dksX4_init_6 21 rfl rfl)
theorem dX4_init_161 : decode cX4_init 161 = .ok (.newarray .int, 2) := dk_188_10 (dk_at dksX4_init_7 0 rfl rfl)
theorem dX4_init_163 : decode cX4_init 163 = .ok (.putfield 71, 3) := dk_181 0 71 (dk_at dksX4_init_7 2 rfl rfl)
theorem dX4_init_166 : decode cX4_init 166 = .ok (.aload_n 0, 1) := dk_42 (dk_at dksX4_init_7 5 rfl rfl)
theorem dX4_init_167 : decode cX4_init 167 = .ok (.iconst 4, 1) := dk_7 (dk_at dksX4_init_7 6 rfl rfl)
theorem dX4_init_168 : decode cX4_init 168 = .ok (.newarray .int, 2) := dk_188_10 (dk_at dksX4_init_7 7 rfl rfl)
theorem dX4_init_170 : decode cX4_init 170 = .ok (.putfield 74, 3) := dk_181 0 74 (dk_at dksX4_init_7 9 rfl rfl)
theorem dX4_init_173 : decode cX4_init 173 = .ok (.aload_n 0, 1) := dk_42 (dk_at dksX4_init_7 12 rfl rfl)
theorem dX4_init_174 : decode cX4_init 174 = .ok (.iconst 4, 1) := dk_7 (dk_at dksX4_init_7 13 rfl rfl)
theorem dX4_init_175 : decode cX4_init 175 = .ok (.newarray .int, 2) := dk_188_10 (dk_at dksX4_init_7 14 rfl rfl)
theorem dX4_init_177 : decode cX4_init 177 = .ok (.putfield 77, 3) := dk_181 0 77 (dk_at dksX4_init_7 16 rfl rfl)
theorem dX4_init_180 : decode cX4_init 180 = .ok (.aload_n 0, 1) := dk_42 (dk_at dksX4_init_7 19 rfl rfl)
theorem dX4_init_181 : decode cX4_init 181 = .ok (.iconst 4, 1) := dk_7 (dk_at dksX4_init_7 20 rfl rfl)
theorem dX4_init_182 : decode cX4_init 182 = .ok (.newarray .boolean, 2) := dk_188_4 (dk_at dksX4_init_7 21 rfl rfl)
theorem dX4_init_184 : decode cX4_init 184 = .ok (.putfield 80, 3) := dk_181 0 80 (dk_at dksX4_init_8 0 rfl rfl)
theorem dX4_init_187 : decode cX4_init 187 = .ok (.return_, 1) := dk_177 (dk_at dksX4_init_8 3 rfl rfl)
abbrev cX4_feed : ByteArray := prog_19_method_6_code
def yX4_feed : MethodName := ⟨RX4, "feed", "(IIIII)I"⟩
def dkwX4_feed_2 : List UInt8 := [172]
abbrev dktX4_feed_2 : List UInt8 := dkwX4_feed_2 ++ []
def dkwX4_feed_1 : List UInt8 := [182, 0, 86, 42, 29, 182, 0, 86, 42, 21, 4, 182, 0, 86, 42, 21, 5, 182, 0, 86, 42, 180, 0, 83]
abbrev dktX4_feed_1 : List UInt8 := dkwX4_feed_1 ++ dktX4_feed_2
def dkwX4_feed_0 : List UInt8 := [42, 180, 0, 83, 16, 20, 96, 17, 1, 144, 164, 0, 5, 2, 172, 42, 27, 182, 0, 86, 42, 28]
abbrev dktX4_feed_0 : List UInt8 := dkwX4_feed_0 ++ dktX4_feed_1
theorem dksX4_feed_0 : cX4_feed.data.toList.drop 0 = dktX4_feed_0 := by decide +kernel
theorem dksX4_feed_1 : cX4_feed.data.toList.drop 22 = dktX4_feed_1 := dk_seg dksX4_feed_0 22 rfl rfl
theorem dksX4_feed_2 : cX4_feed.data.toList.drop 46 = dktX4_feed_2 := dk_seg dksX4_feed_1 24 rfl rfl
theorem dX4_feed_0 : decode cX4_feed 0 = .ok (.aload_n 0, 1) := dk_42 (dk_at dksX4_feed_0 0 rfl rfl)
theorem dX4_feed_1 : decode cX4_feed 1 = .ok (.getfield 83, 3) := dk_180 0 83 (dk_at dksX4_feed_0 1 rfl rfl)
theorem dX4_feed_4 : decode cX4_feed 4 = .ok (.bipush 20, 2) := dk_16 20 (dk_at dksX4_feed_0 4 rfl rfl)
theorem dX4_feed_6 : decode cX4_feed 6 = .ok (.iadd, 1) := dk_96 (dk_at dksX4_feed_0 6 rfl rfl)
theorem dX4_feed_7 : decode cX4_feed 7 = .ok (.sipush 400, 3) := dk_17 1 144 (dk_at dksX4_feed_0 7 rfl rfl)
theorem dX4_feed_10 : decode cX4_feed 10 = .ok (.if_icmp .le 5, 3) := dk_164 0 5 (dk_at dksX4_feed_0 10 rfl rfl)
theorem dX4_feed_13 : decode cX4_feed 13 = .ok (.iconst (-1), 1) := dk_2 (dk_at dksX4_feed_0 13 rfl rfl)
theorem dX4_feed_14 : decode cX4_feed 14 = .ok (.ireturn, 1) := dk_172 (dk_at dksX4_feed_0 14 rfl rfl)
theorem dX4_feed_15 : decode cX4_feed 15 = .ok (.aload_n 0, 1) := dk_42 (dk_at dksX4_feed_0 15 rfl rfl)
theorem dX4_feed_16 : decode cX4_feed 16 = .ok (.iload_n 1, 1) := dk_27 (dk_at dksX4_feed_0 16 rfl rfl)
theorem dX4_feed_17 : decode cX4_feed 17 = .ok (.invokevirtual 86, 3) := dk_182 0 86 (dk_at dksX4_feed_0 17 rfl rfl)
theorem dX4_feed_20 : decode cX4_feed 20 = .ok (.aload_n 0, 1) := dk_42 (dk_at dksX4_feed_0 20 rfl rfl)
theorem dX4_feed_21 : decode cX4_feed 21 = .ok (.iload_n 2, 1) := dk_28 (dk_at dksX4_feed_0 21 rfl rfl)
theorem dX4_feed_22 : decode cX4_feed 22 = .ok (.invokevirtual 86, 3) := dk_182 0 86 (dk_at dksX4_feed_1 0 rfl rfl)
theorem dX4_feed_25 : decode cX4_feed 25 = .ok (.aload_n 0, 1) := dk_42 (dk_at dksX4_feed_1 3 rfl rfl)
theorem dX4_feed_26 : decode cX4_feed 26 = .ok (.iload_n 3, 1) := dk_29 (dk_at dksX4_feed_1 4 rfl rfl)
theorem dX4_feed_27 : decode cX4_feed 27 = .ok (.invokevirtual 86, 3) := dk_182 0 86 (dk_at dksX4_feed_1 5 rfl rfl)
theorem dX4_feed_30 : decode cX4_feed 30 = .ok (.aload_n 0, 1) := dk_42 (dk_at dksX4_feed_1 8 rfl rfl)
theorem dX4_feed_31 : decode cX4_feed 31 = .ok (.iload 4, 2) := dk_21 4 (dk_at dksX4_feed_1 9 rfl rfl)
theorem dX4_feed_33 : decode cX4_feed 33 = .ok (.invokevirtual 86, 3) := dk_182 0 86 (dk_at dksX4_feed_1 11 rfl rfl)
theorem dX4_feed_36 : decode cX4_feed 36 = .ok (.aload_n 0, 1) := dk_42 (dk_at dksX4_feed_1 14 rfl rfl)
theorem dX4_feed_37 : decode cX4_feed 37 = .ok (.iload 5, 2) := dk_21 5 (dk_at dksX4_feed_1 15 rfl rfl)
theorem dX4_feed_39 : decode cX4_feed 39 = .ok (.invokevirtual 86, 3) := dk_182 0 86 (dk_at dksX4_feed_1 17 rfl rfl)
theorem dX4_feed_42 : decode cX4_feed 42 = .ok (.aload_n 0, 1) := dk_42 (dk_at dksX4_feed_1 20 rfl rfl)
theorem dX4_feed_43 : decode cX4_feed 43 = .ok (.getfield 83, 3) := dk_180 0 83 (dk_at dksX4_feed_1 21 rfl rfl)
theorem dX4_feed_46 : decode cX4_feed 46 = .ok (.ireturn, 1) := dk_172 (dk_at dksX4_feed_2 0 rfl rfl)
abbrev cX4_four : ByteArray := prog_19_method_5_code
def yX4_four : MethodName := ⟨RX4, "four", "(I)V"⟩
def dkwX4_four_1 : List UInt8 := [180, 0, 83, 4, 96, 181, 0, 83, 132, 2, 248, 167, 255, 226, 177]
abbrev dktX4_four_1 : List UInt8 := dkwX4_four_1 ++ []
def dkwX4_four_0 : List UInt8 := [16, 24, 61, 28, 155, 0, 32, 42, 180, 0, 7, 42, 180, 0, 83, 27, 28, 122, 145, 84, 42, 89]
abbrev dktX4_four_0 : List UInt8 := dkwX4_four_0 ++ dktX4_four_1
theorem dksX4_four_0 : cX4_four.data.toList.drop 0 = dktX4_four_0 := by decide +kernel
theorem dksX4_four_1 : cX4_four.data.toList.drop 22 = dktX4_four_1 := dk_seg dksX4_four_0 22 rfl rfl
theorem dX4_four_0 : decode cX4_four 0 = .ok (.bipush 24, 2) := dk_16 24 (dk_at dksX4_four_0 0 rfl rfl)
theorem dX4_four_2 : decode cX4_four 2 = .ok (.istore_n 2, 1) := dk_61 (dk_at dksX4_four_0 2 rfl rfl)
theorem dX4_four_3 : decode cX4_four 3 = .ok (.iload_n 2, 1) := dk_28 (dk_at dksX4_four_0 3 rfl rfl)
theorem dX4_four_4 : decode cX4_four 4 = .ok (.ifCond .lt 32, 3) := dk_155 0 32 (dk_at dksX4_four_0 4 rfl rfl)
theorem dX4_four_7 : decode cX4_four 7 = .ok (.aload_n 0, 1) := dk_42 (dk_at dksX4_four_0 7 rfl rfl)
theorem dX4_four_8 : decode cX4_four 8 = .ok (.getfield 7, 3) := dk_180 0 7 (dk_at dksX4_four_0 8 rfl rfl)
theorem dX4_four_11 : decode cX4_four 11 = .ok (.aload_n 0, 1) := dk_42 (dk_at dksX4_four_0 11 rfl rfl)
theorem dX4_four_12 : decode cX4_four 12 = .ok (.getfield 83, 3) := dk_180 0 83 (dk_at dksX4_four_0 12 rfl rfl)
theorem dX4_four_15 : decode cX4_four 15 = .ok (.iload_n 1, 1) := dk_27 (dk_at dksX4_four_0 15 rfl rfl)
theorem dX4_four_16 : decode cX4_four 16 = .ok (.iload_n 2, 1) := dk_28 (dk_at dksX4_four_0 16 rfl rfl)
theorem dX4_four_17 : decode cX4_four 17 = .ok (.ishr, 1) := dk_122 (dk_at dksX4_four_0 17 rfl rfl)
theorem dX4_four_18 : decode cX4_four 18 = .ok (.i2b, 1) := dk_145 (dk_at dksX4_four_0 18 rfl rfl)
theorem dX4_four_19 : decode cX4_four 19 = .ok (.bastore, 1) := dk_84 (dk_at dksX4_four_0 19 rfl rfl)
theorem dX4_four_20 : decode cX4_four 20 = .ok (.aload_n 0, 1) := dk_42 (dk_at dksX4_four_0 20 rfl rfl)
theorem dX4_four_21 : decode cX4_four 21 = .ok (.dup, 1) := dk_89 (dk_at dksX4_four_0 21 rfl rfl)
theorem dX4_four_22 : decode cX4_four 22 = .ok (.getfield 83, 3) := dk_180 0 83 (dk_at dksX4_four_1 0 rfl rfl)
theorem dX4_four_25 : decode cX4_four 25 = .ok (.iconst 1, 1) := dk_4 (dk_at dksX4_four_1 3 rfl rfl)
theorem dX4_four_26 : decode cX4_four 26 = .ok (.iadd, 1) := dk_96 (dk_at dksX4_four_1 4 rfl rfl)
theorem dX4_four_27 : decode cX4_four 27 = .ok (.putfield 83, 3) := dk_181 0 83 (dk_at dksX4_four_1 5 rfl rfl)
theorem dX4_four_30 : decode cX4_four 30 = .ok (.iinc 2 (-8), 3) := dk_132 2 248 (dk_at dksX4_four_1 8 rfl rfl)
theorem dX4_four_33 : decode cX4_four 33 = .ok (.goto (-30), 3) := dk_167 255 226 (dk_at dksX4_four_1 11 rfl rfl)
theorem dX4_four_36 : decode cX4_four 36 = .ok (.return_, 1) := dk_177 (dk_at dksX4_four_1 14 rfl rfl)
abbrev cX4_end : ByteArray := prog_19_method_7_code
def yX4_end : MethodName := ⟨RX4, "end", "(I)I"⟩
def dkwX4_end_0 : List UInt8 := [27, 155, 0, 11, 27, 42, 180, 0, 83, 164, 0, 5, 2, 172, 42, 27, 181, 0, 83, 27, 172]
abbrev dktX4_end_0 : List UInt8 := dkwX4_end_0 ++ []
theorem dksX4_end_0 : cX4_end.data.toList.drop 0 = dktX4_end_0 := by decide +kernel
theorem dX4_end_0 : decode cX4_end 0 = .ok (.iload_n 1, 1) := dk_27 (dk_at dksX4_end_0 0 rfl rfl)
theorem dX4_end_1 : decode cX4_end 1 = .ok (.ifCond .lt 11, 3) := dk_155 0 11 (dk_at dksX4_end_0 1 rfl rfl)
theorem dX4_end_4 : decode cX4_end 4 = .ok (.iload_n 1, 1) := dk_27 (dk_at dksX4_end_0 4 rfl rfl)
theorem dX4_end_5 : decode cX4_end 5 = .ok (.aload_n 0, 1) := dk_42 (dk_at dksX4_end_0 5 rfl rfl)
theorem dX4_end_6 : decode cX4_end 6 = .ok (.getfield 83, 3) := dk_180 0 83 (dk_at dksX4_end_0 6 rfl rfl)
theorem dX4_end_9 : decode cX4_end 9 = .ok (.if_icmp .le 5, 3) := dk_164 0 5 (dk_at dksX4_end_0 9 rfl rfl)
theorem dX4_end_12 : decode cX4_end 12 = .ok (.iconst (-1), 1) := dk_2 (dk_at dksX4_end_0 12 rfl rfl)
theorem dX4_end_13 : decode cX4_end 13 = .ok (.ireturn, 1) := dk_172 (dk_at dksX4_end_0 13 rfl rfl)
theorem dX4_end_14 : decode cX4_end 14 = .ok (.aload_n 0, 1) := dk_42 (dk_at dksX4_end_0 14 rfl rfl)
theorem dX4_end_15 : decode cX4_end 15 = .ok (.iload_n 1, 1) := dk_27 (dk_at dksX4_end_0 15 rfl rfl)
theorem dX4_end_16 : decode cX4_end 16 = .ok (.putfield 83, 3) := dk_181 0 83 (dk_at dksX4_end_0 16 rfl rfl)
theorem dX4_end_19 : decode cX4_end 19 = .ok (.iload_n 1, 1) := dk_27 (dk_at dksX4_end_0 19 rfl rfl)
theorem dX4_end_20 : decode cX4_end 20 = .ok (.ireturn, 1) := dk_172 (dk_at dksX4_end_0 20 rfl rfl)
abbrev cX4_rule : ByteArray := prog_19_method_41_code
def yX4_rule : MethodName := ⟨RX4, "rule", "()I"⟩
def dkwX4_rule_2 : List UInt8 := [180, 1, 8, 4, 96, 181, 1, 8, 42, 180, 1, 8, 4, 100, 172]
abbrev dktX4_rule_2 : List UInt8 := dkwX4_rule_2 ++ []
def dkwX4_rule_1 : List UInt8 := [180, 0, 147, 3, 79, 42, 182, 1, 11, 154, 0, 11, 16, 254, 42, 180, 0, 90, 100, 172, 42, 89]
abbrev dktX4_rule_1 : List UInt8 := dkwX4_rule_1 ++ dktX4_rule_2
def dkwX4_rule_0 : List UInt8 := [42, 180, 1, 8, 16, 6, 160, 0, 5, 2, 172, 42, 42, 180, 1, 8, 181, 0, 147, 42, 180, 0, 23, 42]
abbrev dktX4_rule_0 : List UInt8 := dkwX4_rule_0 ++ dktX4_rule_1
theorem dksX4_rule_0 : cX4_rule.data.toList.drop 0 = dktX4_rule_0 := by decide +kernel
theorem dksX4_rule_1 : cX4_rule.data.toList.drop 24 = dktX4_rule_1 := dk_seg dksX4_rule_0 24 rfl rfl
theorem dksX4_rule_2 : cX4_rule.data.toList.drop 46 = dktX4_rule_2 := dk_seg dksX4_rule_1 22 rfl rfl
theorem dX4_rule_0 : decode cX4_rule 0 = .ok (.aload_n 0, 1) := dk_42 (dk_at dksX4_rule_0 0 rfl rfl)
theorem dX4_rule_1 : decode cX4_rule 1 = .ok (.getfield 264, 3) := dk_180 1 8 (dk_at dksX4_rule_0 1 rfl rfl)
theorem dX4_rule_4 : decode cX4_rule 4 = .ok (.bipush 6, 2) := dk_16 6 (dk_at dksX4_rule_0 4 rfl rfl)
theorem dX4_rule_6 : decode cX4_rule 6 = .ok (.if_icmp .ne 5, 3) := dk_160 0 5 (dk_at dksX4_rule_0 6 rfl rfl)
theorem dX4_rule_9 : decode cX4_rule 9 = .ok (.iconst (-1), 1) := dk_2 (dk_at dksX4_rule_0 9 rfl rfl)
theorem dX4_rule_10 : decode cX4_rule 10 = .ok (.ireturn, 1) := dk_172 (dk_at dksX4_rule_0 10 rfl rfl)
theorem dX4_rule_11 : decode cX4_rule 11 = .ok (.aload_n 0, 1) := dk_42 (dk_at dksX4_rule_0 11 rfl rfl)
theorem dX4_rule_12 : decode cX4_rule 12 = .ok (.aload_n 0, 1) := dk_42 (dk_at dksX4_rule_0 12 rfl rfl)
theorem dX4_rule_13 : decode cX4_rule 13 = .ok (.getfield 264, 3) := dk_180 1 8 (dk_at dksX4_rule_0 13 rfl rfl)
theorem dX4_rule_16 : decode cX4_rule 16 = .ok (.putfield 147, 3) := dk_181 0 147 (dk_at dksX4_rule_0 16 rfl rfl)
theorem dX4_rule_19 : decode cX4_rule 19 = .ok (.aload_n 0, 1) := dk_42 (dk_at dksX4_rule_0 19 rfl rfl)
theorem dX4_rule_20 : decode cX4_rule 20 = .ok (.getfield 23, 3) := dk_180 0 23 (dk_at dksX4_rule_0 20 rfl rfl)
theorem dX4_rule_23 : decode cX4_rule 23 = .ok (.aload_n 0, 1) := dk_42 (dk_at dksX4_rule_0 23 rfl rfl)
theorem dX4_rule_24 : decode cX4_rule 24 = .ok (.getfield 147, 3) := dk_180 0 147 (dk_at dksX4_rule_1 0 rfl rfl)
theorem dX4_rule_27 : decode cX4_rule 27 = .ok (.iconst 0, 1) := dk_3 (dk_at dksX4_rule_1 3 rfl rfl)
theorem dX4_rule_28 : decode cX4_rule 28 = .ok (.iastore, 1) := dk_79 (dk_at dksX4_rule_1 4 rfl rfl)
theorem dX4_rule_29 : decode cX4_rule 29 = .ok (.aload_n 0, 1) := dk_42 (dk_at dksX4_rule_1 5 rfl rfl)
theorem dX4_rule_30 : decode cX4_rule 30 = .ok (.invokevirtual 267, 3) := dk_182 1 11 (dk_at dksX4_rule_1 6 rfl rfl)
theorem dX4_rule_33 : decode cX4_rule 33 = .ok (.ifCond .ne 11, 3) := dk_154 0 11 (dk_at dksX4_rule_1 9 rfl rfl)
theorem dX4_rule_36 : decode cX4_rule 36 = .ok (.bipush (-2), 2) := dk_16 254 (dk_at dksX4_rule_1 12 rfl rfl)
theorem dX4_rule_38 : decode cX4_rule 38 = .ok (.aload_n 0, 1) := dk_42 (dk_at dksX4_rule_1 14 rfl rfl)
theorem dX4_rule_39 : decode cX4_rule 39 = .ok (.getfield 90, 3) := dk_180 0 90 (dk_at dksX4_rule_1 15 rfl rfl)
theorem dX4_rule_42 : decode cX4_rule 42 = .ok (.isub, 1) := dk_100 (dk_at dksX4_rule_1 18 rfl rfl)
theorem dX4_rule_43 : decode cX4_rule 43 = .ok (.ireturn, 1) := dk_172 (dk_at dksX4_rule_1 19 rfl rfl)
theorem dX4_rule_44 : decode cX4_rule 44 = .ok (.aload_n 0, 1) := dk_42 (dk_at dksX4_rule_1 20 rfl rfl)
theorem dX4_rule_45 : decode cX4_rule 45 = .ok (.dup, 1) := dk_89 (dk_at dksX4_rule_1 21 rfl rfl)
theorem dX4_rule_46 : decode cX4_rule 46 = .ok (.getfield 264, 3) := dk_180 1 8 (dk_at dksX4_rule_2 0 rfl rfl)
theorem dX4_rule_49 : decode cX4_rule 49 = .ok (.iconst 1, 1) := dk_4 (dk_at dksX4_rule_2 3 rfl rfl)
theorem dX4_rule_50 : decode cX4_rule 50 = .ok (.iadd, 1) := dk_96 (dk_at dksX4_rule_2 4 rfl rfl)
theorem dX4_rule_51 : decode cX4_rule 51 = .ok (.putfield 264, 3) := dk_181 1 8 (dk_at dksX4_rule_2 5 rfl rfl)
theorem dX4_rule_54 : decode cX4_rule 54 = .ok (.aload_n 0, 1) := dk_42 (dk_at dksX4_rule_2 8 rfl rfl)
theorem dX4_rule_55 : decode cX4_rule 55 = .ok (.getfield 264, 3) := dk_180 1 8 (dk_at dksX4_rule_2 9 rfl rfl)
theorem dX4_rule_58 : decode cX4_rule 58 = .ok (.iconst 1, 1) := dk_4 (dk_at dksX4_rule_2 12 rfl rfl)
theorem dX4_rule_59 : decode cX4_rule 59 = .ok (.isub, 1) := dk_100 (dk_at dksX4_rule_2 13 rfl rfl)
theorem dX4_rule_60 : decode cX4_rule 60 = .ok (.ireturn, 1) := dk_172 (dk_at dksX4_rule_2 14 rfl rfl)
abbrev cX4_readsAll : ByteArray := prog_19_method_40_code
def yX4_readsAll : MethodName := ⟨RX4, "readsAll", "()Z"⟩
def dkwX4_readsAll_4 : List UInt8 := [181, 0, 83, 42, 180, 0, 90, 154, 0, 7, 4, 167, 0, 4, 3, 172]
abbrev dktX4_readsAll_4 : List UInt8 := dkwX4_readsAll_4 ++ []
def dkwX4_readsAll_3 : List UInt8 := [153, 0, 21, 42, 182, 0, 96, 2, 159, 0, 13, 42, 3, 42, 180, 0, 93, 182, 0, 114, 87, 42, 3]
abbrev dktX4_readsAll_3 : List UInt8 := dkwX4_readsAll_3 ++ dktX4_readsAll_4
def dkwX4_readsAll_2 : List UInt8 := [160, 0, 21, 42, 89, 180, 0, 93, 4, 96, 181, 0, 93, 42, 182, 1, 5, 60, 167, 255, 228, 27]
abbrev dktX4_readsAll_2 : List UInt8 := dkwX4_readsAll_2 ++ dktX4_readsAll_3
def dkwX4_readsAll_1 : List UInt8 := [181, 0, 90, 42, 3, 181, 0, 150, 42, 182, 1, 5, 60, 27, 153, 0, 30, 42, 182, 0, 96, 16, 59]
abbrev dktX4_readsAll_1 : List UInt8 := dkwX4_readsAll_1 ++ dktX4_readsAll_2
def dkwX4_readsAll_0 : List UInt8 := [42, 180, 0, 17, 42, 180, 0, 147, 3, 79, 42, 3, 181, 0, 252, 42, 3, 181, 0, 93, 42, 3]
abbrev dktX4_readsAll_0 : List UInt8 := dkwX4_readsAll_0 ++ dktX4_readsAll_1
theorem dksX4_readsAll_0 : cX4_readsAll.data.toList.drop 0 = dktX4_readsAll_0 := by decide +kernel
theorem dksX4_readsAll_1 : cX4_readsAll.data.toList.drop 22 = dktX4_readsAll_1 := dk_seg dksX4_readsAll_0 22 rfl rfl
theorem dksX4_readsAll_2 : cX4_readsAll.data.toList.drop 45 = dktX4_readsAll_2 := dk_seg dksX4_readsAll_1 23 rfl rfl
theorem dksX4_readsAll_3 : cX4_readsAll.data.toList.drop 67 = dktX4_readsAll_3 := dk_seg dksX4_readsAll_2 22 rfl rfl
theorem dksX4_readsAll_4 : cX4_readsAll.data.toList.drop 90 = dktX4_readsAll_4 := dk_seg dksX4_readsAll_3 23 rfl rfl
theorem dX4_readsAll_0 : decode cX4_readsAll 0 = .ok (.aload_n 0, 1) := dk_42 (dk_at dksX4_readsAll_0 0 rfl rfl)
theorem dX4_readsAll_1 : decode cX4_readsAll 1 = .ok (.getfield 17, 3) := dk_180 0 17 (dk_at dksX4_readsAll_0 1 rfl rfl)
theorem dX4_readsAll_4 : decode cX4_readsAll 4 = .ok (.aload_n 0, 1) := dk_42 (dk_at dksX4_readsAll_0 4 rfl rfl)
theorem dX4_readsAll_5 : decode cX4_readsAll 5 = .ok (.getfield 147, 3) := dk_180 0 147 (dk_at dksX4_readsAll_0 5 rfl rfl)
theorem dX4_readsAll_8 : decode cX4_readsAll 8 = .ok (.iconst 0, 1) := dk_3 (dk_at dksX4_readsAll_0 8 rfl rfl)
theorem dX4_readsAll_9 : decode cX4_readsAll 9 = .ok (.iastore, 1) := dk_79 (dk_at dksX4_readsAll_0 9 rfl rfl)
theorem dX4_readsAll_10 : decode cX4_readsAll 10 = .ok (.aload_n 0, 1) := dk_42 (dk_at dksX4_readsAll_0 10 rfl rfl)
theorem dX4_readsAll_11 : decode cX4_readsAll 11 = .ok (.iconst 0, 1) := dk_3 (dk_at dksX4_readsAll_0 11 rfl rfl)
theorem dX4_readsAll_12 : decode cX4_readsAll 12 = .ok (.putfield 252, 3) := dk_181 0 252 (dk_at dksX4_readsAll_0 12 rfl rfl)
theorem dX4_readsAll_15 : decode cX4_readsAll 15 = .ok (.aload_n 0, 1) := dk_42 (dk_at dksX4_readsAll_0 15 rfl rfl)
theorem dX4_readsAll_16 : decode cX4_readsAll 16 = .ok (.iconst 0, 1) := dk_3 (dk_at dksX4_readsAll_0 16 rfl rfl)
theorem dX4_readsAll_17 : decode cX4_readsAll 17 = .ok (.putfield 93, 3) := dk_181 0 93 (dk_at dksX4_readsAll_0 17 rfl rfl)
theorem dX4_readsAll_20 : decode cX4_readsAll 20 = .ok (.aload_n 0, 1) := dk_42 (dk_at dksX4_readsAll_0 20 rfl rfl)
theorem dX4_readsAll_21 : decode cX4_readsAll 21 = .ok (.iconst 0, 1) := dk_3 (dk_at dksX4_readsAll_0 21 rfl rfl)
theorem dX4_readsAll_22 : decode cX4_readsAll 22 = .ok (.putfield 90, 3) := dk_181 0 90 (dk_at dksX4_readsAll_1 0 rfl rfl)
theorem dX4_readsAll_25 : decode cX4_readsAll 25 = .ok (.aload_n 0, 1) := dk_42 (dk_at dksX4_readsAll_1 3 rfl rfl)
theorem dX4_readsAll_26 : decode cX4_readsAll 26 = .ok (.iconst 0, 1) := dk_3 (dk_at dksX4_readsAll_1 4 rfl rfl)
theorem dX4_readsAll_27 : decode cX4_readsAll 27 = .ok (.putfield 150, 3) := dk_181 0 150 (dk_at dksX4_readsAll_1 5 rfl rfl)
theorem dX4_readsAll_30 : decode cX4_readsAll 30 = .ok (.aload_n 0, 1) := dk_42 (dk_at dksX4_readsAll_1 8 rfl rfl)
theorem dX4_readsAll_31 : decode cX4_readsAll 31 = .ok (.invokevirtual 261, 3) := dk_182 1 5 (dk_at dksX4_readsAll_1 9 rfl rfl)
theorem dX4_readsAll_34 : decode cX4_readsAll 34 = .ok (.istore_n 1, 1) := dk_60 (dk_at dksX4_readsAll_1 12 rfl rfl)
theorem dX4_readsAll_35 : decode cX4_readsAll 35 = .ok (.iload_n 1, 1) := dk_27 (dk_at dksX4_readsAll_1 13 rfl rfl)
theorem dX4_readsAll_36 : decode cX4_readsAll 36 = .ok (.ifCond .eq 30, 3) := dk_153 0 30 (dk_at dksX4_readsAll_1 14 rfl rfl)
theorem dX4_readsAll_39 : decode cX4_readsAll 39 = .ok (.aload_n 0, 1) := dk_42 (dk_at dksX4_readsAll_1 17 rfl rfl)
theorem dX4_readsAll_40 : decode cX4_readsAll 40 = .ok (.invokevirtual 96, 3) := dk_182 0 96 (dk_at dksX4_readsAll_1 18 rfl rfl)
theorem dX4_readsAll_43 : decode cX4_readsAll 43 = .ok (.bipush 59, 2) := dk_16 59 (dk_at dksX4_readsAll_1 21 rfl rfl)
theorem dX4_readsAll_45 : decode cX4_readsAll 45 = .ok (.if_icmp .ne 21, 3) := dk_160 0 21 (dk_at dksX4_readsAll_2 0 rfl rfl)
theorem dX4_readsAll_48 : decode cX4_readsAll 48 = .ok (.aload_n 0, 1) := dk_42 (dk_at dksX4_readsAll_2 3 rfl rfl)
theorem dX4_readsAll_49 : decode cX4_readsAll 49 = .ok (.dup, 1) := dk_89 (dk_at dksX4_readsAll_2 4 rfl rfl)
theorem dX4_readsAll_50 : decode cX4_readsAll 50 = .ok (.getfield 93, 3) := dk_180 0 93 (dk_at dksX4_readsAll_2 5 rfl rfl)
theorem dX4_readsAll_53 : decode cX4_readsAll 53 = .ok (.iconst 1, 1) := dk_4 (dk_at dksX4_readsAll_2 8 rfl rfl)
theorem dX4_readsAll_54 : decode cX4_readsAll 54 = .ok (.iadd, 1) := dk_96 (dk_at dksX4_readsAll_2 9 rfl rfl)
theorem dX4_readsAll_55 : decode cX4_readsAll 55 = .ok (.putfield 93, 3) := dk_181 0 93 (dk_at dksX4_readsAll_2 10 rfl rfl)
theorem dX4_readsAll_58 : decode cX4_readsAll 58 = .ok (.aload_n 0, 1) := dk_42 (dk_at dksX4_readsAll_2 13 rfl rfl)
theorem dX4_readsAll_59 : decode cX4_readsAll 59 = .ok (.invokevirtual 261, 3) := dk_182 1 5 (dk_at dksX4_readsAll_2 14 rfl rfl)
theorem dX4_readsAll_62 : decode cX4_readsAll 62 = .ok (.istore_n 1, 1) := dk_60 (dk_at dksX4_readsAll_2 17 rfl rfl)
theorem dX4_readsAll_63 : decode cX4_readsAll 63 = .ok (.goto (-28), 3) := dk_167 255 228 (dk_at dksX4_readsAll_2 18 rfl rfl)
theorem dX4_readsAll_66 : decode cX4_readsAll 66 = .ok (.iload_n 1, 1) := dk_27 (dk_at dksX4_readsAll_2 21 rfl rfl)
theorem dX4_readsAll_67 : decode cX4_readsAll 67 = .ok (.ifCond .eq 21, 3) := dk_153 0 21 (dk_at dksX4_readsAll_3 0 rfl rfl)
theorem dX4_readsAll_70 : decode cX4_readsAll 70 = .ok (.aload_n 0, 1) := dk_42 (dk_at dksX4_readsAll_3 3 rfl rfl)
theorem dX4_readsAll_71 : decode cX4_readsAll 71 = .ok (.invokevirtual 96, 3) := dk_182 0 96 (dk_at dksX4_readsAll_3 4 rfl rfl)
theorem dX4_readsAll_74 : decode cX4_readsAll 74 = .ok (.iconst (-1), 1) := dk_2 (dk_at dksX4_readsAll_3 7 rfl rfl)
theorem dX4_readsAll_75 : decode cX4_readsAll 75 = .ok (.if_icmp .eq 13, 3) := dk_159 0 13 (dk_at dksX4_readsAll_3 8 rfl rfl)
theorem dX4_readsAll_78 : decode cX4_readsAll 78 = .ok (.aload_n 0, 1) := dk_42 (dk_at dksX4_readsAll_3 11 rfl rfl)
theorem dX4_readsAll_79 : decode cX4_readsAll 79 = .ok (.iconst 0, 1) := dk_3 (dk_at dksX4_readsAll_3 12 rfl rfl)
theorem dX4_readsAll_80 : decode cX4_readsAll 80 = .ok (.aload_n 0, 1) := dk_42 (dk_at dksX4_readsAll_3 13 rfl rfl)
theorem dX4_readsAll_81 : decode cX4_readsAll 81 = .ok (.getfield 93, 3) := dk_180 0 93 (dk_at dksX4_readsAll_3 14 rfl rfl)
theorem dX4_readsAll_84 : decode cX4_readsAll 84 = .ok (.invokevirtual 114, 3) := dk_182 0 114 (dk_at dksX4_readsAll_3 17 rfl rfl)
theorem dX4_readsAll_87 : decode cX4_readsAll 87 = .ok (.pop, 1) := dk_87 (dk_at dksX4_readsAll_3 20 rfl rfl)
theorem dX4_readsAll_88 : decode cX4_readsAll 88 = .ok (.aload_n 0, 1) := dk_42 (dk_at dksX4_readsAll_3 21 rfl rfl)
theorem dX4_readsAll_89 : decode cX4_readsAll 89 = .ok (.iconst 0, 1) := dk_3 (dk_at dksX4_readsAll_3 22 rfl rfl)
theorem dX4_readsAll_90 : decode cX4_readsAll 90 = .ok (.putfield 83, 3) := dk_181 0 83 (dk_at dksX4_readsAll_4 0 rfl rfl)
theorem dX4_readsAll_93 : decode cX4_readsAll 93 = .ok (.aload_n 0, 1) := dk_42 (dk_at dksX4_readsAll_4 3 rfl rfl)
theorem dX4_readsAll_94 : decode cX4_readsAll 94 = .ok (.getfield 90, 3) := dk_180 0 90 (dk_at dksX4_readsAll_4 4 rfl rfl)
theorem dX4_readsAll_97 : decode cX4_readsAll 97 = .ok (.ifCond .ne 7, 3) := dk_154 0 7 (dk_at dksX4_readsAll_4 7 rfl rfl)
theorem dX4_readsAll_100 : decode cX4_readsAll 100 = .ok (.iconst 1, 1) := dk_4 (dk_at dksX4_readsAll_4 10 rfl rfl)
theorem dX4_readsAll_101 : decode cX4_readsAll 101 = .ok (.goto 4, 3) := dk_167 0 4 (dk_at dksX4_readsAll_4 11 rfl rfl)
theorem dX4_readsAll_104 : decode cX4_readsAll 104 = .ok (.iconst 0, 1) := dk_3 (dk_at dksX4_readsAll_4 14 rfl rfl)
theorem dX4_readsAll_105 : decode cX4_readsAll 105 = .ok (.ireturn, 1) := dk_172 (dk_at dksX4_readsAll_4 15 rfl rfl)
abbrev cX4_clauseHere : ByteArray := prog_19_method_39_code
def yX4_clauseHere : MethodName := ⟨RX4, "clauseHere", "()Z"⟩
def dkwX4_clauseHere_4 : List UInt8 := [153, 0, 11, 42, 27, 182, 0, 255, 167, 0, 7, 42, 182, 1, 2, 172]
abbrev dktX4_clauseHere_4 : List UInt8 := dkwX4_clauseHere_4 ++ []
def dkwX4_clauseHere_3 : List UInt8 := [16, 12, 160, 0, 10, 42, 7, 27, 182, 0, 114, 172, 42, 89, 180, 0, 252, 4, 96, 181, 0, 252, 28]
abbrev dktX4_clauseHere_3 : List UInt8 := dkwX4_clauseHere_3 ++ dktX4_clauseHere_4
def dkwX4_clauseHere_2 : List UInt8 := [154, 0, 10, 42, 3, 27, 182, 0, 114, 172, 42, 180, 0, 252, 28, 153, 0, 8, 16, 40, 167, 0, 5]
abbrev dktX4_clauseHere_2 : List UInt8 := dkwX4_clauseHere_2 ++ dktX4_clauseHere_3
def dkwX4_clauseHere_1 : List UInt8 := [61, 28, 153, 0, 13, 42, 182, 0, 247, 154, 0, 23, 167, 0, 13, 42, 20, 0, 250, 182, 0, 104]
abbrev dktX4_clauseHere_1 : List UInt8 := dkwX4_clauseHere_1 ++ dktX4_clauseHere_2
def dkwX4_clauseHere_0 : List UInt8 := [42, 182, 0, 96, 87, 42, 180, 0, 93, 60, 42, 180, 0, 147, 16, 6, 160, 0, 7, 4, 167, 0, 4, 3]
abbrev dktX4_clauseHere_0 : List UInt8 := dkwX4_clauseHere_0 ++ dktX4_clauseHere_1
theorem dksX4_clauseHere_0 : cX4_clauseHere.data.toList.drop 0 = dktX4_clauseHere_0 := by decide +kernel
theorem dksX4_clauseHere_1 : cX4_clauseHere.data.toList.drop 24 = dktX4_clauseHere_1 := dk_seg dksX4_clauseHere_0 24 rfl rfl
theorem dksX4_clauseHere_2 : cX4_clauseHere.data.toList.drop 46 = dktX4_clauseHere_2 := dk_seg dksX4_clauseHere_1 22 rfl rfl
theorem dksX4_clauseHere_3 : cX4_clauseHere.data.toList.drop 69 = dktX4_clauseHere_3 := dk_seg dksX4_clauseHere_2 23 rfl rfl
theorem dksX4_clauseHere_4 : cX4_clauseHere.data.toList.drop 92 = dktX4_clauseHere_4 := dk_seg dksX4_clauseHere_3 23 rfl rfl
theorem dX4_clauseHere_0 : decode cX4_clauseHere 0 = .ok (.aload_n 0, 1) := dk_42 (dk_at dksX4_clauseHere_0 0 rfl rfl)
theorem dX4_clauseHere_1 : decode cX4_clauseHere 1 = .ok (.invokevirtual 96, 3) := dk_182 0 96 (dk_at dksX4_clauseHere_0 1 rfl rfl)
theorem dX4_clauseHere_4 : decode cX4_clauseHere 4 = .ok (.pop, 1) := dk_87 (dk_at dksX4_clauseHere_0 4 rfl rfl)
theorem dX4_clauseHere_5 : decode cX4_clauseHere 5 = .ok (.aload_n 0, 1) := dk_42 (dk_at dksX4_clauseHere_0 5 rfl rfl)
theorem dX4_clauseHere_6 : decode cX4_clauseHere 6 = .ok (.getfield 93, 3) := dk_180 0 93 (dk_at dksX4_clauseHere_0 6 rfl rfl)
theorem dX4_clauseHere_9 : decode cX4_clauseHere 9 = .ok (.istore_n 1, 1) := dk_60 (dk_at dksX4_clauseHere_0 9 rfl rfl)
theorem dX4_clauseHere_10 : decode cX4_clauseHere 10 = .ok (.aload_n 0, 1) := dk_42 (dk_at dksX4_clauseHere_0 10 rfl rfl)
theorem dX4_clauseHere_11 : decode cX4_clauseHere 11 = .ok (.getfield 147, 3) := dk_180 0 147 (dk_at dksX4_clauseHere_0 11 rfl rfl)
theorem dX4_clauseHere_14 : decode cX4_clauseHere 14 = .ok (.bipush 6, 2) := dk_16 6 (dk_at dksX4_clauseHere_0 14 rfl rfl)
theorem dX4_clauseHere_16 : decode cX4_clauseHere 16 = .ok (.if_icmp .ne 7, 3) := dk_160 0 7 (dk_at dksX4_clauseHere_0 16 rfl rfl)
theorem dX4_clauseHere_19 : decode cX4_clauseHere 19 = .ok (.iconst 1, 1) := dk_4 (dk_at dksX4_clauseHere_0 19 rfl rfl)
theorem dX4_clauseHere_20 : decode cX4_clauseHere 20 = .ok (.goto 4, 3) := dk_167 0 4 (dk_at dksX4_clauseHere_0 20 rfl rfl)
theorem dX4_clauseHere_23 : decode cX4_clauseHere 23 = .ok (.iconst 0, 1) := dk_3 (dk_at dksX4_clauseHere_0 23 rfl rfl)
theorem dX4_clauseHere_24 : decode cX4_clauseHere 24 = .ok (.istore_n 2, 1) := dk_61 (dk_at dksX4_clauseHere_1 0 rfl rfl)
theorem dX4_clauseHere_25 : decode cX4_clauseHere 25 = .ok (.iload_n 2, 1) := dk_28 (dk_at dksX4_clauseHere_1 1 rfl rfl)
theorem dX4_clauseHere_26 : decode cX4_clauseHere 26 = .ok (.ifCond .eq 13, 3) := dk_153 0 13 (dk_at dksX4_clauseHere_1 2 rfl rfl)
theorem dX4_clauseHere_29 : decode cX4_clauseHere 29 = .ok (.aload_n 0, 1) := dk_42 (dk_at dksX4_clauseHere_1 5 rfl rfl)
theorem dX4_clauseHere_30 : decode cX4_clauseHere 30 = .ok (.invokevirtual 247, 3) := dk_182 0 247 (dk_at dksX4_clauseHere_1 6 rfl rfl)
theorem dX4_clauseHere_33 : decode cX4_clauseHere 33 = .ok (.ifCond .ne 23, 3) := dk_154 0 23 (dk_at dksX4_clauseHere_1 9 rfl rfl)
theorem dX4_clauseHere_36 : decode cX4_clauseHere 36 = .ok (.goto 13, 3) := dk_167 0 13 (dk_at dksX4_clauseHere_1 12 rfl rfl)
theorem dX4_clauseHere_39 : decode cX4_clauseHere 39 = .ok (.aload_n 0, 1) := dk_42 (dk_at dksX4_clauseHere_1 15 rfl rfl)
theorem dX4_clauseHere_40 : decode cX4_clauseHere 40 = .ok (.ldc2_w 250, 3) := dk_20 0 250 (dk_at dksX4_clauseHere_1 16 rfl rfl)
theorem dX4_clauseHere_43 : decode cX4_clauseHere 43 = .ok (.invokevirtual 104, 3) := dk_182 0 104 (dk_at dksX4_clauseHere_1 19 rfl rfl)
theorem dX4_clauseHere_46 : decode cX4_clauseHere 46 = .ok (.ifCond .ne 10, 3) := dk_154 0 10 (dk_at dksX4_clauseHere_2 0 rfl rfl)
theorem dX4_clauseHere_49 : decode cX4_clauseHere 49 = .ok (.aload_n 0, 1) := dk_42 (dk_at dksX4_clauseHere_2 3 rfl rfl)
theorem dX4_clauseHere_50 : decode cX4_clauseHere 50 = .ok (.iconst 0, 1) := dk_3 (dk_at dksX4_clauseHere_2 4 rfl rfl)
theorem dX4_clauseHere_51 : decode cX4_clauseHere 51 = .ok (.iload_n 1, 1) := dk_27 (dk_at dksX4_clauseHere_2 5 rfl rfl)
theorem dX4_clauseHere_52 : decode cX4_clauseHere 52 = .ok (.invokevirtual 114, 3) := dk_182 0 114 (dk_at dksX4_clauseHere_2 6 rfl rfl)
theorem dX4_clauseHere_55 : decode cX4_clauseHere 55 = .ok (.ireturn, 1) := dk_172 (dk_at dksX4_clauseHere_2 9 rfl rfl)
theorem dX4_clauseHere_56 : decode cX4_clauseHere 56 = .ok (.aload_n 0, 1) := dk_42 (dk_at dksX4_clauseHere_2 10 rfl rfl)
theorem dX4_clauseHere_57 : decode cX4_clauseHere 57 = .ok (.getfield 252, 3) := dk_180 0 252 (dk_at dksX4_clauseHere_2 11 rfl rfl)
theorem dX4_clauseHere_60 : decode cX4_clauseHere 60 = .ok (.iload_n 2, 1) := dk_28 (dk_at dksX4_clauseHere_2 14 rfl rfl)
theorem dX4_clauseHere_61 : decode cX4_clauseHere 61 = .ok (.ifCond .eq 8, 3) := dk_153 0 8 (dk_at dksX4_clauseHere_2 15 rfl rfl)
theorem dX4_clauseHere_64 : decode cX4_clauseHere 64 = .ok (.bipush 40, 2) := dk_16 40 (dk_at dksX4_clauseHere_2 18 rfl rfl)
theorem dX4_clauseHere_66 : decode cX4_clauseHere 66 = .ok (.goto 5, 3) := dk_167 0 5 (dk_at dksX4_clauseHere_2 20 rfl rfl)
theorem dX4_clauseHere_69 : decode cX4_clauseHere 69 = .ok (.bipush 12, 2) := dk_16 12 (dk_at dksX4_clauseHere_3 0 rfl rfl)
theorem dX4_clauseHere_71 : decode cX4_clauseHere 71 = .ok (.if_icmp .ne 10, 3) := dk_160 0 10 (dk_at dksX4_clauseHere_3 2 rfl rfl)
theorem dX4_clauseHere_74 : decode cX4_clauseHere 74 = .ok (.aload_n 0, 1) := dk_42 (dk_at dksX4_clauseHere_3 5 rfl rfl)
theorem dX4_clauseHere_75 : decode cX4_clauseHere 75 = .ok (.iconst 4, 1) := dk_7 (dk_at dksX4_clauseHere_3 6 rfl rfl)
theorem dX4_clauseHere_76 : decode cX4_clauseHere 76 = .ok (.iload_n 1, 1) := dk_27 (dk_at dksX4_clauseHere_3 7 rfl rfl)
theorem dX4_clauseHere_77 : decode cX4_clauseHere 77 = .ok (.invokevirtual 114, 3) := dk_182 0 114 (dk_at dksX4_clauseHere_3 8 rfl rfl)
theorem dX4_clauseHere_80 : decode cX4_clauseHere 80 = .ok (.ireturn, 1) := dk_172 (dk_at dksX4_clauseHere_3 11 rfl rfl)
theorem dX4_clauseHere_81 : decode cX4_clauseHere 81 = .ok (.aload_n 0, 1) := dk_42 (dk_at dksX4_clauseHere_3 12 rfl rfl)
theorem dX4_clauseHere_82 : decode cX4_clauseHere 82 = .ok (.dup, 1) := dk_89 (dk_at dksX4_clauseHere_3 13 rfl rfl)
theorem dX4_clauseHere_83 : decode cX4_clauseHere 83 = .ok (.getfield 252, 3) := dk_180 0 252 (dk_at dksX4_clauseHere_3 14 rfl rfl)
theorem dX4_clauseHere_86 : decode cX4_clauseHere 86 = .ok (.iconst 1, 1) := dk_4 (dk_at dksX4_clauseHere_3 17 rfl rfl)
theorem dX4_clauseHere_87 : decode cX4_clauseHere 87 = .ok (.iadd, 1) := dk_96 (dk_at dksX4_clauseHere_3 18 rfl rfl)
theorem dX4_clauseHere_88 : decode cX4_clauseHere 88 = .ok (.putfield 252, 3) := dk_181 0 252 (dk_at dksX4_clauseHere_3 19 rfl rfl)
theorem dX4_clauseHere_91 : decode cX4_clauseHere 91 = .ok (.iload_n 2, 1) := dk_28 (dk_at dksX4_clauseHere_3 22 rfl rfl)
theorem dX4_clauseHere_92 : decode cX4_clauseHere 92 = .ok (.ifCond .eq 11, 3) := dk_153 0 11 (dk_at dksX4_clauseHere_4 0 rfl rfl)
theorem dX4_clauseHere_95 : decode cX4_clauseHere 95 = .ok (.aload_n 0, 1) := dk_42 (dk_at dksX4_clauseHere_4 3 rfl rfl)
theorem dX4_clauseHere_96 : decode cX4_clauseHere 96 = .ok (.iload_n 1, 1) := dk_27 (dk_at dksX4_clauseHere_4 4 rfl rfl)
theorem dX4_clauseHere_97 : decode cX4_clauseHere 97 = .ok (.invokevirtual 255, 3) := dk_182 0 255 (dk_at dksX4_clauseHere_4 5 rfl rfl)
theorem dX4_clauseHere_100 : decode cX4_clauseHere 100 = .ok (.goto 7, 3) := dk_167 0 7 (dk_at dksX4_clauseHere_4 8 rfl rfl)
theorem dX4_clauseHere_103 : decode cX4_clauseHere 103 = .ok (.aload_n 0, 1) := dk_42 (dk_at dksX4_clauseHere_4 11 rfl rfl)
theorem dX4_clauseHere_104 : decode cX4_clauseHere 104 = .ok (.invokevirtual 258, 3) := dk_182 1 2 (dk_at dksX4_clauseHere_4 12 rfl rfl)
theorem dX4_clauseHere_107 : decode cX4_clauseHere 107 = .ok (.ireturn, 1) := dk_172 (dk_at dksX4_clauseHere_4 15 rfl rfl)
abbrev cX4_see : ByteArray := prog_19_method_9_code
def yX4_see : MethodName := ⟨RX4, "see", "()I"⟩
def dkwX4_see_2 : List UInt8 := [162, 0, 19, 42, 180, 0, 7, 42, 180, 0, 93, 51, 17, 0, 255, 126, 167, 0, 4, 2, 172]
abbrev dktX4_see_2 : List UInt8 := dkwX4_see_2 ++ []
def dkwX4_see_1 : List UInt8 := [160, 0, 16, 42, 89, 180, 0, 93, 4, 96, 181, 0, 93, 167, 255, 221, 42, 180, 0, 93, 42, 180, 0, 83]
abbrev dktX4_see_1 : List UInt8 := dkwX4_see_1 ++ dktX4_see_2
def dkwX4_see_0 : List UInt8 := [42, 180, 0, 93, 42, 180, 0, 83, 162, 0, 30, 42, 180, 0, 7, 42, 180, 0, 93, 51, 16, 32]
abbrev dktX4_see_0 : List UInt8 := dkwX4_see_0 ++ dktX4_see_1
theorem dksX4_see_0 : cX4_see.data.toList.drop 0 = dktX4_see_0 := by decide +kernel
theorem dksX4_see_1 : cX4_see.data.toList.drop 22 = dktX4_see_1 := dk_seg dksX4_see_0 22 rfl rfl
theorem dksX4_see_2 : cX4_see.data.toList.drop 46 = dktX4_see_2 := dk_seg dksX4_see_1 24 rfl rfl
theorem dX4_see_0 : decode cX4_see 0 = .ok (.aload_n 0, 1) := dk_42 (dk_at dksX4_see_0 0 rfl rfl)
theorem dX4_see_1 : decode cX4_see 1 = .ok (.getfield 93, 3) := dk_180 0 93 (dk_at dksX4_see_0 1 rfl rfl)
theorem dX4_see_4 : decode cX4_see 4 = .ok (.aload_n 0, 1) := dk_42 (dk_at dksX4_see_0 4 rfl rfl)
theorem dX4_see_5 : decode cX4_see 5 = .ok (.getfield 83, 3) := dk_180 0 83 (dk_at dksX4_see_0 5 rfl rfl)
theorem dX4_see_8 : decode cX4_see 8 = .ok (.if_icmp .ge 30, 3) := dk_162 0 30 (dk_at dksX4_see_0 8 rfl rfl)
theorem dX4_see_11 : decode cX4_see 11 = .ok (.aload_n 0, 1) := dk_42 (dk_at dksX4_see_0 11 rfl rfl)
theorem dX4_see_12 : decode cX4_see 12 = .ok (.getfield 7, 3) := dk_180 0 7 (dk_at dksX4_see_0 12 rfl rfl)
theorem dX4_see_15 : decode cX4_see 15 = .ok (.aload_n 0, 1) := dk_42 (dk_at dksX4_see_0 15 rfl rfl)
theorem dX4_see_16 : decode cX4_see 16 = .ok (.getfield 93, 3) := dk_180 0 93 (dk_at dksX4_see_0 16 rfl rfl)
theorem dX4_see_19 : decode cX4_see 19 = .ok (.baload, 1) := dk_51 (dk_at dksX4_see_0 19 rfl rfl)
theorem dX4_see_20 : decode cX4_see 20 = .ok (.bipush 32, 2) := dk_16 32 (dk_at dksX4_see_0 20 rfl rfl)
theorem dX4_see_22 : decode cX4_see 22 = .ok (.if_icmp .ne 16, 3) := dk_160 0 16 (dk_at dksX4_see_1 0 rfl rfl)
theorem dX4_see_25 : decode cX4_see 25 = .ok (.aload_n 0, 1) := dk_42 (dk_at dksX4_see_1 3 rfl rfl)
theorem dX4_see_26 : decode cX4_see 26 = .ok (.dup, 1) := dk_89 (dk_at dksX4_see_1 4 rfl rfl)
theorem dX4_see_27 : decode cX4_see 27 = .ok (.getfield 93, 3) := dk_180 0 93 (dk_at dksX4_see_1 5 rfl rfl)
theorem dX4_see_30 : decode cX4_see 30 = .ok (.iconst 1, 1) := dk_4 (dk_at dksX4_see_1 8 rfl rfl)
theorem dX4_see_31 : decode cX4_see 31 = .ok (.iadd, 1) := dk_96 (dk_at dksX4_see_1 9 rfl rfl)
theorem dX4_see_32 : decode cX4_see 32 = .ok (.putfield 93, 3) := dk_181 0 93 (dk_at dksX4_see_1 10 rfl rfl)
theorem dX4_see_35 : decode cX4_see 35 = .ok (.goto (-35), 3) := dk_167 255 221 (dk_at dksX4_see_1 13 rfl rfl)
theorem dX4_see_38 : decode cX4_see 38 = .ok (.aload_n 0, 1) := dk_42 (dk_at dksX4_see_1 16 rfl rfl)
theorem dX4_see_39 : decode cX4_see 39 = .ok (.getfield 93, 3) := dk_180 0 93 (dk_at dksX4_see_1 17 rfl rfl)
theorem dX4_see_42 : decode cX4_see 42 = .ok (.aload_n 0, 1) := dk_42 (dk_at dksX4_see_1 20 rfl rfl)
theorem dX4_see_43 : decode cX4_see 43 = .ok (.getfield 83, 3) := dk_180 0 83 (dk_at dksX4_see_1 21 rfl rfl)
theorem dX4_see_46 : decode cX4_see 46 = .ok (.if_icmp .ge 19, 3) := dk_162 0 19 (dk_at dksX4_see_2 0 rfl rfl)
theorem dX4_see_49 : decode cX4_see 49 = .ok (.aload_n 0, 1) := dk_42 (dk_at dksX4_see_2 3 rfl rfl)
theorem dX4_see_50 : decode cX4_see 50 = .ok (.getfield 7, 3) := dk_180 0 7 (dk_at dksX4_see_2 4 rfl rfl)
theorem dX4_see_53 : decode cX4_see 53 = .ok (.aload_n 0, 1) := dk_42 (dk_at dksX4_see_2 7 rfl rfl)
theorem dX4_see_54 : decode cX4_see 54 = .ok (.getfield 93, 3) := dk_180 0 93 (dk_at dksX4_see_2 8 rfl rfl)
theorem dX4_see_57 : decode cX4_see 57 = .ok (.baload, 1) := dk_51 (dk_at dksX4_see_2 11 rfl rfl)
theorem dX4_see_58 : decode cX4_see 58 = .ok (.sipush 255, 3) := dk_17 0 255 (dk_at dksX4_see_2 12 rfl rfl)
theorem dX4_see_61 : decode cX4_see 61 = .ok (.iand, 1) := dk_126 (dk_at dksX4_see_2 15 rfl rfl)
theorem dX4_see_62 : decode cX4_see 62 = .ok (.goto 4, 3) := dk_167 0 4 (dk_at dksX4_see_2 16 rfl rfl)
theorem dX4_see_65 : decode cX4_see 65 = .ok (.iconst (-1), 1) := dk_2 (dk_at dksX4_see_2 19 rfl rfl)
theorem dX4_see_66 : decode cX4_see 66 = .ok (.ireturn, 1) := dk_172 (dk_at dksX4_see_2 20 rfl rfl)
abbrev cX4_isValleyWord : ByteArray := prog_19_method_38_code
def yX4_isValleyWord : MethodName := ⟨RX4, "isValleyWord", "()Z"⟩
def dkwX4_isValleyWord_1 : List UInt8 := [182, 0, 104, 154, 0, 13, 42, 20, 0, 245, 182, 0, 104, 153, 0, 7, 4, 167, 0, 4, 3, 172]
abbrev dktX4_isValleyWord_1 : List UInt8 := dkwX4_isValleyWord_1 ++ []
def dkwX4_isValleyWord_0 : List UInt8 := [42, 20, 0, 229, 182, 0, 104, 154, 0, 33, 42, 20, 0, 125, 182, 0, 104, 154, 0, 23, 42, 20, 0, 237]
abbrev dktX4_isValleyWord_0 : List UInt8 := dkwX4_isValleyWord_0 ++ dktX4_isValleyWord_1
theorem dksX4_isValleyWord_0 : cX4_isValleyWord.data.toList.drop 0 = dktX4_isValleyWord_0 := by decide +kernel
theorem dksX4_isValleyWord_1 : cX4_isValleyWord.data.toList.drop 24 = dktX4_isValleyWord_1 := dk_seg dksX4_isValleyWord_0 24 rfl rfl
theorem dX4_isValleyWord_0 : decode cX4_isValleyWord 0 = .ok (.aload_n 0, 1) := dk_42 (dk_at dksX4_isValleyWord_0 0 rfl rfl)
theorem dX4_isValleyWord_1 : decode cX4_isValleyWord 1 = .ok (.ldc2_w 229, 3) := dk_20 0 229 (dk_at dksX4_isValleyWord_0 1 rfl rfl)
theorem dX4_isValleyWord_4 : decode cX4_isValleyWord 4 = .ok (.invokevirtual 104, 3) := dk_182 0 104 (dk_at dksX4_isValleyWord_0 4 rfl rfl)
theorem dX4_isValleyWord_7 : decode cX4_isValleyWord 7 = .ok (.ifCond .ne 33, 3) := dk_154 0 33 (dk_at dksX4_isValleyWord_0 7 rfl rfl)
theorem dX4_isValleyWord_10 : decode cX4_isValleyWord 10 = .ok (.aload_n 0, 1) := dk_42 (dk_at dksX4_isValleyWord_0 10 rfl rfl)
theorem dX4_isValleyWord_11 : decode cX4_isValleyWord 11 = .ok (.ldc2_w 125, 3) := dk_20 0 125 (dk_at dksX4_isValleyWord_0 11 rfl rfl)
theorem dX4_isValleyWord_14 : decode cX4_isValleyWord 14 = .ok (.invokevirtual 104, 3) := dk_182 0 104 (dk_at dksX4_isValleyWord_0 14 rfl rfl)
theorem dX4_isValleyWord_17 : decode cX4_isValleyWord 17 = .ok (.ifCond .ne 23, 3) := dk_154 0 23 (dk_at dksX4_isValleyWord_0 17 rfl rfl)
theorem dX4_isValleyWord_20 : decode cX4_isValleyWord 20 = .ok (.aload_n 0, 1) := dk_42 (dk_at dksX4_isValleyWord_0 20 rfl rfl)
theorem dX4_isValleyWord_21 : decode cX4_isValleyWord 21 = .ok (.ldc2_w 237, 3) := dk_20 0 237 (dk_at dksX4_isValleyWord_0 21 rfl rfl)
theorem dX4_isValleyWord_24 : decode cX4_isValleyWord 24 = .ok (.invokevirtual 104, 3) := dk_182 0 104 (dk_at dksX4_isValleyWord_1 0 rfl rfl)
theorem dX4_isValleyWord_27 : decode cX4_isValleyWord 27 = .ok (.ifCond .ne 13, 3) := dk_154 0 13 (dk_at dksX4_isValleyWord_1 3 rfl rfl)
theorem dX4_isValleyWord_30 : decode cX4_isValleyWord 30 = .ok (.aload_n 0, 1) := dk_42 (dk_at dksX4_isValleyWord_1 6 rfl rfl)
theorem dX4_isValleyWord_31 : decode cX4_isValleyWord 31 = .ok (.ldc2_w 245, 3) := dk_20 0 245 (dk_at dksX4_isValleyWord_1 7 rfl rfl)
theorem dX4_isValleyWord_34 : decode cX4_isValleyWord 34 = .ok (.invokevirtual 104, 3) := dk_182 0 104 (dk_at dksX4_isValleyWord_1 10 rfl rfl)
theorem dX4_isValleyWord_37 : decode cX4_isValleyWord 37 = .ok (.ifCond .eq 7, 3) := dk_153 0 7 (dk_at dksX4_isValleyWord_1 13 rfl rfl)
theorem dX4_isValleyWord_40 : decode cX4_isValleyWord 40 = .ok (.iconst 1, 1) := dk_4 (dk_at dksX4_isValleyWord_1 16 rfl rfl)
theorem dX4_isValleyWord_41 : decode cX4_isValleyWord 41 = .ok (.goto 4, 3) := dk_167 0 4 (dk_at dksX4_isValleyWord_1 17 rfl rfl)
theorem dX4_isValleyWord_44 : decode cX4_isValleyWord 44 = .ok (.iconst 0, 1) := dk_3 (dk_at dksX4_isValleyWord_1 20 rfl rfl)
theorem dX4_isValleyWord_45 : decode cX4_isValleyWord 45 = .ok (.ireturn, 1) := dk_172 (dk_at dksX4_isValleyWord_1 21 rfl rfl)
abbrev cX4_isWord : ByteArray := prog_19_method_12_code
def yX4_isWord : MethodName := ⟨RX4, "isWord", "(J)Z"⟩
def dkwX4_isWord_3 : List UInt8 := [154, 0, 7, 4, 167, 0, 4, 3, 172]
abbrev dktX4_isWord_3 : List UInt8 := dkwX4_isWord_3 ++ []
def dkwX4_isWord_2 : List UInt8 := [129, 66, 132, 5, 1, 167, 255, 213, 21, 5, 158, 0, 20, 21, 5, 16, 8, 162, 0, 13, 33, 31, 148]
abbrev dktX4_isWord_2 : List UInt8 := dkwX4_isWord_2 ++ dktX4_isWord_3
def dkwX4_isWord_1 : List UInt8 := [21, 5, 16, 8, 162, 0, 22, 33, 16, 8, 121, 42, 180, 0, 7, 42, 180, 0, 93, 21, 5, 96, 51, 133]
abbrev dktX4_isWord_1 : List UInt8 := dkwX4_isWord_1 ++ dktX4_isWord_2
def dkwX4_isWord_0 : List UInt8 := [42, 182, 0, 96, 87, 9, 66, 3, 54, 5, 42, 42, 180, 0, 93, 21, 5, 96, 182, 0, 100, 153, 0, 35]
abbrev dktX4_isWord_0 : List UInt8 := dkwX4_isWord_0 ++ dktX4_isWord_1
theorem dksX4_isWord_0 : cX4_isWord.data.toList.drop 0 = dktX4_isWord_0 := by decide +kernel
theorem dksX4_isWord_1 : cX4_isWord.data.toList.drop 24 = dktX4_isWord_1 := dk_seg dksX4_isWord_0 24 rfl rfl
theorem dksX4_isWord_2 : cX4_isWord.data.toList.drop 48 = dktX4_isWord_2 := dk_seg dksX4_isWord_1 24 rfl rfl
theorem dksX4_isWord_3 : cX4_isWord.data.toList.drop 71 = dktX4_isWord_3 := dk_seg dksX4_isWord_2 23 rfl rfl
theorem dX4_isWord_0 : decode cX4_isWord 0 = .ok (.aload_n 0, 1) := dk_42 (dk_at dksX4_isWord_0 0 rfl rfl)
theorem dX4_isWord_1 : decode cX4_isWord 1 = .ok (.invokevirtual 96, 3) := dk_182 0 96 (dk_at dksX4_isWord_0 1 rfl rfl)
theorem dX4_isWord_4 : decode cX4_isWord 4 = .ok (.pop, 1) := dk_87 (dk_at dksX4_isWord_0 4 rfl rfl)
theorem dX4_isWord_5 : decode cX4_isWord 5 = .ok (.lconst 0, 1) := dk_9 (dk_at dksX4_isWord_0 5 rfl rfl)
theorem dX4_isWord_6 : decode cX4_isWord 6 = .ok (.lstore_n 3, 1) := dk_66 (dk_at dksX4_isWord_0 6 rfl rfl)
theorem dX4_isWord_7 : decode cX4_isWord 7 = .ok (.iconst 0, 1) := dk_3 (dk_at dksX4_isWord_0 7 rfl rfl)
theorem dX4_isWord_8 : decode cX4_isWord 8 = .ok (.istore 5, 2) := dk_54 5 (dk_at dksX4_isWord_0 8 rfl rfl)
theorem dX4_isWord_10 : decode cX4_isWord 10 = .ok (.aload_n 0, 1) := dk_42 (dk_at dksX4_isWord_0 10 rfl rfl)
theorem dX4_isWord_11 : decode cX4_isWord 11 = .ok (.aload_n 0, 1) := dk_42 (dk_at dksX4_isWord_0 11 rfl rfl)
theorem dX4_isWord_12 : decode cX4_isWord 12 = .ok (.getfield 93, 3) := dk_180 0 93 (dk_at dksX4_isWord_0 12 rfl rfl)
theorem dX4_isWord_15 : decode cX4_isWord 15 = .ok (.iload 5, 2) := dk_21 5 (dk_at dksX4_isWord_0 15 rfl rfl)
theorem dX4_isWord_17 : decode cX4_isWord 17 = .ok (.iadd, 1) := dk_96 (dk_at dksX4_isWord_0 17 rfl rfl)
theorem dX4_isWord_18 : decode cX4_isWord 18 = .ok (.invokevirtual 100, 3) := dk_182 0 100 (dk_at dksX4_isWord_0 18 rfl rfl)
theorem dX4_isWord_21 : decode cX4_isWord 21 = .ok (.ifCond .eq 35, 3) := dk_153 0 35 (dk_at dksX4_isWord_0 21 rfl rfl)
theorem dX4_isWord_24 : decode cX4_isWord 24 = .ok (.iload 5, 2) := dk_21 5 (dk_at dksX4_isWord_1 0 rfl rfl)
theorem dX4_isWord_26 : decode cX4_isWord 26 = .ok (.bipush 8, 2) := dk_16 8 (dk_at dksX4_isWord_1 2 rfl rfl)
theorem dX4_isWord_28 : decode cX4_isWord 28 = .ok (.if_icmp .ge 22, 3) := dk_162 0 22 (dk_at dksX4_isWord_1 4 rfl rfl)
theorem dX4_isWord_31 : decode cX4_isWord 31 = .ok (.lload_n 3, 1) := dk_33 (dk_at dksX4_isWord_1 7 rfl rfl)
theorem dX4_isWord_32 : decode cX4_isWord 32 = .ok (.bipush 8, 2) := dk_16 8 (dk_at dksX4_isWord_1 8 rfl rfl)
theorem dX4_isWord_34 : decode cX4_isWord 34 = .ok (.lshl, 1) := dk_121 (dk_at dksX4_isWord_1 10 rfl rfl)
theorem dX4_isWord_35 : decode cX4_isWord 35 = .ok (.aload_n 0, 1) := dk_42 (dk_at dksX4_isWord_1 11 rfl rfl)
theorem dX4_isWord_36 : decode cX4_isWord 36 = .ok (.getfield 7, 3) := dk_180 0 7 (dk_at dksX4_isWord_1 12 rfl rfl)
theorem dX4_isWord_39 : decode cX4_isWord 39 = .ok (.aload_n 0, 1) := dk_42 (dk_at dksX4_isWord_1 15 rfl rfl)
theorem dX4_isWord_40 : decode cX4_isWord 40 = .ok (.getfield 93, 3) := dk_180 0 93 (dk_at dksX4_isWord_1 16 rfl rfl)
theorem dX4_isWord_43 : decode cX4_isWord 43 = .ok (.iload 5, 2) := dk_21 5 (dk_at dksX4_isWord_1 19 rfl rfl)
theorem dX4_isWord_45 : decode cX4_isWord 45 = .ok (.iadd, 1) := dk_96 (dk_at dksX4_isWord_1 21 rfl rfl)
theorem dX4_isWord_46 : decode cX4_isWord 46 = .ok (.baload, 1) := dk_51 (dk_at dksX4_isWord_1 22 rfl rfl)
theorem dX4_isWord_47 : decode cX4_isWord 47 = .ok (.i2l, 1) := dk_133 (dk_at dksX4_isWord_1 23 rfl rfl)
theorem dX4_isWord_48 : decode cX4_isWord 48 = .ok (.lor, 1) := dk_129 (dk_at dksX4_isWord_2 0 rfl rfl)
theorem dX4_isWord_49 : decode cX4_isWord 49 = .ok (.lstore_n 3, 1) := dk_66 (dk_at dksX4_isWord_2 1 rfl rfl)
theorem dX4_isWord_50 : decode cX4_isWord 50 = .ok (.iinc 5 1, 3) := dk_132 5 1 (dk_at dksX4_isWord_2 2 rfl rfl)
theorem dX4_isWord_53 : decode cX4_isWord 53 = .ok (.goto (-43), 3) := dk_167 255 213 (dk_at dksX4_isWord_2 5 rfl rfl)
theorem dX4_isWord_56 : decode cX4_isWord 56 = .ok (.iload 5, 2) := dk_21 5 (dk_at dksX4_isWord_2 8 rfl rfl)
theorem dX4_isWord_58 : decode cX4_isWord 58 = .ok (.ifCond .le 20, 3) := dk_158 0 20 (dk_at dksX4_isWord_2 10 rfl rfl)
theorem dX4_isWord_61 : decode cX4_isWord 61 = .ok (.iload 5, 2) := dk_21 5 (dk_at dksX4_isWord_2 13 rfl rfl)
theorem dX4_isWord_63 : decode cX4_isWord 63 = .ok (.bipush 8, 2) := dk_16 8 (dk_at dksX4_isWord_2 15 rfl rfl)
theorem dX4_isWord_65 : decode cX4_isWord 65 = .ok (.if_icmp .ge 13, 3) := dk_162 0 13 (dk_at dksX4_isWord_2 17 rfl rfl)
theorem dX4_isWord_68 : decode cX4_isWord 68 = .ok (.lload_n 3, 1) := dk_33 (dk_at dksX4_isWord_2 20 rfl rfl)
theorem dX4_isWord_69 : decode cX4_isWord 69 = .ok (.lload_n 1, 1) := dk_31 (dk_at dksX4_isWord_2 21 rfl rfl)
theorem dX4_isWord_70 : decode cX4_isWord 70 = .ok (.lcmp, 1) := dk_148 (dk_at dksX4_isWord_2 22 rfl rfl)
theorem dX4_isWord_71 : decode cX4_isWord 71 = .ok (.ifCond .ne 7, 3) := dk_154 0 7 (dk_at dksX4_isWord_3 0 rfl rfl)
theorem dX4_isWord_74 : decode cX4_isWord 74 = .ok (.iconst 1, 1) := dk_4 (dk_at dksX4_isWord_3 3 rfl rfl)
theorem dX4_isWord_75 : decode cX4_isWord 75 = .ok (.goto 4, 3) := dk_167 0 4 (dk_at dksX4_isWord_3 4 rfl rfl)
theorem dX4_isWord_78 : decode cX4_isWord 78 = .ok (.iconst 0, 1) := dk_3 (dk_at dksX4_isWord_3 7 rfl rfl)
theorem dX4_isWord_79 : decode cX4_isWord 79 = .ok (.ireturn, 1) := dk_172 (dk_at dksX4_isWord_3 8 rfl rfl)
abbrev cX4_isLetter : ByteArray := prog_19_method_11_code
def yX4_isLetter : MethodName := ⟨RX4, "isLetter", "(I)Z"⟩
def dkwX4_isLetter_1 : List UInt8 := [51, 16, 122, 163, 0, 7, 4, 167, 0, 4, 3, 172]
abbrev dktX4_isLetter_1 : List UInt8 := dkwX4_isLetter_1 ++ []
def dkwX4_isLetter_0 : List UInt8 := [27, 42, 180, 0, 83, 162, 0, 29, 42, 180, 0, 7, 27, 51, 16, 97, 161, 0, 18, 42, 180, 0, 7, 27]
abbrev dktX4_isLetter_0 : List UInt8 := dkwX4_isLetter_0 ++ dktX4_isLetter_1
theorem dksX4_isLetter_0 : cX4_isLetter.data.toList.drop 0 = dktX4_isLetter_0 := by decide +kernel
theorem dksX4_isLetter_1 : cX4_isLetter.data.toList.drop 24 = dktX4_isLetter_1 := dk_seg dksX4_isLetter_0 24 rfl rfl
theorem dX4_isLetter_0 : decode cX4_isLetter 0 = .ok (.iload_n 1, 1) := dk_27 (dk_at dksX4_isLetter_0 0 rfl rfl)
theorem dX4_isLetter_1 : decode cX4_isLetter 1 = .ok (.aload_n 0, 1) := dk_42 (dk_at dksX4_isLetter_0 1 rfl rfl)
theorem dX4_isLetter_2 : decode cX4_isLetter 2 = .ok (.getfield 83, 3) := dk_180 0 83 (dk_at dksX4_isLetter_0 2 rfl rfl)
theorem dX4_isLetter_5 : decode cX4_isLetter 5 = .ok (.if_icmp .ge 29, 3) := dk_162 0 29 (dk_at dksX4_isLetter_0 5 rfl rfl)
theorem dX4_isLetter_8 : decode cX4_isLetter 8 = .ok (.aload_n 0, 1) := dk_42 (dk_at dksX4_isLetter_0 8 rfl rfl)
theorem dX4_isLetter_9 : decode cX4_isLetter 9 = .ok (.getfield 7, 3) := dk_180 0 7 (dk_at dksX4_isLetter_0 9 rfl rfl)
theorem dX4_isLetter_12 : decode cX4_isLetter 12 = .ok (.iload_n 1, 1) := dk_27 (dk_at dksX4_isLetter_0 12 rfl rfl)
theorem dX4_isLetter_13 : decode cX4_isLetter 13 = .ok (.baload, 1) := dk_51 (dk_at dksX4_isLetter_0 13 rfl rfl)
theorem dX4_isLetter_14 : decode cX4_isLetter 14 = .ok (.bipush 97, 2) := dk_16 97 (dk_at dksX4_isLetter_0 14 rfl rfl)
theorem dX4_isLetter_16 : decode cX4_isLetter 16 = .ok (.if_icmp .lt 18, 3) := dk_161 0 18 (dk_at dksX4_isLetter_0 16 rfl rfl)
theorem dX4_isLetter_19 : decode cX4_isLetter 19 = .ok (.aload_n 0, 1) := dk_42 (dk_at dksX4_isLetter_0 19 rfl rfl)
theorem dX4_isLetter_20 : decode cX4_isLetter 20 = .ok (.getfield 7, 3) := dk_180 0 7 (dk_at dksX4_isLetter_0 20 rfl rfl)
theorem dX4_isLetter_23 : decode cX4_isLetter 23 = .ok (.iload_n 1, 1) := dk_27 (dk_at dksX4_isLetter_0 23 rfl rfl)
theorem dX4_isLetter_24 : decode cX4_isLetter 24 = .ok (.baload, 1) := dk_51 (dk_at dksX4_isLetter_1 0 rfl rfl)
theorem dX4_isLetter_25 : decode cX4_isLetter 25 = .ok (.bipush 122, 2) := dk_16 122 (dk_at dksX4_isLetter_1 1 rfl rfl)
theorem dX4_isLetter_27 : decode cX4_isLetter 27 = .ok (.if_icmp .gt 7, 3) := dk_163 0 7 (dk_at dksX4_isLetter_1 3 rfl rfl)
theorem dX4_isLetter_30 : decode cX4_isLetter 30 = .ok (.iconst 1, 1) := dk_4 (dk_at dksX4_isLetter_1 6 rfl rfl)
theorem dX4_isLetter_31 : decode cX4_isLetter 31 = .ok (.goto 4, 3) := dk_167 0 4 (dk_at dksX4_isLetter_1 7 rfl rfl)
theorem dX4_isLetter_34 : decode cX4_isLetter 34 = .ok (.iconst 0, 1) := dk_3 (dk_at dksX4_isLetter_1 10 rfl rfl)
theorem dX4_isLetter_35 : decode cX4_isLetter 35 = .ok (.ireturn, 1) := dk_172 (dk_at dksX4_isLetter_1 11 rfl rfl)
abbrev cX4_fails : ByteArray := prog_19_method_8_code
def yX4_fails : MethodName := ⟨RX4, "fails", "(II)Z"⟩
def dkwX4_fails_0 : List UInt8 := [42, 180, 0, 90, 154, 0, 15, 42, 4, 16, 8, 28, 104, 96, 27, 96, 181, 0, 90, 3, 172]
abbrev dktX4_fails_0 : List UInt8 := dkwX4_fails_0 ++ []
theorem dksX4_fails_0 : cX4_fails.data.toList.drop 0 = dktX4_fails_0 := by decide +kernel
theorem dX4_fails_0 : decode cX4_fails 0 = .ok (.aload_n 0, 1) := dk_42 (dk_at dksX4_fails_0 0 rfl rfl)
theorem dX4_fails_1 : decode cX4_fails 1 = .ok (.getfield 90, 3) := dk_180 0 90 (dk_at dksX4_fails_0 1 rfl rfl)
theorem dX4_fails_4 : decode cX4_fails 4 = .ok (.ifCond .ne 15, 3) := dk_154 0 15 (dk_at dksX4_fails_0 4 rfl rfl)
theorem dX4_fails_7 : decode cX4_fails 7 = .ok (.aload_n 0, 1) := dk_42 (dk_at dksX4_fails_0 7 rfl rfl)
theorem dX4_fails_8 : decode cX4_fails 8 = .ok (.iconst 1, 1) := dk_4 (dk_at dksX4_fails_0 8 rfl rfl)
theorem dX4_fails_9 : decode cX4_fails 9 = .ok (.bipush 8, 2) := dk_16 8 (dk_at dksX4_fails_0 9 rfl rfl)
theorem dX4_fails_11 : decode cX4_fails 11 = .ok (.iload_n 2, 1) := dk_28 (dk_at dksX4_fails_0 11 rfl rfl)
theorem dX4_fails_12 : decode cX4_fails 12 = .ok (.imul, 1) := dk_104 (dk_at dksX4_fails_0 12 rfl rfl)
theorem dX4_fails_13 : decode cX4_fails 13 = .ok (.iadd, 1) := dk_96 (dk_at dksX4_fails_0 13 rfl rfl)
theorem dX4_fails_14 : decode cX4_fails 14 = .ok (.iload_n 1, 1) := dk_27 (dk_at dksX4_fails_0 14 rfl rfl)
theorem dX4_fails_15 : decode cX4_fails 15 = .ok (.iadd, 1) := dk_96 (dk_at dksX4_fails_0 15 rfl rfl)
theorem dX4_fails_16 : decode cX4_fails 16 = .ok (.putfield 90, 3) := dk_181 0 90 (dk_at dksX4_fails_0 16 rfl rfl)
theorem dX4_fails_19 : decode cX4_fails 19 = .ok (.iconst 0, 1) := dk_3 (dk_at dksX4_fails_0 19 rfl rfl)
theorem dX4_fails_20 : decode cX4_fails 20 = .ok (.ireturn, 1) := dk_172 (dk_at dksX4_fails_0 20 rfl rfl)
abbrev cX4_valleyLineHere : ByteArray := prog_19_method_37_code
def yX4_valleyLineHere : MethodName := ⟨RX4, "valleyLineHere", "(I)Z"⟩
def dkwX4_valleyLineHere_3 : List UInt8 := [182, 0, 242, 172]
abbrev dktX4_valleyLineHere_3 : List UInt8 := dkwX4_valleyLineHere_3 ++ []
def dkwX4_valleyLineHere_2 : List UInt8 := [182, 0, 234, 172, 42, 20, 0, 237, 182, 0, 104, 153, 0, 10, 42, 182, 0, 239, 167, 0, 7, 42]
abbrev dktX4_valleyLineHere_2 : List UInt8 := dkwX4_valleyLineHere_2 ++ dktX4_valleyLineHere_3
def dkwX4_valleyLineHere_1 : List UInt8 := [154, 0, 10, 42, 7, 27, 182, 0, 114, 172, 42, 20, 0, 125, 182, 0, 104, 153, 0, 9, 42, 27]
abbrev dktX4_valleyLineHere_1 : List UInt8 := dkwX4_valleyLineHere_1 ++ dktX4_valleyLineHere_2
def dkwX4_valleyLineHere_0 : List UInt8 := [42, 20, 0, 229, 182, 0, 104, 153, 0, 9, 42, 27, 182, 0, 231, 172, 42, 180, 0, 26, 3, 46]
abbrev dktX4_valleyLineHere_0 : List UInt8 := dkwX4_valleyLineHere_0 ++ dktX4_valleyLineHere_1
theorem dksX4_valleyLineHere_0 : cX4_valleyLineHere.data.toList.drop 0 = dktX4_valleyLineHere_0 := by decide +kernel
theorem dksX4_valleyLineHere_1 : cX4_valleyLineHere.data.toList.drop 22 = dktX4_valleyLineHere_1 := dk_seg dksX4_valleyLineHere_0 22 rfl rfl
theorem dksX4_valleyLineHere_2 : cX4_valleyLineHere.data.toList.drop 44 = dktX4_valleyLineHere_2 := dk_seg dksX4_valleyLineHere_1 22 rfl rfl
theorem dksX4_valleyLineHere_3 : cX4_valleyLineHere.data.toList.drop 66 = dktX4_valleyLineHere_3 := dk_seg dksX4_valleyLineHere_2 22 rfl rfl
theorem dX4_valleyLineHere_0 : decode cX4_valleyLineHere 0 = .ok (.aload_n 0, 1) := dk_42 (dk_at dksX4_valleyLineHere_0 0 rfl rfl)
theorem dX4_valleyLineHere_1 : decode cX4_valleyLineHere 1 = .ok (.ldc2_w 229, 3) := dk_20 0 229 (dk_at dksX4_valleyLineHere_0 1 rfl rfl)
theorem dX4_valleyLineHere_4 : decode cX4_valleyLineHere 4 = .ok (.invokevirtual 104, 3) := dk_182 0 104 (dk_at dksX4_valleyLineHere_0 4 rfl rfl)
theorem dX4_valleyLineHere_7 : decode cX4_valleyLineHere 7 = .ok (.ifCond .eq 9, 3) := dk_153 0 9 (dk_at dksX4_valleyLineHere_0 7 rfl rfl)
theorem dX4_valleyLineHere_10 : decode cX4_valleyLineHere 10 = .ok (.aload_n 0, 1) := dk_42 (dk_at dksX4_valleyLineHere_0 10 rfl rfl)
theorem dX4_valleyLineHere_11 : decode cX4_valleyLineHere 11 = .ok (.iload_n 1, 1) := dk_27 (dk_at dksX4_valleyLineHere_0 11 rfl rfl)
theorem dX4_valleyLineHere_12 : decode cX4_valleyLineHere 12 = .ok (.invokevirtual 231, 3) := dk_182 0 231 (dk_at dksX4_valleyLineHere_0 12 rfl rfl)
theorem dX4_valleyLineHere_15 : decode cX4_valleyLineHere 15 = .ok (.ireturn, 1) := dk_172 (dk_at dksX4_valleyLineHere_0 15 rfl rfl)
theorem dX4_valleyLineHere_16 : decode cX4_valleyLineHere 16 = .ok (.aload_n 0, 1) := dk_42 (dk_at dksX4_valleyLineHere_0 16 rfl rfl)
theorem dX4_valleyLineHere_17 : decode cX4_valleyLineHere 17 = .ok (.getfield 26, 3) := dk_180 0 26 (dk_at dksX4_valleyLineHere_0 17 rfl rfl)
theorem dX4_valleyLineHere_20 : decode cX4_valleyLineHere 20 = .ok (.iconst 0, 1) := dk_3 (dk_at dksX4_valleyLineHere_0 20 rfl rfl)
theorem dX4_valleyLineHere_21 : decode cX4_valleyLineHere 21 = .ok (.iaload, 1) := dk_46 (dk_at dksX4_valleyLineHere_0 21 rfl rfl)
theorem dX4_valleyLineHere_22 : decode cX4_valleyLineHere 22 = .ok (.ifCond .ne 10, 3) := dk_154 0 10 (dk_at dksX4_valleyLineHere_1 0 rfl rfl)
theorem dX4_valleyLineHere_25 : decode cX4_valleyLineHere 25 = .ok (.aload_n 0, 1) := dk_42 (dk_at dksX4_valleyLineHere_1 3 rfl rfl)
theorem dX4_valleyLineHere_26 : decode cX4_valleyLineHere 26 = .ok (.iconst 4, 1) := dk_7 (dk_at dksX4_valleyLineHere_1 4 rfl rfl)
theorem dX4_valleyLineHere_27 : decode cX4_valleyLineHere 27 = .ok (.iload_n 1, 1) := dk_27 (dk_at dksX4_valleyLineHere_1 5 rfl rfl)
theorem dX4_valleyLineHere_28 : decode cX4_valleyLineHere 28 = .ok (.invokevirtual 114, 3) := dk_182 0 114 (dk_at dksX4_valleyLineHere_1 6 rfl rfl)
theorem dX4_valleyLineHere_31 : decode cX4_valleyLineHere 31 = .ok (.ireturn, 1) := dk_172 (dk_at dksX4_valleyLineHere_1 9 rfl rfl)
theorem dX4_valleyLineHere_32 : decode cX4_valleyLineHere 32 = .ok (.aload_n 0, 1) := dk_42 (dk_at dksX4_valleyLineHere_1 10 rfl rfl)
theorem dX4_valleyLineHere_33 : decode cX4_valleyLineHere 33 = .ok (.ldc2_w 125, 3) := dk_20 0 125 (dk_at dksX4_valleyLineHere_1 11 rfl rfl)
theorem dX4_valleyLineHere_36 : decode cX4_valleyLineHere 36 = .ok (.invokevirtual 104, 3) := dk_182 0 104 (dk_at dksX4_valleyLineHere_1 14 rfl rfl)
theorem dX4_valleyLineHere_39 : decode cX4_valleyLineHere 39 = .ok (.ifCond .eq 9, 3) := dk_153 0 9 (dk_at dksX4_valleyLineHere_1 17 rfl rfl)
theorem dX4_valleyLineHere_42 : decode cX4_valleyLineHere 42 = .ok (.aload_n 0, 1) := dk_42 (dk_at dksX4_valleyLineHere_1 20 rfl rfl)
theorem dX4_valleyLineHere_43 : decode cX4_valleyLineHere 43 = .ok (.iload_n 1, 1) := dk_27 (dk_at dksX4_valleyLineHere_1 21 rfl rfl)
theorem dX4_valleyLineHere_44 : decode cX4_valleyLineHere 44 = .ok (.invokevirtual 234, 3) := dk_182 0 234 (dk_at dksX4_valleyLineHere_2 0 rfl rfl)
theorem dX4_valleyLineHere_47 : decode cX4_valleyLineHere 47 = .ok (.ireturn, 1) := dk_172 (dk_at dksX4_valleyLineHere_2 3 rfl rfl)
theorem dX4_valleyLineHere_48 : decode cX4_valleyLineHere 48 = .ok (.aload_n 0, 1) := dk_42 (dk_at dksX4_valleyLineHere_2 4 rfl rfl)
theorem dX4_valleyLineHere_49 : decode cX4_valleyLineHere 49 = .ok (.ldc2_w 237, 3) := dk_20 0 237 (dk_at dksX4_valleyLineHere_2 5 rfl rfl)
theorem dX4_valleyLineHere_52 : decode cX4_valleyLineHere 52 = .ok (.invokevirtual 104, 3) := dk_182 0 104 (dk_at dksX4_valleyLineHere_2 8 rfl rfl)
theorem dX4_valleyLineHere_55 : decode cX4_valleyLineHere 55 = .ok (.ifCond .eq 10, 3) := dk_153 0 10 (dk_at dksX4_valleyLineHere_2 11 rfl rfl)
theorem dX4_valleyLineHere_58 : decode cX4_valleyLineHere 58 = .ok (.aload_n 0, 1) := dk_42 (dk_at dksX4_valleyLineHere_2 14 rfl rfl)
theorem dX4_valleyLineHere_59 : decode cX4_valleyLineHere 59 = .ok (.invokevirtual 239, 3) := dk_182 0 239 (dk_at dksX4_valleyLineHere_2 15 rfl rfl)
theorem dX4_valleyLineHere_62 : decode cX4_valleyLineHere 62 = .ok (.goto 7, 3) := dk_167 0 7 (dk_at dksX4_valleyLineHere_2 18 rfl rfl)
theorem dX4_valleyLineHere_65 : decode cX4_valleyLineHere 65 = .ok (.aload_n 0, 1) := dk_42 (dk_at dksX4_valleyLineHere_2 21 rfl rfl)
theorem dX4_valleyLineHere_66 : decode cX4_valleyLineHere 66 = .ok (.invokevirtual 242, 3) := dk_182 0 242 (dk_at dksX4_valleyLineHere_3 0 rfl rfl)
theorem dX4_valleyLineHere_69 : decode cX4_valleyLineHere 69 = .ok (.ireturn, 1) := dk_172 (dk_at dksX4_valleyLineHere_3 3 rfl rfl)
abbrev cX4_isValleyHere : ByteArray := prog_19_method_32_code
def yX4_isValleyHere : MethodName := ⟨RX4, "isValleyHere", "(I)Z"⟩
def dkwX4_isValleyHere_2 : List UInt8 := [180, 0, 26, 3, 4, 79, 4, 172]
abbrev dktX4_isValleyHere_2 : List UInt8 := dkwX4_isValleyHere_2 ++ []
def dkwX4_isValleyHere_1 : List UInt8 := [16, 9, 182, 0, 219, 153, 0, 14, 42, 5, 4, 16, 9, 182, 0, 219, 154, 0, 5, 3, 172, 42]
abbrev dktX4_isValleyHere_1 : List UInt8 := dkwX4_isValleyHere_1 ++ dktX4_isValleyHere_2
def dkwX4_isValleyHere_0 : List UInt8 := [42, 180, 0, 26, 3, 46, 158, 0, 10, 42, 7, 27, 182, 0, 114, 172, 42, 182, 0, 108, 42, 4, 3]
abbrev dktX4_isValleyHere_0 : List UInt8 := dkwX4_isValleyHere_0 ++ dktX4_isValleyHere_1
theorem dksX4_isValleyHere_0 : cX4_isValleyHere.data.toList.drop 0 = dktX4_isValleyHere_0 := by decide +kernel
theorem dksX4_isValleyHere_1 : cX4_isValleyHere.data.toList.drop 23 = dktX4_isValleyHere_1 := dk_seg dksX4_isValleyHere_0 23 rfl rfl
theorem dksX4_isValleyHere_2 : cX4_isValleyHere.data.toList.drop 45 = dktX4_isValleyHere_2 := dk_seg dksX4_isValleyHere_1 22 rfl rfl
theorem dX4_isValleyHere_0 : decode cX4_isValleyHere 0 = .ok (.aload_n 0, 1) := dk_42 (dk_at dksX4_isValleyHere_0 0 rfl rfl)
theorem dX4_isValleyHere_1 : decode cX4_isValleyHere 1 = .ok (.getfield 26, 3) := dk_180 0 26 (dk_at dksX4_isValleyHere_0 1 rfl rfl)
theorem dX4_isValleyHere_4 : decode cX4_isValleyHere 4 = .ok (.iconst 0, 1) := dk_3 (dk_at dksX4_isValleyHere_0 4 rfl rfl)
theorem dX4_isValleyHere_5 : decode cX4_isValleyHere 5 = .ok (.iaload, 1) := dk_46 (dk_at dksX4_isValleyHere_0 5 rfl rfl)
theorem dX4_isValleyHere_6 : decode cX4_isValleyHere 6 = .ok (.ifCond .le 10, 3) := dk_158 0 10 (dk_at dksX4_isValleyHere_0 6 rfl rfl)
theorem dX4_isValleyHere_9 : decode cX4_isValleyHere 9 = .ok (.aload_n 0, 1) := dk_42 (dk_at dksX4_isValleyHere_0 9 rfl rfl)
theorem dX4_isValleyHere_10 : decode cX4_isValleyHere 10 = .ok (.iconst 4, 1) := dk_7 (dk_at dksX4_isValleyHere_0 10 rfl rfl)
theorem dX4_isValleyHere_11 : decode cX4_isValleyHere 11 = .ok (.iload_n 1, 1) := dk_27 (dk_at dksX4_isValleyHere_0 11 rfl rfl)
theorem dX4_isValleyHere_12 : decode cX4_isValleyHere 12 = .ok (.invokevirtual 114, 3) := dk_182 0 114 (dk_at dksX4_isValleyHere_0 12 rfl rfl)
theorem dX4_isValleyHere_15 : decode cX4_isValleyHere 15 = .ok (.ireturn, 1) := dk_172 (dk_at dksX4_isValleyHere_0 15 rfl rfl)
theorem dX4_isValleyHere_16 : decode cX4_isValleyHere 16 = .ok (.aload_n 0, 1) := dk_42 (dk_at dksX4_isValleyHere_0 16 rfl rfl)
theorem dX4_isValleyHere_17 : decode cX4_isValleyHere 17 = .ok (.invokevirtual 108, 3) := dk_182 0 108 (dk_at dksX4_isValleyHere_0 17 rfl rfl)
theorem dX4_isValleyHere_20 : decode cX4_isValleyHere 20 = .ok (.aload_n 0, 1) := dk_42 (dk_at dksX4_isValleyHere_0 20 rfl rfl)
theorem dX4_isValleyHere_21 : decode cX4_isValleyHere 21 = .ok (.iconst 1, 1) := dk_4 (dk_at dksX4_isValleyHere_0 21 rfl rfl)
theorem dX4_isValleyHere_22 : decode cX4_isValleyHere 22 = .ok (.iconst 0, 1) := dk_3 (dk_at dksX4_isValleyHere_0 22 rfl rfl)
theorem dX4_isValleyHere_23 : decode cX4_isValleyHere 23 = .ok (.bipush 9, 2) := dk_16 9 (dk_at dksX4_isValleyHere_1 0 rfl rfl)
theorem dX4_isValleyHere_25 : decode cX4_isValleyHere 25 = .ok (.invokevirtual 219, 3) := dk_182 0 219 (dk_at dksX4_isValleyHere_1 2 rfl rfl)
theorem dX4_isValleyHere_28 : decode cX4_isValleyHere 28 = .ok (.ifCond .eq 14, 3) := dk_153 0 14 (dk_at dksX4_isValleyHere_1 5 rfl rfl)
theorem dX4_isValleyHere_31 : decode cX4_isValleyHere 31 = .ok (.aload_n 0, 1) := dk_42 (dk_at dksX4_isValleyHere_1 8 rfl rfl)
theorem dX4_isValleyHere_32 : decode cX4_isValleyHere 32 = .ok (.iconst 2, 1) := dk_5 (dk_at dksX4_isValleyHere_1 9 rfl rfl)
theorem dX4_isValleyHere_33 : decode cX4_isValleyHere 33 = .ok (.iconst 1, 1) := dk_4 (dk_at dksX4_isValleyHere_1 10 rfl rfl)
theorem dX4_isValleyHere_34 : decode cX4_isValleyHere 34 = .ok (.bipush 9, 2) := dk_16 9 (dk_at dksX4_isValleyHere_1 11 rfl rfl)
theorem dX4_isValleyHere_36 : decode cX4_isValleyHere 36 = .ok (.invokevirtual 219, 3) := dk_182 0 219 (dk_at dksX4_isValleyHere_1 13 rfl rfl)
theorem dX4_isValleyHere_39 : decode cX4_isValleyHere 39 = .ok (.ifCond .ne 5, 3) := dk_154 0 5 (dk_at dksX4_isValleyHere_1 16 rfl rfl)
theorem dX4_isValleyHere_42 : decode cX4_isValleyHere 42 = .ok (.iconst 0, 1) := dk_3 (dk_at dksX4_isValleyHere_1 19 rfl rfl)
theorem dX4_isValleyHere_43 : decode cX4_isValleyHere 43 = .ok (.ireturn, 1) := dk_172 (dk_at dksX4_isValleyHere_1 20 rfl rfl)
theorem dX4_isValleyHere_44 : decode cX4_isValleyHere 44 = .ok (.aload_n 0, 1) := dk_42 (dk_at dksX4_isValleyHere_1 21 rfl rfl)
theorem dX4_isValleyHere_45 : decode cX4_isValleyHere 45 = .ok (.getfield 26, 3) := dk_180 0 26 (dk_at dksX4_isValleyHere_2 0 rfl rfl)
theorem dX4_isValleyHere_48 : decode cX4_isValleyHere 48 = .ok (.iconst 0, 1) := dk_3 (dk_at dksX4_isValleyHere_2 3 rfl rfl)
theorem dX4_isValleyHere_49 : decode cX4_isValleyHere 49 = .ok (.iconst 1, 1) := dk_4 (dk_at dksX4_isValleyHere_2 4 rfl rfl)
theorem dX4_isValleyHere_50 : decode cX4_isValleyHere 50 = .ok (.iastore, 1) := dk_79 (dk_at dksX4_isValleyHere_2 5 rfl rfl)
theorem dX4_isValleyHere_51 : decode cX4_isValleyHere 51 = .ok (.iconst 1, 1) := dk_4 (dk_at dksX4_isValleyHere_2 6 rfl rfl)
theorem dX4_isValleyHere_52 : decode cX4_isValleyHere 52 = .ok (.ireturn, 1) := dk_172 (dk_at dksX4_isValleyHere_2 7 rfl rfl)
abbrev cX4_passWord : ByteArray := prog_19_method_13_code
def yX4_passWord : MethodName := ⟨RX4, "passWord", "()V"⟩
def dkwX4_passWord_1 : List UInt8 := [177]
abbrev dktX4_passWord_1 : List UInt8 := dkwX4_passWord_1 ++ []
def dkwX4_passWord_0 : List UInt8 := [42, 42, 180, 0, 93, 182, 0, 100, 153, 0, 16, 42, 89, 180, 0, 93, 4, 96, 181, 0, 93, 167, 255, 235]
abbrev dktX4_passWord_0 : List UInt8 := dkwX4_passWord_0 ++ dktX4_passWord_1
theorem dksX4_passWord_0 : cX4_passWord.data.toList.drop 0 = dktX4_passWord_0 := by decide +kernel
theorem dksX4_passWord_1 : cX4_passWord.data.toList.drop 24 = dktX4_passWord_1 := dk_seg dksX4_passWord_0 24 rfl rfl
theorem dX4_passWord_0 : decode cX4_passWord 0 = .ok (.aload_n 0, 1) := dk_42 (dk_at dksX4_passWord_0 0 rfl rfl)
theorem dX4_passWord_1 : decode cX4_passWord 1 = .ok (.aload_n 0, 1) := dk_42 (dk_at dksX4_passWord_0 1 rfl rfl)
theorem dX4_passWord_2 : decode cX4_passWord 2 = .ok (.getfield 93, 3) := dk_180 0 93 (dk_at dksX4_passWord_0 2 rfl rfl)
theorem dX4_passWord_5 : decode cX4_passWord 5 = .ok (.invokevirtual 100, 3) := dk_182 0 100 (dk_at dksX4_passWord_0 5 rfl rfl)
theorem dX4_passWord_8 : decode cX4_passWord 8 = .ok (.ifCond .eq 16, 3) := dk_153 0 16 (dk_at dksX4_passWord_0 8 rfl rfl)
theorem dX4_passWord_11 : decode cX4_passWord 11 = .ok (.aload_n 0, 1) := dk_42 (dk_at dksX4_passWord_0 11 rfl rfl)
theorem dX4_passWord_12 : decode cX4_passWord 12 = .ok (.dup, 1) := dk_89 (dk_at dksX4_passWord_0 12 rfl rfl)
theorem dX4_passWord_13 : decode cX4_passWord 13 = .ok (.getfield 93, 3) := dk_180 0 93 (dk_at dksX4_passWord_0 13 rfl rfl)
theorem dX4_passWord_16 : decode cX4_passWord 16 = .ok (.iconst 1, 1) := dk_4 (dk_at dksX4_passWord_0 16 rfl rfl)
theorem dX4_passWord_17 : decode cX4_passWord 17 = .ok (.iadd, 1) := dk_96 (dk_at dksX4_passWord_0 17 rfl rfl)
theorem dX4_passWord_18 : decode cX4_passWord 18 = .ok (.putfield 93, 3) := dk_181 0 93 (dk_at dksX4_passWord_0 18 rfl rfl)
theorem dX4_passWord_21 : decode cX4_passWord 21 = .ok (.goto (-21), 3) := dk_167 255 235 (dk_at dksX4_passWord_0 21 rfl rfl)
theorem dX4_passWord_24 : decode cX4_passWord 24 = .ok (.return_, 1) := dk_177 (dk_at dksX4_passWord_1 0 rfl rfl)
abbrev cX4_cellHere : ByteArray := prog_19_method_31_code
def yX4_cellHere : MethodName := ⟨RX4, "cellHere", "(III)Z"⟩
def dkwX4_cellHere_0 : List UInt8 := [42, 28, 29, 182, 0, 168, 154, 0, 5, 3, 172, 42, 180, 0, 26, 27, 42, 180, 0, 118, 79, 4, 172]
abbrev dktX4_cellHere_0 : List UInt8 := dkwX4_cellHere_0 ++ []
theorem dksX4_cellHere_0 : cX4_cellHere.data.toList.drop 0 = dktX4_cellHere_0 := by decide +kernel
theorem dX4_cellHere_0 : decode cX4_cellHere 0 = .ok (.aload_n 0, 1) := dk_42 (dk_at dksX4_cellHere_0 0 rfl rfl)
theorem dX4_cellHere_1 : decode cX4_cellHere 1 = .ok (.iload_n 2, 1) := dk_28 (dk_at dksX4_cellHere_0 1 rfl rfl)
theorem dX4_cellHere_2 : decode cX4_cellHere 2 = .ok (.iload_n 3, 1) := dk_29 (dk_at dksX4_cellHere_0 2 rfl rfl)
theorem dX4_cellHere_3 : decode cX4_cellHere 3 = .ok (.invokevirtual 168, 3) := dk_182 0 168 (dk_at dksX4_cellHere_0 3 rfl rfl)
theorem dX4_cellHere_6 : decode cX4_cellHere 6 = .ok (.ifCond .ne 5, 3) := dk_154 0 5 (dk_at dksX4_cellHere_0 6 rfl rfl)
theorem dX4_cellHere_9 : decode cX4_cellHere 9 = .ok (.iconst 0, 1) := dk_3 (dk_at dksX4_cellHere_0 9 rfl rfl)
theorem dX4_cellHere_10 : decode cX4_cellHere 10 = .ok (.ireturn, 1) := dk_172 (dk_at dksX4_cellHere_0 10 rfl rfl)
theorem dX4_cellHere_11 : decode cX4_cellHere 11 = .ok (.aload_n 0, 1) := dk_42 (dk_at dksX4_cellHere_0 11 rfl rfl)
theorem dX4_cellHere_12 : decode cX4_cellHere 12 = .ok (.getfield 26, 3) := dk_180 0 26 (dk_at dksX4_cellHere_0 12 rfl rfl)
theorem dX4_cellHere_15 : decode cX4_cellHere 15 = .ok (.iload_n 1, 1) := dk_27 (dk_at dksX4_cellHere_0 15 rfl rfl)
theorem dX4_cellHere_16 : decode cX4_cellHere 16 = .ok (.aload_n 0, 1) := dk_42 (dk_at dksX4_cellHere_0 16 rfl rfl)
theorem dX4_cellHere_17 : decode cX4_cellHere 17 = .ok (.getfield 118, 3) := dk_180 0 118 (dk_at dksX4_cellHere_0 17 rfl rfl)
theorem dX4_cellHere_20 : decode cX4_cellHere 20 = .ok (.iastore, 1) := dk_79 (dk_at dksX4_cellHere_0 20 rfl rfl)
theorem dX4_cellHere_21 : decode cX4_cellHere 21 = .ok (.iconst 1, 1) := dk_4 (dk_at dksX4_cellHere_0 21 rfl rfl)
theorem dX4_cellHere_22 : decode cX4_cellHere 22 = .ok (.ireturn, 1) := dk_172 (dk_at dksX4_cellHere_0 22 rfl rfl)
abbrev cX4_numberHere : ByteArray := prog_19_method_15_code
def yX4_numberHere : MethodName := ⟨RX4, "numberHere", "(II)Z"⟩
def dkwX4_numberHere_5 : List UInt8 := [4, 29, 182, 0, 114, 153, 0, 7, 4, 167, 0, 4, 3, 172]
abbrev dktX4_numberHere_5 : List UInt8 := dkwX4_numberHere_5 ++ []
def dkwX4_numberHere_4 : List UInt8 := [42, 180, 0, 93, 29, 100, 8, 163, 0, 16, 21, 4, 133, 27, 133, 28, 133, 184, 0, 121, 154, 0, 12, 42]
abbrev dktX4_numberHere_4 : List UInt8 := dkwX4_numberHere_4 ++ dktX4_numberHere_5
def dkwX4_numberHere_3 : List UInt8 := [16, 48, 100, 54, 4, 42, 89, 180, 0, 93, 4, 96, 181, 0, 93, 167, 255, 205, 42, 21, 4, 181, 0, 118]
abbrev dktX4_numberHere_3 : List UInt8 := dkwX4_numberHere_3 ++ dktX4_numberHere_4
def dkwX4_numberHere_2 : List UInt8 := [180, 0, 93, 29, 100, 8, 162, 0, 23, 16, 10, 21, 4, 104, 42, 180, 0, 7, 42, 180, 0, 93, 51, 96]
abbrev dktX4_numberHere_2 : List UInt8 := dkwX4_numberHere_2 ++ dktX4_numberHere_3
def dkwX4_numberHere_1 : List UInt8 := [182, 0, 114, 172, 42, 180, 0, 93, 62, 3, 54, 4, 42, 42, 180, 0, 93, 182, 0, 111, 153, 0, 46, 42]
abbrev dktX4_numberHere_1 : List UInt8 := dkwX4_numberHere_1 ++ dktX4_numberHere_2
def dkwX4_numberHere_0 : List UInt8 := [42, 182, 0, 96, 87, 42, 42, 180, 0, 93, 182, 0, 111, 154, 0, 13, 42, 3, 42, 180, 0, 93]
abbrev dktX4_numberHere_0 : List UInt8 := dkwX4_numberHere_0 ++ dktX4_numberHere_1
theorem dksX4_numberHere_0 : cX4_numberHere.data.toList.drop 0 = dktX4_numberHere_0 := by decide +kernel
theorem dksX4_numberHere_1 : cX4_numberHere.data.toList.drop 22 = dktX4_numberHere_1 := dk_seg dksX4_numberHere_0 22 rfl rfl
theorem dksX4_numberHere_2 : cX4_numberHere.data.toList.drop 46 = dktX4_numberHere_2 := dk_seg dksX4_numberHere_1 24 rfl rfl
theorem dksX4_numberHere_3 : cX4_numberHere.data.toList.drop 70 = dktX4_numberHere_3 := dk_seg dksX4_numberHere_2 24 rfl rfl
theorem dksX4_numberHere_4 : cX4_numberHere.data.toList.drop 94 = dktX4_numberHere_4 := dk_seg dksX4_numberHere_3 24 rfl rfl
theorem dksX4_numberHere_5 : cX4_numberHere.data.toList.drop 118 = dktX4_numberHere_5 := dk_seg dksX4_numberHere_4 24 rfl rfl
theorem dX4_numberHere_0 : decode cX4_numberHere 0 = .ok (.aload_n 0, 1) := dk_42 (dk_at dksX4_numberHere_0 0 rfl rfl)
theorem dX4_numberHere_1 : decode cX4_numberHere 1 = .ok (.invokevirtual 96, 3) := dk_182 0 96 (dk_at dksX4_numberHere_0 1 rfl rfl)
theorem dX4_numberHere_4 : decode cX4_numberHere 4 = .ok (.pop, 1) := dk_87 (dk_at dksX4_numberHere_0 4 rfl rfl)
theorem dX4_numberHere_5 : decode cX4_numberHere 5 = .ok (.aload_n 0, 1) := dk_42 (dk_at dksX4_numberHere_0 5 rfl rfl)
theorem dX4_numberHere_6 : decode cX4_numberHere 6 = .ok (.aload_n 0, 1) := dk_42 (dk_at dksX4_numberHere_0 6 rfl rfl)
theorem dX4_numberHere_7 : decode cX4_numberHere 7 = .ok (.getfield 93, 3) := dk_180 0 93 (dk_at dksX4_numberHere_0 7 rfl rfl)
theorem dX4_numberHere_10 : decode cX4_numberHere 10 = .ok (.invokevirtual 111, 3) := dk_182 0 111 (dk_at dksX4_numberHere_0 10 rfl rfl)
theorem dX4_numberHere_13 : decode cX4_numberHere 13 = .ok (.ifCond .ne 13, 3) := dk_154 0 13 (dk_at dksX4_numberHere_0 13 rfl rfl)
theorem dX4_numberHere_16 : decode cX4_numberHere 16 = .ok (.aload_n 0, 1) := dk_42 (dk_at dksX4_numberHere_0 16 rfl rfl)
theorem dX4_numberHere_17 : decode cX4_numberHere 17 = .ok (.iconst 0, 1) := dk_3 (dk_at dksX4_numberHere_0 17 rfl rfl)
theorem dX4_numberHere_18 : decode cX4_numberHere 18 = .ok (.aload_n 0, 1) := dk_42 (dk_at dksX4_numberHere_0 18 rfl rfl)
theorem dX4_numberHere_19 : decode cX4_numberHere 19 = .ok (.getfield 93, 3) := dk_180 0 93 (dk_at dksX4_numberHere_0 19 rfl rfl)
theorem dX4_numberHere_22 : decode cX4_numberHere 22 = .ok (.invokevirtual 114, 3) := dk_182 0 114 (dk_at dksX4_numberHere_1 0 rfl rfl)
theorem dX4_numberHere_25 : decode cX4_numberHere 25 = .ok (.ireturn, 1) := dk_172 (dk_at dksX4_numberHere_1 3 rfl rfl)
theorem dX4_numberHere_26 : decode cX4_numberHere 26 = .ok (.aload_n 0, 1) := dk_42 (dk_at dksX4_numberHere_1 4 rfl rfl)
theorem dX4_numberHere_27 : decode cX4_numberHere 27 = .ok (.getfield 93, 3) := dk_180 0 93 (dk_at dksX4_numberHere_1 5 rfl rfl)
theorem dX4_numberHere_30 : decode cX4_numberHere 30 = .ok (.istore_n 3, 1) := dk_62 (dk_at dksX4_numberHere_1 8 rfl rfl)
theorem dX4_numberHere_31 : decode cX4_numberHere 31 = .ok (.iconst 0, 1) := dk_3 (dk_at dksX4_numberHere_1 9 rfl rfl)
theorem dX4_numberHere_32 : decode cX4_numberHere 32 = .ok (.istore 4, 2) := dk_54 4 (dk_at dksX4_numberHere_1 10 rfl rfl)
theorem dX4_numberHere_34 : decode cX4_numberHere 34 = .ok (.aload_n 0, 1) := dk_42 (dk_at dksX4_numberHere_1 12 rfl rfl)
theorem dX4_numberHere_35 : decode cX4_numberHere 35 = .ok (.aload_n 0, 1) := dk_42 (dk_at dksX4_numberHere_1 13 rfl rfl)
theorem dX4_numberHere_36 : decode cX4_numberHere 36 = .ok (.getfield 93, 3) := dk_180 0 93 (dk_at dksX4_numberHere_1 14 rfl rfl)
theorem dX4_numberHere_39 : decode cX4_numberHere 39 = .ok (.invokevirtual 111, 3) := dk_182 0 111 (dk_at dksX4_numberHere_1 17 rfl rfl)
theorem dX4_numberHere_42 : decode cX4_numberHere 42 = .ok (.ifCond .eq 46, 3) := dk_153 0 46 (dk_at dksX4_numberHere_1 20 rfl rfl)
theorem dX4_numberHere_45 : decode cX4_numberHere 45 = .ok (.aload_n 0, 1) := dk_42 (dk_at dksX4_numberHere_1 23 rfl rfl)
theorem dX4_numberHere_46 : decode cX4_numberHere 46 = .ok (.getfield 93, 3) := dk_180 0 93 (dk_at dksX4_numberHere_2 0 rfl rfl)
theorem dX4_numberHere_49 : decode cX4_numberHere 49 = .ok (.iload_n 3, 1) := dk_29 (dk_at dksX4_numberHere_2 3 rfl rfl)
theorem dX4_numberHere_50 : decode cX4_numberHere 50 = .ok (.isub, 1) := dk_100 (dk_at dksX4_numberHere_2 4 rfl rfl)
theorem dX4_numberHere_51 : decode cX4_numberHere 51 = .ok (.iconst 5, 1) := dk_8 (dk_at dksX4_numberHere_2 5 rfl rfl)
theorem dX4_numberHere_52 : decode cX4_numberHere 52 = .ok (.if_icmp .ge 23, 3) := dk_162 0 23 (dk_at dksX4_numberHere_2 6 rfl rfl)
theorem dX4_numberHere_55 : decode cX4_numberHere 55 = .ok (.bipush 10, 2) := dk_16 10 (dk_at dksX4_numberHere_2 9 rfl rfl)
theorem dX4_numberHere_57 : decode cX4_numberHere 57 = .ok (.iload 4, 2) := dk_21 4 (dk_at dksX4_numberHere_2 11 rfl rfl)
theorem dX4_numberHere_59 : decode cX4_numberHere 59 = .ok (.imul, 1) := dk_104 (dk_at dksX4_numberHere_2 13 rfl rfl)
theorem dX4_numberHere_60 : decode cX4_numberHere 60 = .ok (.aload_n 0, 1) := dk_42 (dk_at dksX4_numberHere_2 14 rfl rfl)
theorem dX4_numberHere_61 : decode cX4_numberHere 61 = .ok (.getfield 7, 3) := dk_180 0 7 (dk_at dksX4_numberHere_2 15 rfl rfl)
theorem dX4_numberHere_64 : decode cX4_numberHere 64 = .ok (.aload_n 0, 1) := dk_42 (dk_at dksX4_numberHere_2 18 rfl rfl)
theorem dX4_numberHere_65 : decode cX4_numberHere 65 = .ok (.getfield 93, 3) := dk_180 0 93 (dk_at dksX4_numberHere_2 19 rfl rfl)
theorem dX4_numberHere_68 : decode cX4_numberHere 68 = .ok (.baload, 1) := dk_51 (dk_at dksX4_numberHere_2 22 rfl rfl)
theorem dX4_numberHere_69 : decode cX4_numberHere 69 = .ok (.iadd, 1) := dk_96 (dk_at dksX4_numberHere_2 23 rfl rfl)
theorem dX4_numberHere_70 : decode cX4_numberHere 70 = .ok (.bipush 48, 2) := dk_16 48 (dk_at dksX4_numberHere_3 0 rfl rfl)
theorem dX4_numberHere_72 : decode cX4_numberHere 72 = .ok (.isub, 1) := dk_100 (dk_at dksX4_numberHere_3 2 rfl rfl)
theorem dX4_numberHere_73 : decode cX4_numberHere 73 = .ok (.istore 4, 2) := dk_54 4 (dk_at dksX4_numberHere_3 3 rfl rfl)
theorem dX4_numberHere_75 : decode cX4_numberHere 75 = .ok (.aload_n 0, 1) := dk_42 (dk_at dksX4_numberHere_3 5 rfl rfl)
theorem dX4_numberHere_76 : decode cX4_numberHere 76 = .ok (.dup, 1) := dk_89 (dk_at dksX4_numberHere_3 6 rfl rfl)
theorem dX4_numberHere_77 : decode cX4_numberHere 77 = .ok (.getfield 93, 3) := dk_180 0 93 (dk_at dksX4_numberHere_3 7 rfl rfl)
theorem dX4_numberHere_80 : decode cX4_numberHere 80 = .ok (.iconst 1, 1) := dk_4 (dk_at dksX4_numberHere_3 10 rfl rfl)
theorem dX4_numberHere_81 : decode cX4_numberHere 81 = .ok (.iadd, 1) := dk_96 (dk_at dksX4_numberHere_3 11 rfl rfl)
theorem dX4_numberHere_82 : decode cX4_numberHere 82 = .ok (.putfield 93, 3) := dk_181 0 93 (dk_at dksX4_numberHere_3 12 rfl rfl)
theorem dX4_numberHere_85 : decode cX4_numberHere 85 = .ok (.goto (-51), 3) := dk_167 255 205 (dk_at dksX4_numberHere_3 15 rfl rfl)
theorem dX4_numberHere_88 : decode cX4_numberHere 88 = .ok (.aload_n 0, 1) := dk_42 (dk_at dksX4_numberHere_3 18 rfl rfl)
theorem dX4_numberHere_89 : decode cX4_numberHere 89 = .ok (.iload 4, 2) := dk_21 4 (dk_at dksX4_numberHere_3 19 rfl rfl)
theorem dX4_numberHere_91 : decode cX4_numberHere 91 = .ok (.putfield 118, 3) := dk_181 0 118 (dk_at dksX4_numberHere_3 21 rfl rfl)
theorem dX4_numberHere_94 : decode cX4_numberHere 94 = .ok (.aload_n 0, 1) := dk_42 (dk_at dksX4_numberHere_4 0 rfl rfl)
theorem dX4_numberHere_95 : decode cX4_numberHere 95 = .ok (.getfield 93, 3) := dk_180 0 93 (dk_at dksX4_numberHere_4 1 rfl rfl)
theorem dX4_numberHere_98 : decode cX4_numberHere 98 = .ok (.iload_n 3, 1) := dk_29 (dk_at dksX4_numberHere_4 4 rfl rfl)
theorem dX4_numberHere_99 : decode cX4_numberHere 99 = .ok (.isub, 1) := dk_100 (dk_at dksX4_numberHere_4 5 rfl rfl)
theorem dX4_numberHere_100 : decode cX4_numberHere 100 = .ok (.iconst 5, 1) := dk_8 (dk_at dksX4_numberHere_4 6 rfl rfl)
theorem dX4_numberHere_101 : decode cX4_numberHere 101 = .ok (.if_icmp .gt 16, 3) := dk_163 0 16 (dk_at dksX4_numberHere_4 7 rfl rfl)
theorem dX4_numberHere_104 : decode cX4_numberHere 104 = .ok (.iload 4, 2) := dk_21 4 (dk_at dksX4_numberHere_4 10 rfl rfl)
theorem dX4_numberHere_106 : decode cX4_numberHere 106 = .ok (.i2l, 1) := dk_133 (dk_at dksX4_numberHere_4 12 rfl rfl)
theorem dX4_numberHere_107 : decode cX4_numberHere 107 = .ok (.iload_n 1, 1) := dk_27 (dk_at dksX4_numberHere_4 13 rfl rfl)
theorem dX4_numberHere_108 : decode cX4_numberHere 108 = .ok (.i2l, 1) := dk_133 (dk_at dksX4_numberHere_4 14 rfl rfl)
theorem dX4_numberHere_109 : decode cX4_numberHere 109 = .ok (.iload_n 2, 1) := dk_28 (dk_at dksX4_numberHere_4 15 rfl rfl)
theorem dX4_numberHere_110 : decode cX4_numberHere 110 = .ok (.i2l, 1) := dk_133 (dk_at dksX4_numberHere_4 16 rfl rfl)
theorem dX4_numberHere_111 : decode cX4_numberHere 111 = .ok (.invokestatic 121, 3) := dk_184 0 121 (dk_at dksX4_numberHere_4 17 rfl rfl)
theorem dX4_numberHere_114 : decode cX4_numberHere 114 = .ok (.ifCond .ne 12, 3) := dk_154 0 12 (dk_at dksX4_numberHere_4 20 rfl rfl)
theorem dX4_numberHere_117 : decode cX4_numberHere 117 = .ok (.aload_n 0, 1) := dk_42 (dk_at dksX4_numberHere_4 23 rfl rfl)
theorem dX4_numberHere_118 : decode cX4_numberHere 118 = .ok (.iconst 1, 1) := dk_4 (dk_at dksX4_numberHere_5 0 rfl rfl)
theorem dX4_numberHere_119 : decode cX4_numberHere 119 = .ok (.iload_n 3, 1) := dk_29 (dk_at dksX4_numberHere_5 1 rfl rfl)
theorem dX4_numberHere_120 : decode cX4_numberHere 120 = .ok (.invokevirtual 114, 3) := dk_182 0 114 (dk_at dksX4_numberHere_5 2 rfl rfl)
theorem dX4_numberHere_123 : decode cX4_numberHere 123 = .ok (.ifCond .eq 7, 3) := dk_153 0 7 (dk_at dksX4_numberHere_5 5 rfl rfl)
theorem dX4_numberHere_126 : decode cX4_numberHere 126 = .ok (.iconst 1, 1) := dk_4 (dk_at dksX4_numberHere_5 8 rfl rfl)
theorem dX4_numberHere_127 : decode cX4_numberHere 127 = .ok (.goto 4, 3) := dk_167 0 4 (dk_at dksX4_numberHere_5 9 rfl rfl)
theorem dX4_numberHere_130 : decode cX4_numberHere 130 = .ok (.iconst 0, 1) := dk_3 (dk_at dksX4_numberHere_5 12 rfl rfl)
theorem dX4_numberHere_131 : decode cX4_numberHere 131 = .ok (.ireturn, 1) := dk_172 (dk_at dksX4_numberHere_5 13 rfl rfl)
abbrev cX4_isDigit : ByteArray := prog_19_method_10_code
def yX4_isDigit : MethodName := ⟨RX4, "isDigit", "(I)Z"⟩
def dkwX4_isDigit_1 : List UInt8 := [51, 16, 57, 163, 0, 7, 4, 167, 0, 4, 3, 172]
abbrev dktX4_isDigit_1 : List UInt8 := dkwX4_isDigit_1 ++ []
def dkwX4_isDigit_0 : List UInt8 := [27, 42, 180, 0, 83, 162, 0, 29, 42, 180, 0, 7, 27, 51, 16, 48, 161, 0, 18, 42, 180, 0, 7, 27]
abbrev dktX4_isDigit_0 : List UInt8 := dkwX4_isDigit_0 ++ dktX4_isDigit_1
theorem dksX4_isDigit_0 : cX4_isDigit.data.toList.drop 0 = dktX4_isDigit_0 := by decide +kernel
theorem dksX4_isDigit_1 : cX4_isDigit.data.toList.drop 24 = dktX4_isDigit_1 := dk_seg dksX4_isDigit_0 24 rfl rfl
theorem dX4_isDigit_0 : decode cX4_isDigit 0 = .ok (.iload_n 1, 1) := dk_27 (dk_at dksX4_isDigit_0 0 rfl rfl)
theorem dX4_isDigit_1 : decode cX4_isDigit 1 = .ok (.aload_n 0, 1) := dk_42 (dk_at dksX4_isDigit_0 1 rfl rfl)
theorem dX4_isDigit_2 : decode cX4_isDigit 2 = .ok (.getfield 83, 3) := dk_180 0 83 (dk_at dksX4_isDigit_0 2 rfl rfl)
theorem dX4_isDigit_5 : decode cX4_isDigit 5 = .ok (.if_icmp .ge 29, 3) := dk_162 0 29 (dk_at dksX4_isDigit_0 5 rfl rfl)
theorem dX4_isDigit_8 : decode cX4_isDigit 8 = .ok (.aload_n 0, 1) := dk_42 (dk_at dksX4_isDigit_0 8 rfl rfl)
theorem dX4_isDigit_9 : decode cX4_isDigit 9 = .ok (.getfield 7, 3) := dk_180 0 7 (dk_at dksX4_isDigit_0 9 rfl rfl)
theorem dX4_isDigit_12 : decode cX4_isDigit 12 = .ok (.iload_n 1, 1) := dk_27 (dk_at dksX4_isDigit_0 12 rfl rfl)
theorem dX4_isDigit_13 : decode cX4_isDigit 13 = .ok (.baload, 1) := dk_51 (dk_at dksX4_isDigit_0 13 rfl rfl)
theorem dX4_isDigit_14 : decode cX4_isDigit 14 = .ok (.bipush 48, 2) := dk_16 48 (dk_at dksX4_isDigit_0 14 rfl rfl)
theorem dX4_isDigit_16 : decode cX4_isDigit 16 = .ok (.if_icmp .lt 18, 3) := dk_161 0 18 (dk_at dksX4_isDigit_0 16 rfl rfl)
theorem dX4_isDigit_19 : decode cX4_isDigit 19 = .ok (.aload_n 0, 1) := dk_42 (dk_at dksX4_isDigit_0 19 rfl rfl)
theorem dX4_isDigit_20 : decode cX4_isDigit 20 = .ok (.getfield 7, 3) := dk_180 0 7 (dk_at dksX4_isDigit_0 20 rfl rfl)
theorem dX4_isDigit_23 : decode cX4_isDigit 23 = .ok (.iload_n 1, 1) := dk_27 (dk_at dksX4_isDigit_0 23 rfl rfl)
theorem dX4_isDigit_24 : decode cX4_isDigit 24 = .ok (.baload, 1) := dk_51 (dk_at dksX4_isDigit_1 0 rfl rfl)
theorem dX4_isDigit_25 : decode cX4_isDigit 25 = .ok (.bipush 57, 2) := dk_16 57 (dk_at dksX4_isDigit_1 1 rfl rfl)
theorem dX4_isDigit_27 : decode cX4_isDigit 27 = .ok (.if_icmp .gt 7, 3) := dk_163 0 7 (dk_at dksX4_isDigit_1 3 rfl rfl)
theorem dX4_isDigit_30 : decode cX4_isDigit 30 = .ok (.iconst 1, 1) := dk_4 (dk_at dksX4_isDigit_1 6 rfl rfl)
theorem dX4_isDigit_31 : decode cX4_isDigit 31 = .ok (.goto 4, 3) := dk_167 0 4 (dk_at dksX4_isDigit_1 7 rfl rfl)
theorem dX4_isDigit_34 : decode cX4_isDigit 34 = .ok (.iconst 0, 1) := dk_3 (dk_at dksX4_isDigit_1 10 rfl rfl)
theorem dX4_isDigit_35 : decode cX4_isDigit 35 = .ok (.ireturn, 1) := dk_172 (dk_at dksX4_isDigit_1 11 rfl rfl)
abbrev cX4_in : ByteArray := prog_19_method_2_code
def yX4_in : MethodName := ⟨RX4, "in", "(JJJ)Z"⟩
def dkwX4_in_0 : List UInt8 := [30, 32, 148, 155, 0, 14, 30, 22, 4, 148, 157, 0, 7, 4, 167, 0, 4, 3, 172]
abbrev dktX4_in_0 : List UInt8 := dkwX4_in_0 ++ []
theorem dksX4_in_0 : cX4_in.data.toList.drop 0 = dktX4_in_0 := by decide +kernel
theorem dX4_in_0 : decode cX4_in 0 = .ok (.lload_n 0, 1) := dk_30 (dk_at dksX4_in_0 0 rfl rfl)
theorem dX4_in_1 : decode cX4_in 1 = .ok (.lload_n 2, 1) := dk_32 (dk_at dksX4_in_0 1 rfl rfl)
theorem dX4_in_2 : decode cX4_in 2 = .ok (.lcmp, 1) := dk_148 (dk_at dksX4_in_0 2 rfl rfl)
theorem dX4_in_3 : decode cX4_in 3 = .ok (.ifCond .lt 14, 3) := dk_155 0 14 (dk_at dksX4_in_0 3 rfl rfl)
theorem dX4_in_6 : decode cX4_in 6 = .ok (.lload_n 0, 1) := dk_30 (dk_at dksX4_in_0 6 rfl rfl)
theorem dX4_in_7 : decode cX4_in 7 = .ok (.lload 4, 2) := dk_22 4 (dk_at dksX4_in_0 7 rfl rfl)
theorem dX4_in_9 : decode cX4_in 9 = .ok (.lcmp, 1) := dk_148 (dk_at dksX4_in_0 9 rfl rfl)
theorem dX4_in_10 : decode cX4_in 10 = .ok (.ifCond .gt 7, 3) := dk_157 0 7 (dk_at dksX4_in_0 10 rfl rfl)
theorem dX4_in_13 : decode cX4_in 13 = .ok (.iconst 1, 1) := dk_4 (dk_at dksX4_in_0 13 rfl rfl)
theorem dX4_in_14 : decode cX4_in 14 = .ok (.goto 4, 3) := dk_167 0 4 (dk_at dksX4_in_0 14 rfl rfl)
theorem dX4_in_17 : decode cX4_in 17 = .ok (.iconst 0, 1) := dk_3 (dk_at dksX4_in_0 17 rfl rfl)
theorem dX4_in_18 : decode cX4_in 18 = .ok (.ireturn, 1) := dk_172 (dk_at dksX4_in_0 18 rfl rfl)
abbrev cX4_isHouseHere : ByteArray := prog_19_method_33_code
def yX4_isHouseHere : MethodName := ⟨RX4, "isHouseHere", "(I)Z"⟩
def dkwX4_isHouseHere_4 : List UInt8 := [92, 46, 4, 96, 79, 4, 172]
abbrev dktX4_isHouseHere_4 : List UInt8 := dkwX4_isHouseHere_4 ++ []
def dkwX4_isHouseHere_3 : List UInt8 := [172, 42, 180, 0, 26, 28, 46, 154, 0, 12, 42, 180, 0, 26, 28, 4, 96, 3, 79, 42, 180, 0, 26, 6]
abbrev dktX4_isHouseHere_3 : List UInt8 := dkwX4_isHouseHere_3 ++ dktX4_isHouseHere_4
def dkwX4_isHouseHere_2 : List UInt8 := [96, 3, 16, 9, 182, 0, 219, 153, 0, 16, 42, 28, 5, 96, 3, 16, 20, 182, 0, 219, 154, 0, 5, 3]
abbrev dktX4_isHouseHere_2 : List UInt8 := dkwX4_isHouseHere_2 ++ dktX4_isHouseHere_3
def dkwX4_isHouseHere_1 : List UInt8 := [6, 42, 180, 0, 26, 6, 46, 104, 96, 61, 42, 28, 3, 16, 99, 182, 0, 219, 153, 0, 29, 42, 28, 4]
abbrev dktX4_isHouseHere_1 : List UInt8 := dkwX4_isHouseHere_1 ++ dktX4_isHouseHere_2
def dkwX4_isHouseHere_0 : List UInt8 := [42, 180, 0, 26, 6, 46, 16, 6, 160, 0, 10, 42, 7, 27, 182, 0, 114, 172, 42, 182, 0, 108, 16, 93]
abbrev dktX4_isHouseHere_0 : List UInt8 := dkwX4_isHouseHere_0 ++ dktX4_isHouseHere_1
theorem dksX4_isHouseHere_0 : cX4_isHouseHere.data.toList.drop 0 = dktX4_isHouseHere_0 := by decide +kernel
theorem dksX4_isHouseHere_1 : cX4_isHouseHere.data.toList.drop 24 = dktX4_isHouseHere_1 := dk_seg dksX4_isHouseHere_0 24 rfl rfl
theorem dksX4_isHouseHere_2 : cX4_isHouseHere.data.toList.drop 48 = dktX4_isHouseHere_2 := dk_seg dksX4_isHouseHere_1 24 rfl rfl
theorem dksX4_isHouseHere_3 : cX4_isHouseHere.data.toList.drop 72 = dktX4_isHouseHere_3 := dk_seg dksX4_isHouseHere_2 24 rfl rfl
theorem dksX4_isHouseHere_4 : cX4_isHouseHere.data.toList.drop 96 = dktX4_isHouseHere_4 := dk_seg dksX4_isHouseHere_3 24 rfl rfl
theorem dX4_isHouseHere_0 : decode cX4_isHouseHere 0 = .ok (.aload_n 0, 1) := dk_42 (dk_at dksX4_isHouseHere_0 0 rfl rfl)
theorem dX4_isHouseHere_1 : decode cX4_isHouseHere 1 = .ok (.getfield 26, 3) := dk_180 0 26 (dk_at dksX4_isHouseHere_0 1 rfl rfl)
theorem dX4_isHouseHere_4 : decode cX4_isHouseHere 4 = .ok (.iconst 3, 1) := dk_6 (dk_at dksX4_isHouseHere_0 4 rfl rfl)
theorem dX4_isHouseHere_5 : decode cX4_isHouseHere 5 = .ok (.iaload, 1) := dk_46 (dk_at dksX4_isHouseHere_0 5 rfl rfl)
theorem dX4_isHouseHere_6 : decode cX4_isHouseHere 6 = .ok (.bipush 6, 2) := dk_16 6 (dk_at dksX4_isHouseHere_0 6 rfl rfl)
theorem dX4_isHouseHere_8 : decode cX4_isHouseHere 8 = .ok (.if_icmp .ne 10, 3) := dk_160 0 10 (dk_at dksX4_isHouseHere_0 8 rfl rfl)
theorem dX4_isHouseHere_11 : decode cX4_isHouseHere 11 = .ok (.aload_n 0, 1) := dk_42 (dk_at dksX4_isHouseHere_0 11 rfl rfl)
theorem dX4_isHouseHere_12 : decode cX4_isHouseHere 12 = .ok (.iconst 4, 1) := dk_7 (dk_at dksX4_isHouseHere_0 12 rfl rfl)
theorem dX4_isHouseHere_13 : decode cX4_isHouseHere 13 = .ok (.iload_n 1, 1) := dk_27 (dk_at dksX4_isHouseHere_0 13 rfl rfl)
theorem dX4_isHouseHere_14 : decode cX4_isHouseHere 14 = .ok (.invokevirtual 114, 3) := dk_182 0 114 (dk_at dksX4_isHouseHere_0 14 rfl rfl)
theorem dX4_isHouseHere_17 : decode cX4_isHouseHere 17 = .ok (.ireturn, 1) := dk_172 (dk_at dksX4_isHouseHere_0 17 rfl rfl)
theorem dX4_isHouseHere_18 : decode cX4_isHouseHere 18 = .ok (.aload_n 0, 1) := dk_42 (dk_at dksX4_isHouseHere_0 18 rfl rfl)
theorem dX4_isHouseHere_19 : decode cX4_isHouseHere 19 = .ok (.invokevirtual 108, 3) := dk_182 0 108 (dk_at dksX4_isHouseHere_0 19 rfl rfl)
theorem dX4_isHouseHere_22 : decode cX4_isHouseHere 22 = .ok (.bipush 93, 2) := dk_16 93 (dk_at dksX4_isHouseHere_0 22 rfl rfl)
theorem dX4_isHouseHere_24 : decode cX4_isHouseHere 24 = .ok (.iconst 3, 1) := dk_6 (dk_at dksX4_isHouseHere_1 0 rfl rfl)
theorem dX4_isHouseHere_25 : decode cX4_isHouseHere 25 = .ok (.aload_n 0, 1) := dk_42 (dk_at dksX4_isHouseHere_1 1 rfl rfl)
theorem dX4_isHouseHere_26 : decode cX4_isHouseHere 26 = .ok (.getfield 26, 3) := dk_180 0 26 (dk_at dksX4_isHouseHere_1 2 rfl rfl)
theorem dX4_isHouseHere_29 : decode cX4_isHouseHere 29 = .ok (.iconst 3, 1) := dk_6 (dk_at dksX4_isHouseHere_1 5 rfl rfl)
theorem dX4_isHouseHere_30 : decode cX4_isHouseHere 30 = .ok (.iaload, 1) := dk_46 (dk_at dksX4_isHouseHere_1 6 rfl rfl)
theorem dX4_isHouseHere_31 : decode cX4_isHouseHere 31 = .ok (.imul, 1) := dk_104 (dk_at dksX4_isHouseHere_1 7 rfl rfl)
theorem dX4_isHouseHere_32 : decode cX4_isHouseHere 32 = .ok (.iadd, 1) := dk_96 (dk_at dksX4_isHouseHere_1 8 rfl rfl)
theorem dX4_isHouseHere_33 : decode cX4_isHouseHere 33 = .ok (.istore_n 2, 1) := dk_61 (dk_at dksX4_isHouseHere_1 9 rfl rfl)
theorem dX4_isHouseHere_34 : decode cX4_isHouseHere 34 = .ok (.aload_n 0, 1) := dk_42 (dk_at dksX4_isHouseHere_1 10 rfl rfl)
theorem dX4_isHouseHere_35 : decode cX4_isHouseHere 35 = .ok (.iload_n 2, 1) := dk_28 (dk_at dksX4_isHouseHere_1 11 rfl rfl)
theorem dX4_isHouseHere_36 : decode cX4_isHouseHere 36 = .ok (.iconst 0, 1) := dk_3 (dk_at dksX4_isHouseHere_1 12 rfl rfl)
theorem dX4_isHouseHere_37 : decode cX4_isHouseHere 37 = .ok (.bipush 99, 2) := dk_16 99 (dk_at dksX4_isHouseHere_1 13 rfl rfl)
theorem dX4_isHouseHere_39 : decode cX4_isHouseHere 39 = .ok (.invokevirtual 219, 3) := dk_182 0 219 (dk_at dksX4_isHouseHere_1 15 rfl rfl)
theorem dX4_isHouseHere_42 : decode cX4_isHouseHere 42 = .ok (.ifCond .eq 29, 3) := dk_153 0 29 (dk_at dksX4_isHouseHere_1 18 rfl rfl)
theorem dX4_isHouseHere_45 : decode cX4_isHouseHere 45 = .ok (.aload_n 0, 1) := dk_42 (dk_at dksX4_isHouseHere_1 21 rfl rfl)
theorem dX4_isHouseHere_46 : decode cX4_isHouseHere 46 = .ok (.iload_n 2, 1) := dk_28 (dk_at dksX4_isHouseHere_1 22 rfl rfl)
theorem dX4_isHouseHere_47 : decode cX4_isHouseHere 47 = .ok (.iconst 1, 1) := dk_4 (dk_at dksX4_isHouseHere_1 23 rfl rfl)
theorem dX4_isHouseHere_48 : decode cX4_isHouseHere 48 = .ok (.iadd, 1) := dk_96 (dk_at dksX4_isHouseHere_2 0 rfl rfl)
theorem dX4_isHouseHere_49 : decode cX4_isHouseHere 49 = .ok (.iconst 0, 1) := dk_3 (dk_at dksX4_isHouseHere_2 1 rfl rfl)
theorem dX4_isHouseHere_50 : decode cX4_isHouseHere 50 = .ok (.bipush 9, 2) := dk_16 9 (dk_at dksX4_isHouseHere_2 2 rfl rfl)
theorem dX4_isHouseHere_52 : decode cX4_isHouseHere 52 = .ok (.invokevirtual 219, 3) := dk_182 0 219 (dk_at dksX4_isHouseHere_2 4 rfl rfl)
theorem dX4_isHouseHere_55 : decode cX4_isHouseHere 55 = .ok (.ifCond .eq 16, 3) := dk_153 0 16 (dk_at dksX4_isHouseHere_2 7 rfl rfl)
theorem dX4_isHouseHere_58 : decode cX4_isHouseHere 58 = .ok (.aload_n 0, 1) := dk_42 (dk_at dksX4_isHouseHere_2 10 rfl rfl)
theorem dX4_isHouseHere_59 : decode cX4_isHouseHere 59 = .ok (.iload_n 2, 1) := dk_28 (dk_at dksX4_isHouseHere_2 11 rfl rfl)
theorem dX4_isHouseHere_60 : decode cX4_isHouseHere 60 = .ok (.iconst 2, 1) := dk_5 (dk_at dksX4_isHouseHere_2 12 rfl rfl)
theorem dX4_isHouseHere_61 : decode cX4_isHouseHere 61 = .ok (.iadd, 1) := dk_96 (dk_at dksX4_isHouseHere_2 13 rfl rfl)
theorem dX4_isHouseHere_62 : decode cX4_isHouseHere 62 = .ok (.iconst 0, 1) := dk_3 (dk_at dksX4_isHouseHere_2 14 rfl rfl)
theorem dX4_isHouseHere_63 : decode cX4_isHouseHere 63 = .ok (.bipush 20, 2) := dk_16 20 (dk_at dksX4_isHouseHere_2 15 rfl rfl)
theorem dX4_isHouseHere_65 : decode cX4_isHouseHere 65 = .ok (.invokevirtual 219, 3) := dk_182 0 219 (dk_at dksX4_isHouseHere_2 17 rfl rfl)
theorem dX4_isHouseHere_68 : decode cX4_isHouseHere 68 = .ok (.ifCond .ne 5, 3) := dk_154 0 5 (dk_at dksX4_isHouseHere_2 20 rfl rfl)
theorem dX4_isHouseHere_71 : decode cX4_isHouseHere 71 = .ok (.iconst 0, 1) := dk_3 (dk_at dksX4_isHouseHere_2 23 rfl rfl)
theorem dX4_isHouseHere_72 : decode cX4_isHouseHere 72 = .ok (.ireturn, 1) := dk_172 (dk_at dksX4_isHouseHere_3 0 rfl rfl)
theorem dX4_isHouseHere_73 : decode cX4_isHouseHere 73 = .ok (.aload_n 0, 1) := dk_42 (dk_at dksX4_isHouseHere_3 1 rfl rfl)
theorem dX4_isHouseHere_74 : decode cX4_isHouseHere 74 = .ok (.getfield 26, 3) := dk_180 0 26 (dk_at dksX4_isHouseHere_3 2 rfl rfl)
theorem dX4_isHouseHere_77 : decode cX4_isHouseHere 77 = .ok (.iload_n 2, 1) := dk_28 (dk_at dksX4_isHouseHere_3 5 rfl rfl)
theorem dX4_isHouseHere_78 : decode cX4_isHouseHere 78 = .ok (.iaload, 1) := dk_46 (dk_at dksX4_isHouseHere_3 6 rfl rfl)
theorem dX4_isHouseHere_79 : decode cX4_isHouseHere 79 = .ok (.ifCond .ne 12, 3) := dk_154 0 12 (dk_at dksX4_isHouseHere_3 7 rfl rfl)
theorem dX4_isHouseHere_82 : decode cX4_isHouseHere 82 = .ok (.aload_n 0, 1) := dk_42 (dk_at dksX4_isHouseHere_3 10 rfl rfl)
theorem dX4_isHouseHere_83 : decode cX4_isHouseHere 83 = .ok (.getfield 26, 3) := dk_180 0 26 (dk_at dksX4_isHouseHere_3 11 rfl rfl)
theorem dX4_isHouseHere_86 : decode cX4_isHouseHere 86 = .ok (.iload_n 2, 1) := dk_28 (dk_at dksX4_isHouseHere_3 14 rfl rfl)
theorem dX4_isHouseHere_87 : decode cX4_isHouseHere 87 = .ok (.iconst 1, 1) := dk_4 (dk_at dksX4_isHouseHere_3 15 rfl rfl)
theorem dX4_isHouseHere_88 : decode cX4_isHouseHere 88 = .ok (.iadd, 1) := dk_96 (dk_at dksX4_isHouseHere_3 16 rfl rfl)
theorem dX4_isHouseHere_89 : decode cX4_isHouseHere 89 = .ok (.iconst 0, 1) := dk_3 (dk_at dksX4_isHouseHere_3 17 rfl rfl)
theorem dX4_isHouseHere_90 : decode cX4_isHouseHere 90 = .ok (.iastore, 1) := dk_79 (dk_at dksX4_isHouseHere_3 18 rfl rfl)
theorem dX4_isHouseHere_91 : decode cX4_isHouseHere 91 = .ok (.aload_n 0, 1) := dk_42 (dk_at dksX4_isHouseHere_3 19 rfl rfl)
theorem dX4_isHouseHere_92 : decode cX4_isHouseHere 92 = .ok (.getfield 26, 3) := dk_180 0 26 (dk_at dksX4_isHouseHere_3 20 rfl rfl)
theorem dX4_isHouseHere_95 : decode cX4_isHouseHere 95 = .ok (.iconst 3, 1) := dk_6 (dk_at dksX4_isHouseHere_3 23 rfl rfl)
theorem dX4_isHouseHere_96 : decode cX4_isHouseHere 96 = .ok (.dup2, 1) := dk_92 (dk_at dksX4_isHouseHere_4 0 rfl rfl)
theorem dX4_isHouseHere_97 : decode cX4_isHouseHere 97 = .ok (.iaload, 1) := dk_46 (dk_at dksX4_isHouseHere_4 1 rfl rfl)
theorem dX4_isHouseHere_98 : decode cX4_isHouseHere 98 = .ok (.iconst 1, 1) := dk_4 (dk_at dksX4_isHouseHere_4 2 rfl rfl)
theorem dX4_isHouseHere_99 : decode cX4_isHouseHere 99 = .ok (.iadd, 1) := dk_96 (dk_at dksX4_isHouseHere_4 3 rfl rfl)
theorem dX4_isHouseHere_100 : decode cX4_isHouseHere 100 = .ok (.iastore, 1) := dk_79 (dk_at dksX4_isHouseHere_4 4 rfl rfl)
theorem dX4_isHouseHere_101 : decode cX4_isHouseHere 101 = .ok (.iconst 1, 1) := dk_4 (dk_at dksX4_isHouseHere_4 5 rfl rfl)
theorem dX4_isHouseHere_102 : decode cX4_isHouseHere 102 = .ok (.ireturn, 1) := dk_172 (dk_at dksX4_isHouseHere_4 6 rfl rfl)
abbrev cX4_isRoadHere : ByteArray := prog_19_method_35_code
def yX4_isRoadHere : MethodName := ⟨RX4, "isRoadHere", "()Z"⟩
def dkwX4_isRoadHere_3 : List UInt8 := [180, 0, 118, 79, 4, 172]
abbrev dktX4_isRoadHere_3 : List UInt8 := dkwX4_isRoadHere_3 ++ []
def dkwX4_isRoadHere_2 : List UInt8 := [180, 0, 223, 96, 61, 42, 27, 4, 16, 9, 182, 0, 219, 154, 0, 5, 3, 172, 42, 180, 0, 26, 28, 42]
abbrev dktX4_isRoadHere_2 : List UInt8 := dkwX4_isRoadHere_2 ++ dktX4_isRoadHere_3
def dkwX4_isRoadHere_1 : List UInt8 := [180, 0, 223, 104, 96, 42, 180, 0, 118, 96, 60, 16, 44, 16, 7, 42, 180, 0, 118, 104, 96, 42]
abbrev dktX4_isRoadHere_1 : List UInt8 := dkwX4_isRoadHere_1 ++ dktX4_isRoadHere_2
def dkwX4_isRoadHere_0 : List UInt8 := [42, 182, 0, 108, 42, 42, 180, 0, 26, 6, 46, 182, 0, 226, 154, 0, 5, 3, 172, 16, 44, 16, 7, 42]
abbrev dktX4_isRoadHere_0 : List UInt8 := dkwX4_isRoadHere_0 ++ dktX4_isRoadHere_1
theorem dksX4_isRoadHere_0 : cX4_isRoadHere.data.toList.drop 0 = dktX4_isRoadHere_0 := by decide +kernel
theorem dksX4_isRoadHere_1 : cX4_isRoadHere.data.toList.drop 24 = dktX4_isRoadHere_1 := dk_seg dksX4_isRoadHere_0 24 rfl rfl
theorem dksX4_isRoadHere_2 : cX4_isRoadHere.data.toList.drop 46 = dktX4_isRoadHere_2 := dk_seg dksX4_isRoadHere_1 22 rfl rfl
theorem dksX4_isRoadHere_3 : cX4_isRoadHere.data.toList.drop 70 = dktX4_isRoadHere_3 := dk_seg dksX4_isRoadHere_2 24 rfl rfl
theorem dX4_isRoadHere_0 : decode cX4_isRoadHere 0 = .ok (.aload_n 0, 1) := dk_42 (dk_at dksX4_isRoadHere_0 0 rfl rfl)
theorem dX4_isRoadHere_1 : decode cX4_isRoadHere 1 = .ok (.invokevirtual 108, 3) := dk_182 0 108 (dk_at dksX4_isRoadHere_0 1 rfl rfl)
theorem dX4_isRoadHere_4 : decode cX4_isRoadHere 4 = .ok (.aload_n 0, 1) := dk_42 (dk_at dksX4_isRoadHere_0 4 rfl rfl)
theorem dX4_isRoadHere_5 : decode cX4_isRoadHere 5 = .ok (.aload_n 0, 1) := dk_42 (dk_at dksX4_isRoadHere_0 5 rfl rfl)
theorem dX4_isRoadHere_6 : decode cX4_isRoadHere 6 = .ok (.getfield 26, 3) := dk_180 0 26 (dk_at dksX4_isRoadHere_0 6 rfl rfl)
theorem dX4_isRoadHere_9 : decode cX4_isRoadHere 9 = .ok (.iconst 3, 1) := dk_6 (dk_at dksX4_isRoadHere_0 9 rfl rfl)
theorem dX4_isRoadHere_10 : decode cX4_isRoadHere 10 = .ok (.iaload, 1) := dk_46 (dk_at dksX4_isRoadHere_0 10 rfl rfl)
theorem dX4_isRoadHere_11 : decode cX4_isRoadHere 11 = .ok (.invokevirtual 226, 3) := dk_182 0 226 (dk_at dksX4_isRoadHere_0 11 rfl rfl)
theorem dX4_isRoadHere_14 : decode cX4_isRoadHere 14 = .ok (.ifCond .ne 5, 3) := dk_154 0 5 (dk_at dksX4_isRoadHere_0 14 rfl rfl)
theorem dX4_isRoadHere_17 : decode cX4_isRoadHere 17 = .ok (.iconst 0, 1) := dk_3 (dk_at dksX4_isRoadHere_0 17 rfl rfl)
theorem dX4_isRoadHere_18 : decode cX4_isRoadHere 18 = .ok (.ireturn, 1) := dk_172 (dk_at dksX4_isRoadHere_0 18 rfl rfl)
theorem dX4_isRoadHere_19 : decode cX4_isRoadHere 19 = .ok (.bipush 44, 2) := dk_16 44 (dk_at dksX4_isRoadHere_0 19 rfl rfl)
theorem dX4_isRoadHere_21 : decode cX4_isRoadHere 21 = .ok (.bipush 7, 2) := dk_16 7 (dk_at dksX4_isRoadHere_0 21 rfl rfl)
theorem dX4_isRoadHere_23 : decode cX4_isRoadHere 23 = .ok (.aload_n 0, 1) := dk_42 (dk_at dksX4_isRoadHere_0 23 rfl rfl)
theorem dX4_isRoadHere_24 : decode cX4_isRoadHere 24 = .ok (.getfield 223, 3) := dk_180 0 223 (dk_at dksX4_isRoadHere_1 0 rfl rfl)
theorem dX4_isRoadHere_27 : decode cX4_isRoadHere 27 = .ok (.imul, 1) := dk_104 (dk_at dksX4_isRoadHere_1 3 rfl rfl)
theorem dX4_isRoadHere_28 : decode cX4_isRoadHere 28 = .ok (.iadd, 1) := dk_96 (dk_at dksX4_isRoadHere_1 4 rfl rfl)
theorem dX4_isRoadHere_29 : decode cX4_isRoadHere 29 = .ok (.aload_n 0, 1) := dk_42 (dk_at dksX4_isRoadHere_1 5 rfl rfl)
theorem dX4_isRoadHere_30 : decode cX4_isRoadHere 30 = .ok (.getfield 118, 3) := dk_180 0 118 (dk_at dksX4_isRoadHere_1 6 rfl rfl)
theorem dX4_isRoadHere_33 : decode cX4_isRoadHere 33 = .ok (.iadd, 1) := dk_96 (dk_at dksX4_isRoadHere_1 9 rfl rfl)
theorem dX4_isRoadHere_34 : decode cX4_isRoadHere 34 = .ok (.istore_n 1, 1) := dk_60 (dk_at dksX4_isRoadHere_1 10 rfl rfl)
theorem dX4_isRoadHere_35 : decode cX4_isRoadHere 35 = .ok (.bipush 44, 2) := dk_16 44 (dk_at dksX4_isRoadHere_1 11 rfl rfl)
theorem dX4_isRoadHere_37 : decode cX4_isRoadHere 37 = .ok (.bipush 7, 2) := dk_16 7 (dk_at dksX4_isRoadHere_1 13 rfl rfl)
theorem dX4_isRoadHere_39 : decode cX4_isRoadHere 39 = .ok (.aload_n 0, 1) := dk_42 (dk_at dksX4_isRoadHere_1 15 rfl rfl)
theorem dX4_isRoadHere_40 : decode cX4_isRoadHere 40 = .ok (.getfield 118, 3) := dk_180 0 118 (dk_at dksX4_isRoadHere_1 16 rfl rfl)
theorem dX4_isRoadHere_43 : decode cX4_isRoadHere 43 = .ok (.imul, 1) := dk_104 (dk_at dksX4_isRoadHere_1 19 rfl rfl)
theorem dX4_isRoadHere_44 : decode cX4_isRoadHere 44 = .ok (.iadd, 1) := dk_96 (dk_at dksX4_isRoadHere_1 20 rfl rfl)
theorem dX4_isRoadHere_45 : decode cX4_isRoadHere 45 = .ok (.aload_n 0, 1) := dk_42 (dk_at dksX4_isRoadHere_1 21 rfl rfl)
theorem dX4_isRoadHere_46 : decode cX4_isRoadHere 46 = .ok (.getfield 223, 3) := dk_180 0 223 (dk_at dksX4_isRoadHere_2 0 rfl rfl)
theorem dX4_isRoadHere_49 : decode cX4_isRoadHere 49 = .ok (.iadd, 1) := dk_96 (dk_at dksX4_isRoadHere_2 3 rfl rfl)
theorem dX4_isRoadHere_50 : decode cX4_isRoadHere 50 = .ok (.istore_n 2, 1) := dk_61 (dk_at dksX4_isRoadHere_2 4 rfl rfl)
theorem dX4_isRoadHere_51 : decode cX4_isRoadHere 51 = .ok (.aload_n 0, 1) := dk_42 (dk_at dksX4_isRoadHere_2 5 rfl rfl)
theorem dX4_isRoadHere_52 : decode cX4_isRoadHere 52 = .ok (.iload_n 1, 1) := dk_27 (dk_at dksX4_isRoadHere_2 6 rfl rfl)
theorem dX4_isRoadHere_53 : decode cX4_isRoadHere 53 = .ok (.iconst 1, 1) := dk_4 (dk_at dksX4_isRoadHere_2 7 rfl rfl)
theorem dX4_isRoadHere_54 : decode cX4_isRoadHere 54 = .ok (.bipush 9, 2) := dk_16 9 (dk_at dksX4_isRoadHere_2 8 rfl rfl)
theorem dX4_isRoadHere_56 : decode cX4_isRoadHere 56 = .ok (.invokevirtual 219, 3) := dk_182 0 219 (dk_at dksX4_isRoadHere_2 10 rfl rfl)
theorem dX4_isRoadHere_59 : decode cX4_isRoadHere 59 = .ok (.ifCond .ne 5, 3) := dk_154 0 5 (dk_at dksX4_isRoadHere_2 13 rfl rfl)
theorem dX4_isRoadHere_62 : decode cX4_isRoadHere 62 = .ok (.iconst 0, 1) := dk_3 (dk_at dksX4_isRoadHere_2 16 rfl rfl)
theorem dX4_isRoadHere_63 : decode cX4_isRoadHere 63 = .ok (.ireturn, 1) := dk_172 (dk_at dksX4_isRoadHere_2 17 rfl rfl)
theorem dX4_isRoadHere_64 : decode cX4_isRoadHere 64 = .ok (.aload_n 0, 1) := dk_42 (dk_at dksX4_isRoadHere_2 18 rfl rfl)
theorem dX4_isRoadHere_65 : decode cX4_isRoadHere 65 = .ok (.getfield 26, 3) := dk_180 0 26 (dk_at dksX4_isRoadHere_2 19 rfl rfl)
theorem dX4_isRoadHere_68 : decode cX4_isRoadHere 68 = .ok (.iload_n 2, 1) := dk_28 (dk_at dksX4_isRoadHere_2 22 rfl rfl)
theorem dX4_isRoadHere_69 : decode cX4_isRoadHere 69 = .ok (.aload_n 0, 1) := dk_42 (dk_at dksX4_isRoadHere_2 23 rfl rfl)
theorem dX4_isRoadHere_70 : decode cX4_isRoadHere 70 = .ok (.getfield 118, 3) := dk_180 0 118 (dk_at dksX4_isRoadHere_3 0 rfl rfl)
theorem dX4_isRoadHere_73 : decode cX4_isRoadHere 73 = .ok (.iastore, 1) := dk_79 (dk_at dksX4_isRoadHere_3 3 rfl rfl)
theorem dX4_isRoadHere_74 : decode cX4_isRoadHere 74 = .ok (.iconst 1, 1) := dk_4 (dk_at dksX4_isRoadHere_3 4 rfl rfl)
theorem dX4_isRoadHere_75 : decode cX4_isRoadHere 75 = .ok (.ireturn, 1) := dk_172 (dk_at dksX4_isRoadHere_3 5 rfl rfl)
abbrev cX4_areTwoHere : ByteArray := prog_19_method_34_code
def yX4_areTwoHere : MethodName := ⟨RX4, "areTwoHere", "(I)Z"⟩
def dkwX4_areTwoHere_2 : List UInt8 := [160, 0, 12, 42, 4, 28, 182, 0, 114, 153, 0, 7, 4, 167, 0, 4, 3, 172]
abbrev dktX4_areTwoHere_2 : List UInt8 := dkwX4_areTwoHere_2 ++ []
def dkwX4_areTwoHere_1 : List UInt8 := [42, 180, 0, 93, 61, 42, 3, 27, 182, 0, 168, 154, 0, 5, 3, 172, 42, 180, 0, 223, 42, 180, 0, 118]
abbrev dktX4_areTwoHere_1 : List UInt8 := dkwX4_areTwoHere_1 ++ dktX4_areTwoHere_2
def dkwX4_areTwoHere_0 : List UInt8 := [42, 3, 27, 182, 0, 168, 154, 0, 5, 3, 172, 42, 42, 180, 0, 118, 181, 0, 223, 42, 182, 0, 96, 87]
abbrev dktX4_areTwoHere_0 : List UInt8 := dkwX4_areTwoHere_0 ++ dktX4_areTwoHere_1
theorem dksX4_areTwoHere_0 : cX4_areTwoHere.data.toList.drop 0 = dktX4_areTwoHere_0 := by decide +kernel
theorem dksX4_areTwoHere_1 : cX4_areTwoHere.data.toList.drop 24 = dktX4_areTwoHere_1 := dk_seg dksX4_areTwoHere_0 24 rfl rfl
theorem dksX4_areTwoHere_2 : cX4_areTwoHere.data.toList.drop 48 = dktX4_areTwoHere_2 := dk_seg dksX4_areTwoHere_1 24 rfl rfl
theorem dX4_areTwoHere_0 : decode cX4_areTwoHere 0 = .ok (.aload_n 0, 1) := dk_42 (dk_at dksX4_areTwoHere_0 0 rfl rfl)
theorem dX4_areTwoHere_1 : decode cX4_areTwoHere 1 = .ok (.iconst 0, 1) := dk_3 (dk_at dksX4_areTwoHere_0 1 rfl rfl)
theorem dX4_areTwoHere_2 : decode cX4_areTwoHere 2 = .ok (.iload_n 1, 1) := dk_27 (dk_at dksX4_areTwoHere_0 2 rfl rfl)
theorem dX4_areTwoHere_3 : decode cX4_areTwoHere 3 = .ok (.invokevirtual 168, 3) := dk_182 0 168 (dk_at dksX4_areTwoHere_0 3 rfl rfl)
theorem dX4_areTwoHere_6 : decode cX4_areTwoHere 6 = .ok (.ifCond .ne 5, 3) := dk_154 0 5 (dk_at dksX4_areTwoHere_0 6 rfl rfl)
theorem dX4_areTwoHere_9 : decode cX4_areTwoHere 9 = .ok (.iconst 0, 1) := dk_3 (dk_at dksX4_areTwoHere_0 9 rfl rfl)
theorem dX4_areTwoHere_10 : decode cX4_areTwoHere 10 = .ok (.ireturn, 1) := dk_172 (dk_at dksX4_areTwoHere_0 10 rfl rfl)
theorem dX4_areTwoHere_11 : decode cX4_areTwoHere 11 = .ok (.aload_n 0, 1) := dk_42 (dk_at dksX4_areTwoHere_0 11 rfl rfl)
theorem dX4_areTwoHere_12 : decode cX4_areTwoHere 12 = .ok (.aload_n 0, 1) := dk_42 (dk_at dksX4_areTwoHere_0 12 rfl rfl)
theorem dX4_areTwoHere_13 : decode cX4_areTwoHere 13 = .ok (.getfield 118, 3) := dk_180 0 118 (dk_at dksX4_areTwoHere_0 13 rfl rfl)
theorem dX4_areTwoHere_16 : decode cX4_areTwoHere 16 = .ok (.putfield 223, 3) := dk_181 0 223 (dk_at dksX4_areTwoHere_0 16 rfl rfl)
theorem dX4_areTwoHere_19 : decode cX4_areTwoHere 19 = .ok (.aload_n 0, 1) := dk_42 (dk_at dksX4_areTwoHere_0 19 rfl rfl)
theorem dX4_areTwoHere_20 : decode cX4_areTwoHere 20 = .ok (.invokevirtual 96, 3) := dk_182 0 96 (dk_at dksX4_areTwoHere_0 20 rfl rfl)
theorem dX4_areTwoHere_23 : decode cX4_areTwoHere 23 = .ok (.pop, 1) := dk_87 (dk_at dksX4_areTwoHere_0 23 rfl rfl)
theorem dX4_areTwoHere_24 : decode cX4_areTwoHere 24 = .ok (.aload_n 0, 1) := dk_42 (dk_at dksX4_areTwoHere_1 0 rfl rfl)
theorem dX4_areTwoHere_25 : decode cX4_areTwoHere 25 = .ok (.getfield 93, 3) := dk_180 0 93 (dk_at dksX4_areTwoHere_1 1 rfl rfl)
theorem dX4_areTwoHere_28 : decode cX4_areTwoHere 28 = .ok (.istore_n 2, 1) := dk_61 (dk_at dksX4_areTwoHere_1 4 rfl rfl)
theorem dX4_areTwoHere_29 : decode cX4_areTwoHere 29 = .ok (.aload_n 0, 1) := dk_42 (dk_at dksX4_areTwoHere_1 5 rfl rfl)
theorem dX4_areTwoHere_30 : decode cX4_areTwoHere 30 = .ok (.iconst 0, 1) := dk_3 (dk_at dksX4_areTwoHere_1 6 rfl rfl)
theorem dX4_areTwoHere_31 : decode cX4_areTwoHere 31 = .ok (.iload_n 1, 1) := dk_27 (dk_at dksX4_areTwoHere_1 7 rfl rfl)
theorem dX4_areTwoHere_32 : decode cX4_areTwoHere 32 = .ok (.invokevirtual 168, 3) := dk_182 0 168 (dk_at dksX4_areTwoHere_1 8 rfl rfl)
theorem dX4_areTwoHere_35 : decode cX4_areTwoHere 35 = .ok (.ifCond .ne 5, 3) := dk_154 0 5 (dk_at dksX4_areTwoHere_1 11 rfl rfl)
theorem dX4_areTwoHere_38 : decode cX4_areTwoHere 38 = .ok (.iconst 0, 1) := dk_3 (dk_at dksX4_areTwoHere_1 14 rfl rfl)
theorem dX4_areTwoHere_39 : decode cX4_areTwoHere 39 = .ok (.ireturn, 1) := dk_172 (dk_at dksX4_areTwoHere_1 15 rfl rfl)
theorem dX4_areTwoHere_40 : decode cX4_areTwoHere 40 = .ok (.aload_n 0, 1) := dk_42 (dk_at dksX4_areTwoHere_1 16 rfl rfl)
theorem dX4_areTwoHere_41 : decode cX4_areTwoHere 41 = .ok (.getfield 223, 3) := dk_180 0 223 (dk_at dksX4_areTwoHere_1 17 rfl rfl)
theorem dX4_areTwoHere_44 : decode cX4_areTwoHere 44 = .ok (.aload_n 0, 1) := dk_42 (dk_at dksX4_areTwoHere_1 20 rfl rfl)
theorem dX4_areTwoHere_45 : decode cX4_areTwoHere 45 = .ok (.getfield 118, 3) := dk_180 0 118 (dk_at dksX4_areTwoHere_1 21 rfl rfl)
theorem dX4_areTwoHere_48 : decode cX4_areTwoHere 48 = .ok (.if_icmp .ne 12, 3) := dk_160 0 12 (dk_at dksX4_areTwoHere_2 0 rfl rfl)
theorem dX4_areTwoHere_51 : decode cX4_areTwoHere 51 = .ok (.aload_n 0, 1) := dk_42 (dk_at dksX4_areTwoHere_2 3 rfl rfl)
theorem dX4_areTwoHere_52 : decode cX4_areTwoHere 52 = .ok (.iconst 1, 1) := dk_4 (dk_at dksX4_areTwoHere_2 4 rfl rfl)
theorem dX4_areTwoHere_53 : decode cX4_areTwoHere 53 = .ok (.iload_n 2, 1) := dk_28 (dk_at dksX4_areTwoHere_2 5 rfl rfl)
theorem dX4_areTwoHere_54 : decode cX4_areTwoHere 54 = .ok (.invokevirtual 114, 3) := dk_182 0 114 (dk_at dksX4_areTwoHere_2 6 rfl rfl)
theorem dX4_areTwoHere_57 : decode cX4_areTwoHere 57 = .ok (.ifCond .eq 7, 3) := dk_153 0 7 (dk_at dksX4_areTwoHere_2 9 rfl rfl)
theorem dX4_areTwoHere_60 : decode cX4_areTwoHere 60 = .ok (.iconst 1, 1) := dk_4 (dk_at dksX4_areTwoHere_2 12 rfl rfl)
theorem dX4_areTwoHere_61 : decode cX4_areTwoHere 61 = .ok (.goto 4, 3) := dk_167 0 4 (dk_at dksX4_areTwoHere_2 13 rfl rfl)
theorem dX4_areTwoHere_64 : decode cX4_areTwoHere 64 = .ok (.iconst 0, 1) := dk_3 (dk_at dksX4_areTwoHere_2 16 rfl rfl)
theorem dX4_areTwoHere_65 : decode cX4_areTwoHere 65 = .ok (.ireturn, 1) := dk_172 (dk_at dksX4_areTwoHere_2 17 rfl rfl)
abbrev cX4_isBesideHere : ByteArray := prog_19_method_36_code
def yX4_isBesideHere : MethodName := ⟨RX4, "isBesideHere", "()Z"⟩
def dkwX4_isBesideHere_2 : List UInt8 := [16, 38, 42, 180, 0, 118, 96, 92, 46, 4, 42, 180, 0, 223, 120, 128, 79, 4, 172]
abbrev dktX4_isBesideHere_2 : List UInt8 := dkwX4_isBesideHere_2 ++ []
def dkwX4_isBesideHere_1 : List UInt8 := [180, 0, 26, 16, 38, 42, 180, 0, 223, 96, 92, 46, 4, 42, 180, 0, 118, 120, 128, 79, 42, 180, 0, 26]
abbrev dktX4_isBesideHere_1 : List UInt8 := dkwX4_isBesideHere_1 ++ dktX4_isBesideHere_2
def dkwX4_isBesideHere_0 : List UInt8 := [42, 182, 0, 108, 42, 42, 180, 0, 26, 6, 46, 4, 100, 182, 0, 226, 154, 0, 5, 3, 172, 42]
abbrev dktX4_isBesideHere_0 : List UInt8 := dkwX4_isBesideHere_0 ++ dktX4_isBesideHere_1
theorem dksX4_isBesideHere_0 : cX4_isBesideHere.data.toList.drop 0 = dktX4_isBesideHere_0 := by decide +kernel
theorem dksX4_isBesideHere_1 : cX4_isBesideHere.data.toList.drop 22 = dktX4_isBesideHere_1 := dk_seg dksX4_isBesideHere_0 22 rfl rfl
theorem dksX4_isBesideHere_2 : cX4_isBesideHere.data.toList.drop 46 = dktX4_isBesideHere_2 := dk_seg dksX4_isBesideHere_1 24 rfl rfl
theorem dX4_isBesideHere_0 : decode cX4_isBesideHere 0 = .ok (.aload_n 0, 1) := dk_42 (dk_at dksX4_isBesideHere_0 0 rfl rfl)
theorem dX4_isBesideHere_1 : decode cX4_isBesideHere 1 = .ok (.invokevirtual 108, 3) := dk_182 0 108 (dk_at dksX4_isBesideHere_0 1 rfl rfl)
theorem dX4_isBesideHere_4 : decode cX4_isBesideHere 4 = .ok (.aload_n 0, 1) := dk_42 (dk_at dksX4_isBesideHere_0 4 rfl rfl)
theorem dX4_isBesideHere_5 : decode cX4_isBesideHere 5 = .ok (.aload_n 0, 1) := dk_42 (dk_at dksX4_isBesideHere_0 5 rfl rfl)
theorem dX4_isBesideHere_6 : decode cX4_isBesideHere 6 = .ok (.getfield 26, 3) := dk_180 0 26 (dk_at dksX4_isBesideHere_0 6 rfl rfl)
theorem dX4_isBesideHere_9 : decode cX4_isBesideHere 9 = .ok (.iconst 3, 1) := dk_6 (dk_at dksX4_isBesideHere_0 9 rfl rfl)
theorem dX4_isBesideHere_10 : decode cX4_isBesideHere 10 = .ok (.iaload, 1) := dk_46 (dk_at dksX4_isBesideHere_0 10 rfl rfl)
theorem dX4_isBesideHere_11 : decode cX4_isBesideHere 11 = .ok (.iconst 1, 1) := dk_4 (dk_at dksX4_isBesideHere_0 11 rfl rfl)
theorem dX4_isBesideHere_12 : decode cX4_isBesideHere 12 = .ok (.isub, 1) := dk_100 (dk_at dksX4_isBesideHere_0 12 rfl rfl)
theorem dX4_isBesideHere_13 : decode cX4_isBesideHere 13 = .ok (.invokevirtual 226, 3) := dk_182 0 226 (dk_at dksX4_isBesideHere_0 13 rfl rfl)
theorem dX4_isBesideHere_16 : decode cX4_isBesideHere 16 = .ok (.ifCond .ne 5, 3) := dk_154 0 5 (dk_at dksX4_isBesideHere_0 16 rfl rfl)
theorem dX4_isBesideHere_19 : decode cX4_isBesideHere 19 = .ok (.iconst 0, 1) := dk_3 (dk_at dksX4_isBesideHere_0 19 rfl rfl)
theorem dX4_isBesideHere_20 : decode cX4_isBesideHere 20 = .ok (.ireturn, 1) := dk_172 (dk_at dksX4_isBesideHere_0 20 rfl rfl)
theorem dX4_isBesideHere_21 : decode cX4_isBesideHere 21 = .ok (.aload_n 0, 1) := dk_42 (dk_at dksX4_isBesideHere_0 21 rfl rfl)
theorem dX4_isBesideHere_22 : decode cX4_isBesideHere 22 = .ok (.getfield 26, 3) := dk_180 0 26 (dk_at dksX4_isBesideHere_1 0 rfl rfl)
theorem dX4_isBesideHere_25 : decode cX4_isBesideHere 25 = .ok (.bipush 38, 2) := dk_16 38 (dk_at dksX4_isBesideHere_1 3 rfl rfl)
theorem dX4_isBesideHere_27 : decode cX4_isBesideHere 27 = .ok (.aload_n 0, 1) := dk_42 (dk_at dksX4_isBesideHere_1 5 rfl rfl)
theorem dX4_isBesideHere_28 : decode cX4_isBesideHere 28 = .ok (.getfield 223, 3) := dk_180 0 223 (dk_at dksX4_isBesideHere_1 6 rfl rfl)
theorem dX4_isBesideHere_31 : decode cX4_isBesideHere 31 = .ok (.iadd, 1) := dk_96 (dk_at dksX4_isBesideHere_1 9 rfl rfl)
theorem dX4_isBesideHere_32 : decode cX4_isBesideHere 32 = .ok (.dup2, 1) := dk_92 (dk_at dksX4_isBesideHere_1 10 rfl rfl)
theorem dX4_isBesideHere_33 : decode cX4_isBesideHere 33 = .ok (.iaload, 1) := dk_46 (dk_at dksX4_isBesideHere_1 11 rfl rfl)
theorem dX4_isBesideHere_34 : decode cX4_isBesideHere 34 = .ok (.iconst 1, 1) := dk_4 (dk_at dksX4_isBesideHere_1 12 rfl rfl)
theorem dX4_isBesideHere_35 : decode cX4_isBesideHere 35 = .ok (.aload_n 0, 1) := dk_42 (dk_at dksX4_isBesideHere_1 13 rfl rfl)
theorem dX4_isBesideHere_36 : decode cX4_isBesideHere 36 = .ok (.getfield 118, 3) := dk_180 0 118 (dk_at dksX4_isBesideHere_1 14 rfl rfl)
theorem dX4_isBesideHere_39 : decode cX4_isBesideHere 39 = .ok (.ishl, 1) := dk_120 (dk_at dksX4_isBesideHere_1 17 rfl rfl)
theorem dX4_isBesideHere_40 : decode cX4_isBesideHere 40 = .ok (.ior, 1) := dk_128 (dk_at dksX4_isBesideHere_1 18 rfl rfl)
theorem dX4_isBesideHere_41 : decode cX4_isBesideHere 41 = .ok (.iastore, 1) := dk_79 (dk_at dksX4_isBesideHere_1 19 rfl rfl)
theorem dX4_isBesideHere_42 : decode cX4_isBesideHere 42 = .ok (.aload_n 0, 1) := dk_42 (dk_at dksX4_isBesideHere_1 20 rfl rfl)
theorem dX4_isBesideHere_43 : decode cX4_isBesideHere 43 = .ok (.getfield 26, 3) := dk_180 0 26 (dk_at dksX4_isBesideHere_1 21 rfl rfl)
theorem dX4_isBesideHere_46 : decode cX4_isBesideHere 46 = .ok (.bipush 38, 2) := dk_16 38 (dk_at dksX4_isBesideHere_2 0 rfl rfl)
theorem dX4_isBesideHere_48 : decode cX4_isBesideHere 48 = .ok (.aload_n 0, 1) := dk_42 (dk_at dksX4_isBesideHere_2 2 rfl rfl)
theorem dX4_isBesideHere_49 : decode cX4_isBesideHere 49 = .ok (.getfield 118, 3) := dk_180 0 118 (dk_at dksX4_isBesideHere_2 3 rfl rfl)
theorem dX4_isBesideHere_52 : decode cX4_isBesideHere 52 = .ok (.iadd, 1) := dk_96 (dk_at dksX4_isBesideHere_2 6 rfl rfl)
theorem dX4_isBesideHere_53 : decode cX4_isBesideHere 53 = .ok (.dup2, 1) := dk_92 (dk_at dksX4_isBesideHere_2 7 rfl rfl)
theorem dX4_isBesideHere_54 : decode cX4_isBesideHere 54 = .ok (.iaload, 1) := dk_46 (dk_at dksX4_isBesideHere_2 8 rfl rfl)
theorem dX4_isBesideHere_55 : decode cX4_isBesideHere 55 = .ok (.iconst 1, 1) := dk_4 (dk_at dksX4_isBesideHere_2 9 rfl rfl)
theorem dX4_isBesideHere_56 : decode cX4_isBesideHere 56 = .ok (.aload_n 0, 1) := dk_42 (dk_at dksX4_isBesideHere_2 10 rfl rfl)
theorem dX4_isBesideHere_57 : decode cX4_isBesideHere 57 = .ok (.getfield 223, 3) := dk_180 0 223 (dk_at dksX4_isBesideHere_2 11 rfl rfl)
theorem dX4_isBesideHere_60 : decode cX4_isBesideHere 60 = .ok (.ishl, 1) := dk_120 (dk_at dksX4_isBesideHere_2 14 rfl rfl)
theorem dX4_isBesideHere_61 : decode cX4_isBesideHere 61 = .ok (.ior, 1) := dk_128 (dk_at dksX4_isBesideHere_2 15 rfl rfl)
theorem dX4_isBesideHere_62 : decode cX4_isBesideHere 62 = .ok (.iastore, 1) := dk_79 (dk_at dksX4_isBesideHere_2 16 rfl rfl)
theorem dX4_isBesideHere_63 : decode cX4_isBesideHere 63 = .ok (.iconst 1, 1) := dk_4 (dk_at dksX4_isBesideHere_2 17 rfl rfl)
theorem dX4_isBesideHere_64 : decode cX4_isBesideHere 64 = .ok (.ireturn, 1) := dk_172 (dk_at dksX4_isBesideHere_2 18 rfl rfl)
abbrev cX4_isGoHere : ByteArray := prog_19_method_30_code
def yX4_isGoHere : MethodName := ⟨RX4, "isGoHere", "()Z"⟩
def dkwX4_isGoHere_5 : List UInt8 := [180, 0, 17, 42, 180, 0, 147, 46, 79, 42, 180, 0, 23, 42, 180, 0, 147, 92, 46, 4, 96, 79, 4, 172]
abbrev dktX4_isGoHere_5 : List UInt8 := dkwX4_isGoHere_5 ++ []
def dkwX4_isGoHere_4 : List UInt8 := [180, 0, 147, 46, 79, 42, 182, 0, 216, 154, 0, 5, 3, 172, 42, 180, 0, 20, 27, 6, 96, 42]
abbrev dktX4_isGoHere_4 : List UInt8 := dkwX4_isGoHere_4 ++ dktX4_isGoHere_5
def dkwX4_isGoHere_3 : List UInt8 := [2, 79, 42, 20, 0, 211, 182, 0, 213, 153, 0, 29, 42, 180, 0, 20, 27, 5, 96, 42, 180, 0, 17, 42]
abbrev dktX4_isGoHere_3 : List UInt8 := dkwX4_isGoHere_3 ++ dktX4_isGoHere_4
def dkwX4_isGoHere_2 : List UInt8 := [42, 180, 0, 20, 27, 4, 96, 42, 180, 0, 17, 42, 180, 0, 147, 46, 79, 42, 180, 0, 20, 27, 5, 96]
abbrev dktX4_isGoHere_2 : List UInt8 := dkwX4_isGoHere_2 ++ dktX4_isGoHere_3
def dkwX4_isGoHere_1 : List UInt8 := [42, 180, 0, 20, 27, 42, 180, 0, 17, 42, 180, 0, 147, 46, 79, 42, 182, 0, 184, 154, 0, 5, 3, 172]
abbrev dktX4_isGoHere_1 : List UInt8 := dkwX4_isGoHere_1 ++ dktX4_isGoHere_2
def dkwX4_isGoHere_0 : List UInt8 := [42, 182, 0, 108, 16, 48, 42, 180, 0, 147, 104, 7, 42, 180, 0, 23, 42, 180, 0, 147, 46, 104, 96, 60]
abbrev dktX4_isGoHere_0 : List UInt8 := dkwX4_isGoHere_0 ++ dktX4_isGoHere_1
theorem dksX4_isGoHere_0 : cX4_isGoHere.data.toList.drop 0 = dktX4_isGoHere_0 := by decide +kernel
theorem dksX4_isGoHere_1 : cX4_isGoHere.data.toList.drop 24 = dktX4_isGoHere_1 := dk_seg dksX4_isGoHere_0 24 rfl rfl
theorem dksX4_isGoHere_2 : cX4_isGoHere.data.toList.drop 48 = dktX4_isGoHere_2 := dk_seg dksX4_isGoHere_1 24 rfl rfl
theorem dksX4_isGoHere_3 : cX4_isGoHere.data.toList.drop 72 = dktX4_isGoHere_3 := dk_seg dksX4_isGoHere_2 24 rfl rfl
theorem dksX4_isGoHere_4 : cX4_isGoHere.data.toList.drop 96 = dktX4_isGoHere_4 := dk_seg dksX4_isGoHere_3 24 rfl rfl
theorem dksX4_isGoHere_5 : cX4_isGoHere.data.toList.drop 118 = dktX4_isGoHere_5 := dk_seg dksX4_isGoHere_4 22 rfl rfl
theorem dX4_isGoHere_0 : decode cX4_isGoHere 0 = .ok (.aload_n 0, 1) := dk_42 (dk_at dksX4_isGoHere_0 0 rfl rfl)
theorem dX4_isGoHere_1 : decode cX4_isGoHere 1 = .ok (.invokevirtual 108, 3) := dk_182 0 108 (dk_at dksX4_isGoHere_0 1 rfl rfl)
theorem dX4_isGoHere_4 : decode cX4_isGoHere 4 = .ok (.bipush 48, 2) := dk_16 48 (dk_at dksX4_isGoHere_0 4 rfl rfl)
theorem dX4_isGoHere_6 : decode cX4_isGoHere 6 = .ok (.aload_n 0, 1) := dk_42 (dk_at dksX4_isGoHere_0 6 rfl rfl)
theorem dX4_isGoHere_7 : decode cX4_isGoHere 7 = .ok (.getfield 147, 3) := dk_180 0 147 (dk_at dksX4_isGoHere_0 7 rfl rfl)
theorem dX4_isGoHere_10 : decode cX4_isGoHere 10 = .ok (.imul, 1) := dk_104 (dk_at dksX4_isGoHere_0 10 rfl rfl)
theorem dX4_isGoHere_11 : decode cX4_isGoHere 11 = .ok (.iconst 4, 1) := dk_7 (dk_at dksX4_isGoHere_0 11 rfl rfl)
theorem dX4_isGoHere_12 : decode cX4_isGoHere 12 = .ok (.aload_n 0, 1) := dk_42 (dk_at dksX4_isGoHere_0 12 rfl rfl)
theorem dX4_isGoHere_13 : decode cX4_isGoHere 13 = .ok (.getfield 23, 3) := dk_180 0 23 (dk_at dksX4_isGoHere_0 13 rfl rfl)
theorem dX4_isGoHere_16 : decode cX4_isGoHere 16 = .ok (.aload_n 0, 1) := dk_42 (dk_at dksX4_isGoHere_0 16 rfl rfl)
theorem dX4_isGoHere_17 : decode cX4_isGoHere 17 = .ok (.getfield 147, 3) := dk_180 0 147 (dk_at dksX4_isGoHere_0 17 rfl rfl)
theorem dX4_isGoHere_20 : decode cX4_isGoHere 20 = .ok (.iaload, 1) := dk_46 (dk_at dksX4_isGoHere_0 20 rfl rfl)
theorem dX4_isGoHere_21 : decode cX4_isGoHere 21 = .ok (.imul, 1) := dk_104 (dk_at dksX4_isGoHere_0 21 rfl rfl)
theorem dX4_isGoHere_22 : decode cX4_isGoHere 22 = .ok (.iadd, 1) := dk_96 (dk_at dksX4_isGoHere_0 22 rfl rfl)
theorem dX4_isGoHere_23 : decode cX4_isGoHere 23 = .ok (.istore_n 1, 1) := dk_60 (dk_at dksX4_isGoHere_0 23 rfl rfl)
theorem dX4_isGoHere_24 : decode cX4_isGoHere 24 = .ok (.aload_n 0, 1) := dk_42 (dk_at dksX4_isGoHere_1 0 rfl rfl)
theorem dX4_isGoHere_25 : decode cX4_isGoHere 25 = .ok (.getfield 20, 3) := dk_180 0 20 (dk_at dksX4_isGoHere_1 1 rfl rfl)
theorem dX4_isGoHere_28 : decode cX4_isGoHere 28 = .ok (.iload_n 1, 1) := dk_27 (dk_at dksX4_isGoHere_1 4 rfl rfl)
theorem dX4_isGoHere_29 : decode cX4_isGoHere 29 = .ok (.aload_n 0, 1) := dk_42 (dk_at dksX4_isGoHere_1 5 rfl rfl)
theorem dX4_isGoHere_30 : decode cX4_isGoHere 30 = .ok (.getfield 17, 3) := dk_180 0 17 (dk_at dksX4_isGoHere_1 6 rfl rfl)
theorem dX4_isGoHere_33 : decode cX4_isGoHere 33 = .ok (.aload_n 0, 1) := dk_42 (dk_at dksX4_isGoHere_1 9 rfl rfl)
theorem dX4_isGoHere_34 : decode cX4_isGoHere 34 = .ok (.getfield 147, 3) := dk_180 0 147 (dk_at dksX4_isGoHere_1 10 rfl rfl)
theorem dX4_isGoHere_37 : decode cX4_isGoHere 37 = .ok (.iaload, 1) := dk_46 (dk_at dksX4_isGoHere_1 13 rfl rfl)
theorem dX4_isGoHere_38 : decode cX4_isGoHere 38 = .ok (.iastore, 1) := dk_79 (dk_at dksX4_isGoHere_1 14 rfl rfl)
theorem dX4_isGoHere_39 : decode cX4_isGoHere 39 = .ok (.aload_n 0, 1) := dk_42 (dk_at dksX4_isGoHere_1 15 rfl rfl)
theorem dX4_isGoHere_40 : decode cX4_isGoHere 40 = .ok (.invokevirtual 184, 3) := dk_182 0 184 (dk_at dksX4_isGoHere_1 16 rfl rfl)
theorem dX4_isGoHere_43 : decode cX4_isGoHere 43 = .ok (.ifCond .ne 5, 3) := dk_154 0 5 (dk_at dksX4_isGoHere_1 19 rfl rfl)
theorem dX4_isGoHere_46 : decode cX4_isGoHere 46 = .ok (.iconst 0, 1) := dk_3 (dk_at dksX4_isGoHere_1 22 rfl rfl)
theorem dX4_isGoHere_47 : decode cX4_isGoHere 47 = .ok (.ireturn, 1) := dk_172 (dk_at dksX4_isGoHere_1 23 rfl rfl)
theorem dX4_isGoHere_48 : decode cX4_isGoHere 48 = .ok (.aload_n 0, 1) := dk_42 (dk_at dksX4_isGoHere_2 0 rfl rfl)
theorem dX4_isGoHere_49 : decode cX4_isGoHere 49 = .ok (.getfield 20, 3) := dk_180 0 20 (dk_at dksX4_isGoHere_2 1 rfl rfl)
theorem dX4_isGoHere_52 : decode cX4_isGoHere 52 = .ok (.iload_n 1, 1) := dk_27 (dk_at dksX4_isGoHere_2 4 rfl rfl)
theorem dX4_isGoHere_53 : decode cX4_isGoHere 53 = .ok (.iconst 1, 1) := dk_4 (dk_at dksX4_isGoHere_2 5 rfl rfl)
theorem dX4_isGoHere_54 : decode cX4_isGoHere 54 = .ok (.iadd, 1) := dk_96 (dk_at dksX4_isGoHere_2 6 rfl rfl)
theorem dX4_isGoHere_55 : decode cX4_isGoHere 55 = .ok (.aload_n 0, 1) := dk_42 (dk_at dksX4_isGoHere_2 7 rfl rfl)
theorem dX4_isGoHere_56 : decode cX4_isGoHere 56 = .ok (.getfield 17, 3) := dk_180 0 17 (dk_at dksX4_isGoHere_2 8 rfl rfl)
theorem dX4_isGoHere_59 : decode cX4_isGoHere 59 = .ok (.aload_n 0, 1) := dk_42 (dk_at dksX4_isGoHere_2 11 rfl rfl)
theorem dX4_isGoHere_60 : decode cX4_isGoHere 60 = .ok (.getfield 147, 3) := dk_180 0 147 (dk_at dksX4_isGoHere_2 12 rfl rfl)
theorem dX4_isGoHere_63 : decode cX4_isGoHere 63 = .ok (.iaload, 1) := dk_46 (dk_at dksX4_isGoHere_2 15 rfl rfl)
theorem dX4_isGoHere_64 : decode cX4_isGoHere 64 = .ok (.iastore, 1) := dk_79 (dk_at dksX4_isGoHere_2 16 rfl rfl)
theorem dX4_isGoHere_65 : decode cX4_isGoHere 65 = .ok (.aload_n 0, 1) := dk_42 (dk_at dksX4_isGoHere_2 17 rfl rfl)
theorem dX4_isGoHere_66 : decode cX4_isGoHere 66 = .ok (.getfield 20, 3) := dk_180 0 20 (dk_at dksX4_isGoHere_2 18 rfl rfl)
theorem dX4_isGoHere_69 : decode cX4_isGoHere 69 = .ok (.iload_n 1, 1) := dk_27 (dk_at dksX4_isGoHere_2 21 rfl rfl)
theorem dX4_isGoHere_70 : decode cX4_isGoHere 70 = .ok (.iconst 2, 1) := dk_5 (dk_at dksX4_isGoHere_2 22 rfl rfl)
theorem dX4_isGoHere_71 : decode cX4_isGoHere 71 = .ok (.iadd, 1) := dk_96 (dk_at dksX4_isGoHere_2 23 rfl rfl)
theorem dX4_isGoHere_72 : decode cX4_isGoHere 72 = .ok (.iconst (-1), 1) := dk_2 (dk_at dksX4_isGoHere_3 0 rfl rfl)
theorem dX4_isGoHere_73 : decode cX4_isGoHere 73 = .ok (.iastore, 1) := dk_79 (dk_at dksX4_isGoHere_3 1 rfl rfl)
theorem dX4_isGoHere_74 : decode cX4_isGoHere 74 = .ok (.aload_n 0, 1) := dk_42 (dk_at dksX4_isGoHere_3 2 rfl rfl)
theorem dX4_isGoHere_75 : decode cX4_isGoHere 75 = .ok (.ldc2_w 211, 3) := dk_20 0 211 (dk_at dksX4_isGoHere_3 3 rfl rfl)
theorem dX4_isGoHere_78 : decode cX4_isGoHere 78 = .ok (.invokevirtual 213, 3) := dk_182 0 213 (dk_at dksX4_isGoHere_3 6 rfl rfl)
theorem dX4_isGoHere_81 : decode cX4_isGoHere 81 = .ok (.ifCond .eq 29, 3) := dk_153 0 29 (dk_at dksX4_isGoHere_3 9 rfl rfl)
theorem dX4_isGoHere_84 : decode cX4_isGoHere 84 = .ok (.aload_n 0, 1) := dk_42 (dk_at dksX4_isGoHere_3 12 rfl rfl)
theorem dX4_isGoHere_85 : decode cX4_isGoHere 85 = .ok (.getfield 20, 3) := dk_180 0 20 (dk_at dksX4_isGoHere_3 13 rfl rfl)
theorem dX4_isGoHere_88 : decode cX4_isGoHere 88 = .ok (.iload_n 1, 1) := dk_27 (dk_at dksX4_isGoHere_3 16 rfl rfl)
theorem dX4_isGoHere_89 : decode cX4_isGoHere 89 = .ok (.iconst 2, 1) := dk_5 (dk_at dksX4_isGoHere_3 17 rfl rfl)
theorem dX4_isGoHere_90 : decode cX4_isGoHere 90 = .ok (.iadd, 1) := dk_96 (dk_at dksX4_isGoHere_3 18 rfl rfl)
theorem dX4_isGoHere_91 : decode cX4_isGoHere 91 = .ok (.aload_n 0, 1) := dk_42 (dk_at dksX4_isGoHere_3 19 rfl rfl)
theorem dX4_isGoHere_92 : decode cX4_isGoHere 92 = .ok (.getfield 17, 3) := dk_180 0 17 (dk_at dksX4_isGoHere_3 20 rfl rfl)
theorem dX4_isGoHere_95 : decode cX4_isGoHere 95 = .ok (.aload_n 0, 1) := dk_42 (dk_at dksX4_isGoHere_3 23 rfl rfl)
theorem dX4_isGoHere_96 : decode cX4_isGoHere 96 = .ok (.getfield 147, 3) := dk_180 0 147 (dk_at dksX4_isGoHere_4 0 rfl rfl)
theorem dX4_isGoHere_99 : decode cX4_isGoHere 99 = .ok (.iaload, 1) := dk_46 (dk_at dksX4_isGoHere_4 3 rfl rfl)
theorem dX4_isGoHere_100 : decode cX4_isGoHere 100 = .ok (.iastore, 1) := dk_79 (dk_at dksX4_isGoHere_4 4 rfl rfl)
theorem dX4_isGoHere_101 : decode cX4_isGoHere 101 = .ok (.aload_n 0, 1) := dk_42 (dk_at dksX4_isGoHere_4 5 rfl rfl)
theorem dX4_isGoHere_102 : decode cX4_isGoHere 102 = .ok (.invokevirtual 216, 3) := dk_182 0 216 (dk_at dksX4_isGoHere_4 6 rfl rfl)
theorem dX4_isGoHere_105 : decode cX4_isGoHere 105 = .ok (.ifCond .ne 5, 3) := dk_154 0 5 (dk_at dksX4_isGoHere_4 9 rfl rfl)
theorem dX4_isGoHere_108 : decode cX4_isGoHere 108 = .ok (.iconst 0, 1) := dk_3 (dk_at dksX4_isGoHere_4 12 rfl rfl)
theorem dX4_isGoHere_109 : decode cX4_isGoHere 109 = .ok (.ireturn, 1) := dk_172 (dk_at dksX4_isGoHere_4 13 rfl rfl)
theorem dX4_isGoHere_110 : decode cX4_isGoHere 110 = .ok (.aload_n 0, 1) := dk_42 (dk_at dksX4_isGoHere_4 14 rfl rfl)
theorem dX4_isGoHere_111 : decode cX4_isGoHere 111 = .ok (.getfield 20, 3) := dk_180 0 20 (dk_at dksX4_isGoHere_4 15 rfl rfl)
theorem dX4_isGoHere_114 : decode cX4_isGoHere 114 = .ok (.iload_n 1, 1) := dk_27 (dk_at dksX4_isGoHere_4 18 rfl rfl)
theorem dX4_isGoHere_115 : decode cX4_isGoHere 115 = .ok (.iconst 3, 1) := dk_6 (dk_at dksX4_isGoHere_4 19 rfl rfl)
theorem dX4_isGoHere_116 : decode cX4_isGoHere 116 = .ok (.iadd, 1) := dk_96 (dk_at dksX4_isGoHere_4 20 rfl rfl)
theorem dX4_isGoHere_117 : decode cX4_isGoHere 117 = .ok (.aload_n 0, 1) := dk_42 (dk_at dksX4_isGoHere_4 21 rfl rfl)
theorem dX4_isGoHere_118 : decode cX4_isGoHere 118 = .ok (.getfield 17, 3) := dk_180 0 17 (dk_at dksX4_isGoHere_5 0 rfl rfl)
theorem dX4_isGoHere_121 : decode cX4_isGoHere 121 = .ok (.aload_n 0, 1) := dk_42 (dk_at dksX4_isGoHere_5 3 rfl rfl)
theorem dX4_isGoHere_122 : decode cX4_isGoHere 122 = .ok (.getfield 147, 3) := dk_180 0 147 (dk_at dksX4_isGoHere_5 4 rfl rfl)
theorem dX4_isGoHere_125 : decode cX4_isGoHere 125 = .ok (.iaload, 1) := dk_46 (dk_at dksX4_isGoHere_5 7 rfl rfl)
theorem dX4_isGoHere_126 : decode cX4_isGoHere 126 = .ok (.iastore, 1) := dk_79 (dk_at dksX4_isGoHere_5 8 rfl rfl)
theorem dX4_isGoHere_127 : decode cX4_isGoHere 127 = .ok (.aload_n 0, 1) := dk_42 (dk_at dksX4_isGoHere_5 9 rfl rfl)
theorem dX4_isGoHere_128 : decode cX4_isGoHere 128 = .ok (.getfield 23, 3) := dk_180 0 23 (dk_at dksX4_isGoHere_5 10 rfl rfl)
theorem dX4_isGoHere_131 : decode cX4_isGoHere 131 = .ok (.aload_n 0, 1) := dk_42 (dk_at dksX4_isGoHere_5 13 rfl rfl)
theorem dX4_isGoHere_132 : decode cX4_isGoHere 132 = .ok (.getfield 147, 3) := dk_180 0 147 (dk_at dksX4_isGoHere_5 14 rfl rfl)
theorem dX4_isGoHere_135 : decode cX4_isGoHere 135 = .ok (.dup2, 1) := dk_92 (dk_at dksX4_isGoHere_5 17 rfl rfl)
theorem dX4_isGoHere_136 : decode cX4_isGoHere 136 = .ok (.iaload, 1) := dk_46 (dk_at dksX4_isGoHere_5 18 rfl rfl)
theorem dX4_isGoHere_137 : decode cX4_isGoHere 137 = .ok (.iconst 1, 1) := dk_4 (dk_at dksX4_isGoHere_5 19 rfl rfl)
theorem dX4_isGoHere_138 : decode cX4_isGoHere 138 = .ok (.iadd, 1) := dk_96 (dk_at dksX4_isGoHere_5 20 rfl rfl)
theorem dX4_isGoHere_139 : decode cX4_isGoHere 139 = .ok (.iastore, 1) := dk_79 (dk_at dksX4_isGoHere_5 21 rfl rfl)
theorem dX4_isGoHere_140 : decode cX4_isGoHere 140 = .ok (.iconst 1, 1) := dk_4 (dk_at dksX4_isGoHere_5 22 rfl rfl)
theorem dX4_isGoHere_141 : decode cX4_isGoHere 141 = .ok (.ireturn, 1) := dk_172 (dk_at dksX4_isGoHere_5 23 rfl rfl)
abbrev cX4_sum : ByteArray := prog_19_method_24_code
def yX4_sum : MethodName := ⟨RX4, "sum", "()Z"⟩
def dkwX4_sum_3 : List UInt8 := [167, 255, 193, 4, 172]
abbrev dktX4_sum_3 : List UInt8 := dkwX4_sum_3 ++ []
def dkwX4_sum_2 : List UInt8 := [89, 180, 0, 93, 4, 96, 181, 0, 93, 42, 182, 0, 181, 154, 0, 5, 3, 172, 42, 27, 3, 182, 0, 163]
abbrev dktX4_sum_2 : List UInt8 := dkwX4_sum_2 ++ dktX4_sum_3
def dkwX4_sum_1 : List UInt8 := [160, 0, 51, 42, 180, 0, 7, 42, 180, 0, 93, 51, 16, 43, 160, 0, 7, 5, 167, 0, 4, 6, 60, 42]
abbrev dktX4_sum_1 : List UInt8 := dkwX4_sum_1 ++ dktX4_sum_2
def dkwX4_sum_0 : List UInt8 := [42, 182, 0, 181, 154, 0, 5, 3, 172, 42, 182, 0, 96, 16, 43, 159, 0, 12, 42, 182, 0, 96, 16, 45]
abbrev dktX4_sum_0 : List UInt8 := dkwX4_sum_0 ++ dktX4_sum_1
theorem dksX4_sum_0 : cX4_sum.data.toList.drop 0 = dktX4_sum_0 := by decide +kernel
theorem dksX4_sum_1 : cX4_sum.data.toList.drop 24 = dktX4_sum_1 := dk_seg dksX4_sum_0 24 rfl rfl
theorem dksX4_sum_2 : cX4_sum.data.toList.drop 48 = dktX4_sum_2 := dk_seg dksX4_sum_1 24 rfl rfl
theorem dksX4_sum_3 : cX4_sum.data.toList.drop 72 = dktX4_sum_3 := dk_seg dksX4_sum_2 24 rfl rfl
theorem dX4_sum_0 : decode cX4_sum 0 = .ok (.aload_n 0, 1) := dk_42 (dk_at dksX4_sum_0 0 rfl rfl)
theorem dX4_sum_1 : decode cX4_sum 1 = .ok (.invokevirtual 181, 3) := dk_182 0 181 (dk_at dksX4_sum_0 1 rfl rfl)
theorem dX4_sum_4 : decode cX4_sum 4 = .ok (.ifCond .ne 5, 3) := dk_154 0 5 (dk_at dksX4_sum_0 4 rfl rfl)
theorem dX4_sum_7 : decode cX4_sum 7 = .ok (.iconst 0, 1) := dk_3 (dk_at dksX4_sum_0 7 rfl rfl)
theorem dX4_sum_8 : decode cX4_sum 8 = .ok (.ireturn, 1) := dk_172 (dk_at dksX4_sum_0 8 rfl rfl)
theorem dX4_sum_9 : decode cX4_sum 9 = .ok (.aload_n 0, 1) := dk_42 (dk_at dksX4_sum_0 9 rfl rfl)
theorem dX4_sum_10 : decode cX4_sum 10 = .ok (.invokevirtual 96, 3) := dk_182 0 96 (dk_at dksX4_sum_0 10 rfl rfl)
theorem dX4_sum_13 : decode cX4_sum 13 = .ok (.bipush 43, 2) := dk_16 43 (dk_at dksX4_sum_0 13 rfl rfl)
theorem dX4_sum_15 : decode cX4_sum 15 = .ok (.if_icmp .eq 12, 3) := dk_159 0 12 (dk_at dksX4_sum_0 15 rfl rfl)
theorem dX4_sum_18 : decode cX4_sum 18 = .ok (.aload_n 0, 1) := dk_42 (dk_at dksX4_sum_0 18 rfl rfl)
theorem dX4_sum_19 : decode cX4_sum 19 = .ok (.invokevirtual 96, 3) := dk_182 0 96 (dk_at dksX4_sum_0 19 rfl rfl)
theorem dX4_sum_22 : decode cX4_sum 22 = .ok (.bipush 45, 2) := dk_16 45 (dk_at dksX4_sum_0 22 rfl rfl)
theorem dX4_sum_24 : decode cX4_sum 24 = .ok (.if_icmp .ne 51, 3) := dk_160 0 51 (dk_at dksX4_sum_1 0 rfl rfl)
theorem dX4_sum_27 : decode cX4_sum 27 = .ok (.aload_n 0, 1) := dk_42 (dk_at dksX4_sum_1 3 rfl rfl)
theorem dX4_sum_28 : decode cX4_sum 28 = .ok (.getfield 7, 3) := dk_180 0 7 (dk_at dksX4_sum_1 4 rfl rfl)
theorem dX4_sum_31 : decode cX4_sum 31 = .ok (.aload_n 0, 1) := dk_42 (dk_at dksX4_sum_1 7 rfl rfl)
theorem dX4_sum_32 : decode cX4_sum 32 = .ok (.getfield 93, 3) := dk_180 0 93 (dk_at dksX4_sum_1 8 rfl rfl)
theorem dX4_sum_35 : decode cX4_sum 35 = .ok (.baload, 1) := dk_51 (dk_at dksX4_sum_1 11 rfl rfl)
theorem dX4_sum_36 : decode cX4_sum 36 = .ok (.bipush 43, 2) := dk_16 43 (dk_at dksX4_sum_1 12 rfl rfl)
theorem dX4_sum_38 : decode cX4_sum 38 = .ok (.if_icmp .ne 7, 3) := dk_160 0 7 (dk_at dksX4_sum_1 14 rfl rfl)
theorem dX4_sum_41 : decode cX4_sum 41 = .ok (.iconst 2, 1) := dk_5 (dk_at dksX4_sum_1 17 rfl rfl)
theorem dX4_sum_42 : decode cX4_sum 42 = .ok (.goto 4, 3) := dk_167 0 4 (dk_at dksX4_sum_1 18 rfl rfl)
theorem dX4_sum_45 : decode cX4_sum 45 = .ok (.iconst 3, 1) := dk_6 (dk_at dksX4_sum_1 21 rfl rfl)
theorem dX4_sum_46 : decode cX4_sum 46 = .ok (.istore_n 1, 1) := dk_60 (dk_at dksX4_sum_1 22 rfl rfl)
theorem dX4_sum_47 : decode cX4_sum 47 = .ok (.aload_n 0, 1) := dk_42 (dk_at dksX4_sum_1 23 rfl rfl)
theorem dX4_sum_48 : decode cX4_sum 48 = .ok (.dup, 1) := dk_89 (dk_at dksX4_sum_2 0 rfl rfl)
theorem dX4_sum_49 : decode cX4_sum 49 = .ok (.getfield 93, 3) := dk_180 0 93 (dk_at dksX4_sum_2 1 rfl rfl)
theorem dX4_sum_52 : decode cX4_sum 52 = .ok (.iconst 1, 1) := dk_4 (dk_at dksX4_sum_2 4 rfl rfl)
theorem dX4_sum_53 : decode cX4_sum 53 = .ok (.iadd, 1) := dk_96 (dk_at dksX4_sum_2 5 rfl rfl)
theorem dX4_sum_54 : decode cX4_sum 54 = .ok (.putfield 93, 3) := dk_181 0 93 (dk_at dksX4_sum_2 6 rfl rfl)
theorem dX4_sum_57 : decode cX4_sum 57 = .ok (.aload_n 0, 1) := dk_42 (dk_at dksX4_sum_2 9 rfl rfl)
theorem dX4_sum_58 : decode cX4_sum 58 = .ok (.invokevirtual 181, 3) := dk_182 0 181 (dk_at dksX4_sum_2 10 rfl rfl)
theorem dX4_sum_61 : decode cX4_sum 61 = .ok (.ifCond .ne 5, 3) := dk_154 0 5 (dk_at dksX4_sum_2 13 rfl rfl)
theorem dX4_sum_64 : decode cX4_sum 64 = .ok (.iconst 0, 1) := dk_3 (dk_at dksX4_sum_2 16 rfl rfl)
theorem dX4_sum_65 : decode cX4_sum 65 = .ok (.ireturn, 1) := dk_172 (dk_at dksX4_sum_2 17 rfl rfl)
theorem dX4_sum_66 : decode cX4_sum 66 = .ok (.aload_n 0, 1) := dk_42 (dk_at dksX4_sum_2 18 rfl rfl)
theorem dX4_sum_67 : decode cX4_sum 67 = .ok (.iload_n 1, 1) := dk_27 (dk_at dksX4_sum_2 19 rfl rfl)
theorem dX4_sum_68 : decode cX4_sum 68 = .ok (.iconst 0, 1) := dk_3 (dk_at dksX4_sum_2 20 rfl rfl)
theorem dX4_sum_69 : decode cX4_sum 69 = .ok (.invokevirtual 163, 3) := dk_182 0 163 (dk_at dksX4_sum_2 21 rfl rfl)
theorem dX4_sum_72 : decode cX4_sum 72 = .ok (.goto (-63), 3) := dk_167 255 193 (dk_at dksX4_sum_3 0 rfl rfl)
theorem dX4_sum_75 : decode cX4_sum 75 = .ok (.iconst 1, 1) := dk_4 (dk_at dksX4_sum_3 3 rfl rfl)
theorem dX4_sum_76 : decode cX4_sum 76 = .ok (.ireturn, 1) := dk_172 (dk_at dksX4_sum_3 4 rfl rfl)
abbrev cX4_term : ByteArray := prog_19_method_23_code
def yX4_term : MethodName := ⟨RX4, "term", "()Z"⟩
def dkwX4_term_4 : List UInt8 := [172, 42, 27, 3, 182, 0, 163, 167, 255, 165, 4, 172]
abbrev dktX4_term_4 : List UInt8 := dkwX4_term_4 ++ []
def dkwX4_term_3 : List UInt8 := [167, 0, 5, 16, 14, 60, 42, 89, 180, 0, 93, 4, 96, 181, 0, 93, 42, 182, 0, 177, 154, 0, 5, 3]
abbrev dktX4_term_3 : List UInt8 := dkwX4_term_3 ++ dktX4_term_4
def dkwX4_term_2 : List UInt8 := [160, 0, 7, 7, 167, 0, 23, 42, 180, 0, 7, 42, 180, 0, 93, 51, 16, 47, 160, 0, 7, 8]
abbrev dktX4_term_2 : List UInt8 := dkwX4_term_2 ++ dktX4_term_3
def dkwX4_term_1 : List UInt8 := [159, 0, 12, 42, 182, 0, 96, 16, 37, 160, 0, 70, 42, 180, 0, 7, 42, 180, 0, 93, 51, 16, 42]
abbrev dktX4_term_1 : List UInt8 := dkwX4_term_1 ++ dktX4_term_2
def dkwX4_term_0 : List UInt8 := [42, 182, 0, 177, 154, 0, 5, 3, 172, 42, 182, 0, 96, 16, 42, 159, 0, 21, 42, 182, 0, 96, 16, 47]
abbrev dktX4_term_0 : List UInt8 := dkwX4_term_0 ++ dktX4_term_1
theorem dksX4_term_0 : cX4_term.data.toList.drop 0 = dktX4_term_0 := by decide +kernel
theorem dksX4_term_1 : cX4_term.data.toList.drop 24 = dktX4_term_1 := dk_seg dksX4_term_0 24 rfl rfl
theorem dksX4_term_2 : cX4_term.data.toList.drop 47 = dktX4_term_2 := dk_seg dksX4_term_1 23 rfl rfl
theorem dksX4_term_3 : cX4_term.data.toList.drop 69 = dktX4_term_3 := dk_seg dksX4_term_2 22 rfl rfl
theorem dksX4_term_4 : cX4_term.data.toList.drop 93 = dktX4_term_4 := dk_seg dksX4_term_3 24 rfl rfl
theorem dX4_term_0 : decode cX4_term 0 = .ok (.aload_n 0, 1) := dk_42 (dk_at dksX4_term_0 0 rfl rfl)
theorem dX4_term_1 : decode cX4_term 1 = .ok (.invokevirtual 177, 3) := dk_182 0 177 (dk_at dksX4_term_0 1 rfl rfl)
theorem dX4_term_4 : decode cX4_term 4 = .ok (.ifCond .ne 5, 3) := dk_154 0 5 (dk_at dksX4_term_0 4 rfl rfl)
theorem dX4_term_7 : decode cX4_term 7 = .ok (.iconst 0, 1) := dk_3 (dk_at dksX4_term_0 7 rfl rfl)
theorem dX4_term_8 : decode cX4_term 8 = .ok (.ireturn, 1) := dk_172 (dk_at dksX4_term_0 8 rfl rfl)
theorem dX4_term_9 : decode cX4_term 9 = .ok (.aload_n 0, 1) := dk_42 (dk_at dksX4_term_0 9 rfl rfl)
theorem dX4_term_10 : decode cX4_term 10 = .ok (.invokevirtual 96, 3) := dk_182 0 96 (dk_at dksX4_term_0 10 rfl rfl)
theorem dX4_term_13 : decode cX4_term 13 = .ok (.bipush 42, 2) := dk_16 42 (dk_at dksX4_term_0 13 rfl rfl)
theorem dX4_term_15 : decode cX4_term 15 = .ok (.if_icmp .eq 21, 3) := dk_159 0 21 (dk_at dksX4_term_0 15 rfl rfl)
theorem dX4_term_18 : decode cX4_term 18 = .ok (.aload_n 0, 1) := dk_42 (dk_at dksX4_term_0 18 rfl rfl)
theorem dX4_term_19 : decode cX4_term 19 = .ok (.invokevirtual 96, 3) := dk_182 0 96 (dk_at dksX4_term_0 19 rfl rfl)
theorem dX4_term_22 : decode cX4_term 22 = .ok (.bipush 47, 2) := dk_16 47 (dk_at dksX4_term_0 22 rfl rfl)
theorem dX4_term_24 : decode cX4_term 24 = .ok (.if_icmp .eq 12, 3) := dk_159 0 12 (dk_at dksX4_term_1 0 rfl rfl)
theorem dX4_term_27 : decode cX4_term 27 = .ok (.aload_n 0, 1) := dk_42 (dk_at dksX4_term_1 3 rfl rfl)
theorem dX4_term_28 : decode cX4_term 28 = .ok (.invokevirtual 96, 3) := dk_182 0 96 (dk_at dksX4_term_1 4 rfl rfl)
theorem dX4_term_31 : decode cX4_term 31 = .ok (.bipush 37, 2) := dk_16 37 (dk_at dksX4_term_1 7 rfl rfl)
theorem dX4_term_33 : decode cX4_term 33 = .ok (.if_icmp .ne 70, 3) := dk_160 0 70 (dk_at dksX4_term_1 9 rfl rfl)
theorem dX4_term_36 : decode cX4_term 36 = .ok (.aload_n 0, 1) := dk_42 (dk_at dksX4_term_1 12 rfl rfl)
theorem dX4_term_37 : decode cX4_term 37 = .ok (.getfield 7, 3) := dk_180 0 7 (dk_at dksX4_term_1 13 rfl rfl)
theorem dX4_term_40 : decode cX4_term 40 = .ok (.aload_n 0, 1) := dk_42 (dk_at dksX4_term_1 16 rfl rfl)
theorem dX4_term_41 : decode cX4_term 41 = .ok (.getfield 93, 3) := dk_180 0 93 (dk_at dksX4_term_1 17 rfl rfl)
theorem dX4_term_44 : decode cX4_term 44 = .ok (.baload, 1) := dk_51 (dk_at dksX4_term_1 20 rfl rfl)
theorem dX4_term_45 : decode cX4_term 45 = .ok (.bipush 42, 2) := dk_16 42 (dk_at dksX4_term_1 21 rfl rfl)
theorem dX4_term_47 : decode cX4_term 47 = .ok (.if_icmp .ne 7, 3) := dk_160 0 7 (dk_at dksX4_term_2 0 rfl rfl)
theorem dX4_term_50 : decode cX4_term 50 = .ok (.iconst 4, 1) := dk_7 (dk_at dksX4_term_2 3 rfl rfl)
theorem dX4_term_51 : decode cX4_term 51 = .ok (.goto 23, 3) := dk_167 0 23 (dk_at dksX4_term_2 4 rfl rfl)
theorem dX4_term_54 : decode cX4_term 54 = .ok (.aload_n 0, 1) := dk_42 (dk_at dksX4_term_2 7 rfl rfl)
theorem dX4_term_55 : decode cX4_term 55 = .ok (.getfield 7, 3) := dk_180 0 7 (dk_at dksX4_term_2 8 rfl rfl)
theorem dX4_term_58 : decode cX4_term 58 = .ok (.aload_n 0, 1) := dk_42 (dk_at dksX4_term_2 11 rfl rfl)
theorem dX4_term_59 : decode cX4_term 59 = .ok (.getfield 93, 3) := dk_180 0 93 (dk_at dksX4_term_2 12 rfl rfl)
theorem dX4_term_62 : decode cX4_term 62 = .ok (.baload, 1) := dk_51 (dk_at dksX4_term_2 15 rfl rfl)
theorem dX4_term_63 : decode cX4_term 63 = .ok (.bipush 47, 2) := dk_16 47 (dk_at dksX4_term_2 16 rfl rfl)
theorem dX4_term_65 : decode cX4_term 65 = .ok (.if_icmp .ne 7, 3) := dk_160 0 7 (dk_at dksX4_term_2 18 rfl rfl)
theorem dX4_term_68 : decode cX4_term 68 = .ok (.iconst 5, 1) := dk_8 (dk_at dksX4_term_2 21 rfl rfl)
theorem dX4_term_69 : decode cX4_term 69 = .ok (.goto 5, 3) := dk_167 0 5 (dk_at dksX4_term_3 0 rfl rfl)
theorem dX4_term_72 : decode cX4_term 72 = .ok (.bipush 14, 2) := dk_16 14 (dk_at dksX4_term_3 3 rfl rfl)
theorem dX4_term_74 : decode cX4_term 74 = .ok (.istore_n 1, 1) := dk_60 (dk_at dksX4_term_3 5 rfl rfl)
theorem dX4_term_75 : decode cX4_term 75 = .ok (.aload_n 0, 1) := dk_42 (dk_at dksX4_term_3 6 rfl rfl)
theorem dX4_term_76 : decode cX4_term 76 = .ok (.dup, 1) := dk_89 (dk_at dksX4_term_3 7 rfl rfl)
theorem dX4_term_77 : decode cX4_term 77 = .ok (.getfield 93, 3) := dk_180 0 93 (dk_at dksX4_term_3 8 rfl rfl)
theorem dX4_term_80 : decode cX4_term 80 = .ok (.iconst 1, 1) := dk_4 (dk_at dksX4_term_3 11 rfl rfl)
theorem dX4_term_81 : decode cX4_term 81 = .ok (.iadd, 1) := dk_96 (dk_at dksX4_term_3 12 rfl rfl)
theorem dX4_term_82 : decode cX4_term 82 = .ok (.putfield 93, 3) := dk_181 0 93 (dk_at dksX4_term_3 13 rfl rfl)
theorem dX4_term_85 : decode cX4_term 85 = .ok (.aload_n 0, 1) := dk_42 (dk_at dksX4_term_3 16 rfl rfl)
theorem dX4_term_86 : decode cX4_term 86 = .ok (.invokevirtual 177, 3) := dk_182 0 177 (dk_at dksX4_term_3 17 rfl rfl)
theorem dX4_term_89 : decode cX4_term 89 = .ok (.ifCond .ne 5, 3) := dk_154 0 5 (dk_at dksX4_term_3 20 rfl rfl)
theorem dX4_term_92 : decode cX4_term 92 = .ok (.iconst 0, 1) := dk_3 (dk_at dksX4_term_3 23 rfl rfl)
theorem dX4_term_93 : decode cX4_term 93 = .ok (.ireturn, 1) := dk_172 (dk_at dksX4_term_4 0 rfl rfl)
theorem dX4_term_94 : decode cX4_term 94 = .ok (.aload_n 0, 1) := dk_42 (dk_at dksX4_term_4 1 rfl rfl)
theorem dX4_term_95 : decode cX4_term 95 = .ok (.iload_n 1, 1) := dk_27 (dk_at dksX4_term_4 2 rfl rfl)
theorem dX4_term_96 : decode cX4_term 96 = .ok (.iconst 0, 1) := dk_3 (dk_at dksX4_term_4 3 rfl rfl)
theorem dX4_term_97 : decode cX4_term 97 = .ok (.invokevirtual 163, 3) := dk_182 0 163 (dk_at dksX4_term_4 4 rfl rfl)
theorem dX4_term_100 : decode cX4_term 100 = .ok (.goto (-91), 3) := dk_167 255 165 (dk_at dksX4_term_4 7 rfl rfl)
theorem dX4_term_103 : decode cX4_term 103 = .ok (.iconst 1, 1) := dk_4 (dk_at dksX4_term_4 10 rfl rfl)
theorem dX4_term_104 : decode cX4_term 104 = .ok (.ireturn, 1) := dk_172 (dk_at dksX4_term_4 11 rfl rfl)
abbrev cX4_value : ByteArray := prog_19_method_22_code
def yX4_value : MethodName := ⟨RX4, "value", "()Z"⟩
def dkwX4_value_3 : List UInt8 := [182, 0, 171, 154, 0, 5, 3, 172, 42, 182, 0, 108, 42, 4, 28, 182, 0, 163, 4, 172]
abbrev dktX4_value_3 : List UInt8 := dkwX4_value_3 ++ []
def dkwX4_value_2 : List UInt8 := [182, 0, 163, 4, 172, 42, 182, 0, 174, 61, 28, 156, 0, 10, 42, 3, 27, 182, 0, 114, 172, 42, 27]
abbrev dktX4_value_2 : List UInt8 := dkwX4_value_2 ++ dktX4_value_3
def dkwX4_value_1 : List UInt8 := [18, 167, 182, 0, 168, 153, 0, 11, 42, 27, 182, 0, 171, 154, 0, 5, 3, 172, 42, 3, 42, 180, 0, 118]
abbrev dktX4_value_1 : List UInt8 := dkwX4_value_1 ++ dktX4_value_2
def dkwX4_value_0 : List UInt8 := [42, 182, 0, 96, 87, 42, 180, 0, 93, 60, 42, 42, 180, 0, 93, 182, 0, 111, 153, 0, 34, 42, 3]
abbrev dktX4_value_0 : List UInt8 := dkwX4_value_0 ++ dktX4_value_1
theorem dksX4_value_0 : cX4_value.data.toList.drop 0 = dktX4_value_0 := by decide +kernel
theorem dksX4_value_1 : cX4_value.data.toList.drop 23 = dktX4_value_1 := dk_seg dksX4_value_0 23 rfl rfl
theorem dksX4_value_2 : cX4_value.data.toList.drop 47 = dktX4_value_2 := dk_seg dksX4_value_1 24 rfl rfl
theorem dksX4_value_3 : cX4_value.data.toList.drop 70 = dktX4_value_3 := dk_seg dksX4_value_2 23 rfl rfl
theorem dX4_value_0 : decode cX4_value 0 = .ok (.aload_n 0, 1) := dk_42 (dk_at dksX4_value_0 0 rfl rfl)
theorem dX4_value_1 : decode cX4_value 1 = .ok (.invokevirtual 96, 3) := dk_182 0 96 (dk_at dksX4_value_0 1 rfl rfl)
theorem dX4_value_4 : decode cX4_value 4 = .ok (.pop, 1) := dk_87 (dk_at dksX4_value_0 4 rfl rfl)
theorem dX4_value_5 : decode cX4_value 5 = .ok (.aload_n 0, 1) := dk_42 (dk_at dksX4_value_0 5 rfl rfl)
theorem dX4_value_6 : decode cX4_value 6 = .ok (.getfield 93, 3) := dk_180 0 93 (dk_at dksX4_value_0 6 rfl rfl)
theorem dX4_value_9 : decode cX4_value 9 = .ok (.istore_n 1, 1) := dk_60 (dk_at dksX4_value_0 9 rfl rfl)
theorem dX4_value_10 : decode cX4_value 10 = .ok (.aload_n 0, 1) := dk_42 (dk_at dksX4_value_0 10 rfl rfl)
theorem dX4_value_11 : decode cX4_value 11 = .ok (.aload_n 0, 1) := dk_42 (dk_at dksX4_value_0 11 rfl rfl)
theorem dX4_value_12 : decode cX4_value 12 = .ok (.getfield 93, 3) := dk_180 0 93 (dk_at dksX4_value_0 12 rfl rfl)
theorem dX4_value_15 : decode cX4_value 15 = .ok (.invokevirtual 111, 3) := dk_182 0 111 (dk_at dksX4_value_0 15 rfl rfl)
theorem dX4_value_18 : decode cX4_value 18 = .ok (.ifCond .eq 34, 3) := dk_153 0 34 (dk_at dksX4_value_0 18 rfl rfl)
theorem dX4_value_21 : decode cX4_value 21 = .ok (.aload_n 0, 1) := dk_42 (dk_at dksX4_value_0 21 rfl rfl)
theorem dX4_value_22 : decode cX4_value 22 = .ok (.iconst 0, 1) := dk_3 (dk_at dksX4_value_0 22 rfl rfl)
theorem dX4_value_23 : decode cX4_value 23 = .ok (.ldc 167, 2) := dk_18 167 (dk_at dksX4_value_1 0 rfl rfl)
theorem dX4_value_25 : decode cX4_value 25 = .ok (.invokevirtual 168, 3) := dk_182 0 168 (dk_at dksX4_value_1 2 rfl rfl)
theorem dX4_value_28 : decode cX4_value 28 = .ok (.ifCond .eq 11, 3) := dk_153 0 11 (dk_at dksX4_value_1 5 rfl rfl)
theorem dX4_value_31 : decode cX4_value 31 = .ok (.aload_n 0, 1) := dk_42 (dk_at dksX4_value_1 8 rfl rfl)
theorem dX4_value_32 : decode cX4_value 32 = .ok (.iload_n 1, 1) := dk_27 (dk_at dksX4_value_1 9 rfl rfl)
theorem dX4_value_33 : decode cX4_value 33 = .ok (.invokevirtual 171, 3) := dk_182 0 171 (dk_at dksX4_value_1 10 rfl rfl)
theorem dX4_value_36 : decode cX4_value 36 = .ok (.ifCond .ne 5, 3) := dk_154 0 5 (dk_at dksX4_value_1 13 rfl rfl)
theorem dX4_value_39 : decode cX4_value 39 = .ok (.iconst 0, 1) := dk_3 (dk_at dksX4_value_1 16 rfl rfl)
theorem dX4_value_40 : decode cX4_value 40 = .ok (.ireturn, 1) := dk_172 (dk_at dksX4_value_1 17 rfl rfl)
theorem dX4_value_41 : decode cX4_value 41 = .ok (.aload_n 0, 1) := dk_42 (dk_at dksX4_value_1 18 rfl rfl)
theorem dX4_value_42 : decode cX4_value 42 = .ok (.iconst 0, 1) := dk_3 (dk_at dksX4_value_1 19 rfl rfl)
theorem dX4_value_43 : decode cX4_value 43 = .ok (.aload_n 0, 1) := dk_42 (dk_at dksX4_value_1 20 rfl rfl)
theorem dX4_value_44 : decode cX4_value 44 = .ok (.getfield 118, 3) := dk_180 0 118 (dk_at dksX4_value_1 21 rfl rfl)
theorem dX4_value_47 : decode cX4_value 47 = .ok (.invokevirtual 163, 3) := dk_182 0 163 (dk_at dksX4_value_2 0 rfl rfl)
theorem dX4_value_50 : decode cX4_value 50 = .ok (.iconst 1, 1) := dk_4 (dk_at dksX4_value_2 3 rfl rfl)
theorem dX4_value_51 : decode cX4_value 51 = .ok (.ireturn, 1) := dk_172 (dk_at dksX4_value_2 4 rfl rfl)
theorem dX4_value_52 : decode cX4_value 52 = .ok (.aload_n 0, 1) := dk_42 (dk_at dksX4_value_2 5 rfl rfl)
theorem dX4_value_53 : decode cX4_value 53 = .ok (.invokevirtual 174, 3) := dk_182 0 174 (dk_at dksX4_value_2 6 rfl rfl)
theorem dX4_value_56 : decode cX4_value 56 = .ok (.istore_n 2, 1) := dk_61 (dk_at dksX4_value_2 9 rfl rfl)
theorem dX4_value_57 : decode cX4_value 57 = .ok (.iload_n 2, 1) := dk_28 (dk_at dksX4_value_2 10 rfl rfl)
theorem dX4_value_58 : decode cX4_value 58 = .ok (.ifCond .ge 10, 3) := dk_156 0 10 (dk_at dksX4_value_2 11 rfl rfl)
theorem dX4_value_61 : decode cX4_value 61 = .ok (.aload_n 0, 1) := dk_42 (dk_at dksX4_value_2 14 rfl rfl)
theorem dX4_value_62 : decode cX4_value 62 = .ok (.iconst 0, 1) := dk_3 (dk_at dksX4_value_2 15 rfl rfl)
theorem dX4_value_63 : decode cX4_value 63 = .ok (.iload_n 1, 1) := dk_27 (dk_at dksX4_value_2 16 rfl rfl)
theorem dX4_value_64 : decode cX4_value 64 = .ok (.invokevirtual 114, 3) := dk_182 0 114 (dk_at dksX4_value_2 17 rfl rfl)
theorem dX4_value_67 : decode cX4_value 67 = .ok (.ireturn, 1) := dk_172 (dk_at dksX4_value_2 20 rfl rfl)
theorem dX4_value_68 : decode cX4_value 68 = .ok (.aload_n 0, 1) := dk_42 (dk_at dksX4_value_2 21 rfl rfl)
theorem dX4_value_69 : decode cX4_value 69 = .ok (.iload_n 1, 1) := dk_27 (dk_at dksX4_value_2 22 rfl rfl)
theorem dX4_value_70 : decode cX4_value 70 = .ok (.invokevirtual 171, 3) := dk_182 0 171 (dk_at dksX4_value_3 0 rfl rfl)
theorem dX4_value_73 : decode cX4_value 73 = .ok (.ifCond .ne 5, 3) := dk_154 0 5 (dk_at dksX4_value_3 3 rfl rfl)
theorem dX4_value_76 : decode cX4_value 76 = .ok (.iconst 0, 1) := dk_3 (dk_at dksX4_value_3 6 rfl rfl)
theorem dX4_value_77 : decode cX4_value 77 = .ok (.ireturn, 1) := dk_172 (dk_at dksX4_value_3 7 rfl rfl)
theorem dX4_value_78 : decode cX4_value 78 = .ok (.aload_n 0, 1) := dk_42 (dk_at dksX4_value_3 8 rfl rfl)
theorem dX4_value_79 : decode cX4_value 79 = .ok (.invokevirtual 108, 3) := dk_182 0 108 (dk_at dksX4_value_3 9 rfl rfl)
theorem dX4_value_82 : decode cX4_value 82 = .ok (.aload_n 0, 1) := dk_42 (dk_at dksX4_value_3 12 rfl rfl)
theorem dX4_value_83 : decode cX4_value 83 = .ok (.iconst 1, 1) := dk_4 (dk_at dksX4_value_3 13 rfl rfl)
theorem dX4_value_84 : decode cX4_value 84 = .ok (.iload_n 2, 1) := dk_28 (dk_at dksX4_value_3 14 rfl rfl)
theorem dX4_value_85 : decode cX4_value 85 = .ok (.invokevirtual 163, 3) := dk_182 0 163 (dk_at dksX4_value_3 15 rfl rfl)
theorem dX4_value_88 : decode cX4_value 88 = .ok (.iconst 1, 1) := dk_4 (dk_at dksX4_value_3 18 rfl rfl)
theorem dX4_value_89 : decode cX4_value 89 = .ok (.ireturn, 1) := dk_172 (dk_at dksX4_value_3 19 rfl rfl)
abbrev cX4_makes : ByteArray := prog_19_method_18_code
def yX4_makes : MethodName := ⟨RX4, "makes", "(I)Z"⟩
def dkwX4_makes_1 : List UInt8 := [181, 0, 150, 4, 172]
abbrev dktX4_makes_1 : List UInt8 := dkwX4_makes_1 ++ []
def dkwX4_makes_0 : List UInt8 := [42, 180, 0, 150, 16, 60, 160, 0, 10, 42, 6, 27, 182, 0, 114, 172, 42, 89, 180, 0, 150, 4, 96]
abbrev dktX4_makes_0 : List UInt8 := dkwX4_makes_0 ++ dktX4_makes_1
theorem dksX4_makes_0 : cX4_makes.data.toList.drop 0 = dktX4_makes_0 := by decide +kernel
theorem dksX4_makes_1 : cX4_makes.data.toList.drop 23 = dktX4_makes_1 := dk_seg dksX4_makes_0 23 rfl rfl
theorem dX4_makes_0 : decode cX4_makes 0 = .ok (.aload_n 0, 1) := dk_42 (dk_at dksX4_makes_0 0 rfl rfl)
theorem dX4_makes_1 : decode cX4_makes 1 = .ok (.getfield 150, 3) := dk_180 0 150 (dk_at dksX4_makes_0 1 rfl rfl)
theorem dX4_makes_4 : decode cX4_makes 4 = .ok (.bipush 60, 2) := dk_16 60 (dk_at dksX4_makes_0 4 rfl rfl)
theorem dX4_makes_6 : decode cX4_makes 6 = .ok (.if_icmp .ne 10, 3) := dk_160 0 10 (dk_at dksX4_makes_0 6 rfl rfl)
theorem dX4_makes_9 : decode cX4_makes 9 = .ok (.aload_n 0, 1) := dk_42 (dk_at dksX4_makes_0 9 rfl rfl)
theorem dX4_makes_10 : decode cX4_makes 10 = .ok (.iconst 3, 1) := dk_6 (dk_at dksX4_makes_0 10 rfl rfl)
theorem dX4_makes_11 : decode cX4_makes 11 = .ok (.iload_n 1, 1) := dk_27 (dk_at dksX4_makes_0 11 rfl rfl)
theorem dX4_makes_12 : decode cX4_makes 12 = .ok (.invokevirtual 114, 3) := dk_182 0 114 (dk_at dksX4_makes_0 12 rfl rfl)
theorem dX4_makes_15 : decode cX4_makes 15 = .ok (.ireturn, 1) := dk_172 (dk_at dksX4_makes_0 15 rfl rfl)
theorem dX4_makes_16 : decode cX4_makes 16 = .ok (.aload_n 0, 1) := dk_42 (dk_at dksX4_makes_0 16 rfl rfl)
theorem dX4_makes_17 : decode cX4_makes 17 = .ok (.dup, 1) := dk_89 (dk_at dksX4_makes_0 17 rfl rfl)
theorem dX4_makes_18 : decode cX4_makes 18 = .ok (.getfield 150, 3) := dk_180 0 150 (dk_at dksX4_makes_0 18 rfl rfl)
theorem dX4_makes_21 : decode cX4_makes 21 = .ok (.iconst 1, 1) := dk_4 (dk_at dksX4_makes_0 21 rfl rfl)
theorem dX4_makes_22 : decode cX4_makes 22 = .ok (.iadd, 1) := dk_96 (dk_at dksX4_makes_0 22 rfl rfl)
theorem dX4_makes_23 : decode cX4_makes 23 = .ok (.putfield 150, 3) := dk_181 0 150 (dk_at dksX4_makes_1 0 rfl rfl)
theorem dX4_makes_26 : decode cX4_makes 26 = .ok (.iconst 1, 1) := dk_4 (dk_at dksX4_makes_1 3 rfl rfl)
theorem dX4_makes_27 : decode cX4_makes 27 = .ok (.ireturn, 1) := dk_172 (dk_at dksX4_makes_1 4 rfl rfl)
abbrev cX4_puts : ByteArray := prog_19_method_17_code
def yX4_puts : MethodName := ⟨RX4, "puts", "(II)V"⟩
def dkwX4_puts_1 : List UInt8 := [16, 16, 28, 104, 96, 79, 42, 180, 0, 17, 42, 180, 0, 147, 92, 46, 4, 96, 79, 177]
abbrev dktX4_puts_1 : List UInt8 := dkwX4_puts_1 ++ []
def dkwX4_puts_0 : List UInt8 := [42, 180, 0, 13, 17, 1, 144, 42, 180, 0, 147, 104, 42, 180, 0, 17, 42, 180, 0, 147, 46, 96, 27]
abbrev dktX4_puts_0 : List UInt8 := dkwX4_puts_0 ++ dktX4_puts_1
theorem dksX4_puts_0 : cX4_puts.data.toList.drop 0 = dktX4_puts_0 := by decide +kernel
theorem dksX4_puts_1 : cX4_puts.data.toList.drop 23 = dktX4_puts_1 := dk_seg dksX4_puts_0 23 rfl rfl
theorem dX4_puts_0 : decode cX4_puts 0 = .ok (.aload_n 0, 1) := dk_42 (dk_at dksX4_puts_0 0 rfl rfl)
theorem dX4_puts_1 : decode cX4_puts 1 = .ok (.getfield 13, 3) := dk_180 0 13 (dk_at dksX4_puts_0 1 rfl rfl)
theorem dX4_puts_4 : decode cX4_puts 4 = .ok (.sipush 400, 3) := dk_17 1 144 (dk_at dksX4_puts_0 4 rfl rfl)
theorem dX4_puts_7 : decode cX4_puts 7 = .ok (.aload_n 0, 1) := dk_42 (dk_at dksX4_puts_0 7 rfl rfl)
theorem dX4_puts_8 : decode cX4_puts 8 = .ok (.getfield 147, 3) := dk_180 0 147 (dk_at dksX4_puts_0 8 rfl rfl)
theorem dX4_puts_11 : decode cX4_puts 11 = .ok (.imul, 1) := dk_104 (dk_at dksX4_puts_0 11 rfl rfl)
theorem dX4_puts_12 : decode cX4_puts 12 = .ok (.aload_n 0, 1) := dk_42 (dk_at dksX4_puts_0 12 rfl rfl)
theorem dX4_puts_13 : decode cX4_puts 13 = .ok (.getfield 17, 3) := dk_180 0 17 (dk_at dksX4_puts_0 13 rfl rfl)
theorem dX4_puts_16 : decode cX4_puts 16 = .ok (.aload_n 0, 1) := dk_42 (dk_at dksX4_puts_0 16 rfl rfl)
theorem dX4_puts_17 : decode cX4_puts 17 = .ok (.getfield 147, 3) := dk_180 0 147 (dk_at dksX4_puts_0 17 rfl rfl)
theorem dX4_puts_20 : decode cX4_puts 20 = .ok (.iaload, 1) := dk_46 (dk_at dksX4_puts_0 20 rfl rfl)
theorem dX4_puts_21 : decode cX4_puts 21 = .ok (.iadd, 1) := dk_96 (dk_at dksX4_puts_0 21 rfl rfl)
theorem dX4_puts_22 : decode cX4_puts 22 = .ok (.iload_n 1, 1) := dk_27 (dk_at dksX4_puts_0 22 rfl rfl)
theorem dX4_puts_23 : decode cX4_puts 23 = .ok (.bipush 16, 2) := dk_16 16 (dk_at dksX4_puts_1 0 rfl rfl)
theorem dX4_puts_25 : decode cX4_puts 25 = .ok (.iload_n 2, 1) := dk_28 (dk_at dksX4_puts_1 2 rfl rfl)
theorem dX4_puts_26 : decode cX4_puts 26 = .ok (.imul, 1) := dk_104 (dk_at dksX4_puts_1 3 rfl rfl)
theorem dX4_puts_27 : decode cX4_puts 27 = .ok (.iadd, 1) := dk_96 (dk_at dksX4_puts_1 4 rfl rfl)
theorem dX4_puts_28 : decode cX4_puts 28 = .ok (.iastore, 1) := dk_79 (dk_at dksX4_puts_1 5 rfl rfl)
theorem dX4_puts_29 : decode cX4_puts 29 = .ok (.aload_n 0, 1) := dk_42 (dk_at dksX4_puts_1 6 rfl rfl)
theorem dX4_puts_30 : decode cX4_puts 30 = .ok (.getfield 17, 3) := dk_180 0 17 (dk_at dksX4_puts_1 7 rfl rfl)
theorem dX4_puts_33 : decode cX4_puts 33 = .ok (.aload_n 0, 1) := dk_42 (dk_at dksX4_puts_1 10 rfl rfl)
theorem dX4_puts_34 : decode cX4_puts 34 = .ok (.getfield 147, 3) := dk_180 0 147 (dk_at dksX4_puts_1 11 rfl rfl)
theorem dX4_puts_37 : decode cX4_puts 37 = .ok (.dup2, 1) := dk_92 (dk_at dksX4_puts_1 14 rfl rfl)
theorem dX4_puts_38 : decode cX4_puts 38 = .ok (.iaload, 1) := dk_46 (dk_at dksX4_puts_1 15 rfl rfl)
theorem dX4_puts_39 : decode cX4_puts 39 = .ok (.iconst 1, 1) := dk_4 (dk_at dksX4_puts_1 16 rfl rfl)
theorem dX4_puts_40 : decode cX4_puts 40 = .ok (.iadd, 1) := dk_96 (dk_at dksX4_puts_1 17 rfl rfl)
theorem dX4_puts_41 : decode cX4_puts 41 = .ok (.iastore, 1) := dk_79 (dk_at dksX4_puts_1 18 rfl rfl)
theorem dX4_puts_42 : decode cX4_puts 42 = .ok (.return_, 1) := dk_177 (dk_at dksX4_puts_1 19 rfl rfl)
abbrev cX4_wordHere : ByteArray := prog_19_method_16_code
def yX4_wordHere : MethodName := ⟨RX4, "wordHere", "()I"⟩
def dkwX4_wordHere_6 : List UInt8 := [172]
abbrev dktX4_wordHere_6 : List UInt8 := dkwX4_wordHere_6 ++ []
def dkwX4_wordHere_5 : List UInt8 := [153, 0, 8, 16, 9, 167, 0, 19, 42, 20, 0, 145, 182, 0, 104, 153, 0, 8, 16, 10, 167, 0, 4, 2]
abbrev dktX4_wordHere_5 : List UInt8 := dkwX4_wordHere_5 ++ dktX4_wordHere_6
def dkwX4_wordHere_4 : List UInt8 := [16, 7, 172, 42, 20, 0, 141, 182, 0, 104, 153, 0, 6, 16, 8, 172, 42, 20, 0, 143, 182, 0, 104]
abbrev dktX4_wordHere_4 : List UInt8 := dkwX4_wordHere_4 ++ dktX4_wordHere_5
def dkwX4_wordHere_3 : List UInt8 := [42, 20, 0, 137, 182, 0, 104, 153, 0, 6, 16, 6, 172, 42, 20, 0, 139, 182, 0, 104, 153, 0, 6]
abbrev dktX4_wordHere_3 : List UInt8 := dkwX4_wordHere_3 ++ dktX4_wordHere_4
def dkwX4_wordHere_2 : List UInt8 := [42, 20, 0, 133, 182, 0, 104, 153, 0, 5, 7, 172, 42, 20, 0, 135, 182, 0, 104, 153, 0, 5, 8, 172]
abbrev dktX4_wordHere_2 : List UInt8 := dkwX4_wordHere_2 ++ dktX4_wordHere_3
def dkwX4_wordHere_1 : List UInt8 := [42, 20, 0, 129, 182, 0, 104, 153, 0, 5, 5, 172, 42, 20, 0, 131, 182, 0, 104, 153, 0, 5, 6, 172]
abbrev dktX4_wordHere_1 : List UInt8 := dkwX4_wordHere_1 ++ dktX4_wordHere_2
def dkwX4_wordHere_0 : List UInt8 := [42, 20, 0, 125, 182, 0, 104, 153, 0, 5, 3, 172, 42, 20, 0, 127, 182, 0, 104, 153, 0, 5, 4, 172]
abbrev dktX4_wordHere_0 : List UInt8 := dkwX4_wordHere_0 ++ dktX4_wordHere_1
theorem dksX4_wordHere_0 : cX4_wordHere.data.toList.drop 0 = dktX4_wordHere_0 := by decide +kernel
theorem dksX4_wordHere_1 : cX4_wordHere.data.toList.drop 24 = dktX4_wordHere_1 := dk_seg dksX4_wordHere_0 24 rfl rfl
theorem dksX4_wordHere_2 : cX4_wordHere.data.toList.drop 48 = dktX4_wordHere_2 := dk_seg dksX4_wordHere_1 24 rfl rfl
theorem dksX4_wordHere_3 : cX4_wordHere.data.toList.drop 72 = dktX4_wordHere_3 := dk_seg dksX4_wordHere_2 24 rfl rfl
theorem dksX4_wordHere_4 : cX4_wordHere.data.toList.drop 95 = dktX4_wordHere_4 := dk_seg dksX4_wordHere_3 23 rfl rfl
theorem dksX4_wordHere_5 : cX4_wordHere.data.toList.drop 118 = dktX4_wordHere_5 := dk_seg dksX4_wordHere_4 23 rfl rfl
theorem dksX4_wordHere_6 : cX4_wordHere.data.toList.drop 142 = dktX4_wordHere_6 := dk_seg dksX4_wordHere_5 24 rfl rfl
theorem dX4_wordHere_0 : decode cX4_wordHere 0 = .ok (.aload_n 0, 1) := dk_42 (dk_at dksX4_wordHere_0 0 rfl rfl)
theorem dX4_wordHere_1 : decode cX4_wordHere 1 = .ok (.ldc2_w 125, 3) := dk_20 0 125 (dk_at dksX4_wordHere_0 1 rfl rfl)
theorem dX4_wordHere_4 : decode cX4_wordHere 4 = .ok (.invokevirtual 104, 3) := dk_182 0 104 (dk_at dksX4_wordHere_0 4 rfl rfl)
theorem dX4_wordHere_7 : decode cX4_wordHere 7 = .ok (.ifCond .eq 5, 3) := dk_153 0 5 (dk_at dksX4_wordHere_0 7 rfl rfl)
theorem dX4_wordHere_10 : decode cX4_wordHere 10 = .ok (.iconst 0, 1) := dk_3 (dk_at dksX4_wordHere_0 10 rfl rfl)
theorem dX4_wordHere_11 : decode cX4_wordHere 11 = .ok (.ireturn, 1) := dk_172 (dk_at dksX4_wordHere_0 11 rfl rfl)
theorem dX4_wordHere_12 : decode cX4_wordHere 12 = .ok (.aload_n 0, 1) := dk_42 (dk_at dksX4_wordHere_0 12 rfl rfl)
theorem dX4_wordHere_13 : decode cX4_wordHere 13 = .ok (.ldc2_w 127, 3) := dk_20 0 127 (dk_at dksX4_wordHere_0 13 rfl rfl)
theorem dX4_wordHere_16 : decode cX4_wordHere 16 = .ok (.invokevirtual 104, 3) := dk_182 0 104 (dk_at dksX4_wordHere_0 16 rfl rfl)
theorem dX4_wordHere_19 : decode cX4_wordHere 19 = .ok (.ifCond .eq 5, 3) := dk_153 0 5 (dk_at dksX4_wordHere_0 19 rfl rfl)
theorem dX4_wordHere_22 : decode cX4_wordHere 22 = .ok (.iconst 1, 1) := dk_4 (dk_at dksX4_wordHere_0 22 rfl rfl)
theorem dX4_wordHere_23 : decode cX4_wordHere 23 = .ok (.ireturn, 1) := dk_172 (dk_at dksX4_wordHere_0 23 rfl rfl)
theorem dX4_wordHere_24 : decode cX4_wordHere 24 = .ok (.aload_n 0, 1) := dk_42 (dk_at dksX4_wordHere_1 0 rfl rfl)
theorem dX4_wordHere_25 : decode cX4_wordHere 25 = .ok (.ldc2_w 129, 3) := dk_20 0 129 (dk_at dksX4_wordHere_1 1 rfl rfl)
theorem dX4_wordHere_28 : decode cX4_wordHere 28 = .ok (.invokevirtual 104, 3) := dk_182 0 104 (dk_at dksX4_wordHere_1 4 rfl rfl)
theorem dX4_wordHere_31 : decode cX4_wordHere 31 = .ok (.ifCond .eq 5, 3) := dk_153 0 5 (dk_at dksX4_wordHere_1 7 rfl rfl)
theorem dX4_wordHere_34 : decode cX4_wordHere 34 = .ok (.iconst 2, 1) := dk_5 (dk_at dksX4_wordHere_1 10 rfl rfl)
theorem dX4_wordHere_35 : decode cX4_wordHere 35 = .ok (.ireturn, 1) := dk_172 (dk_at dksX4_wordHere_1 11 rfl rfl)
theorem dX4_wordHere_36 : decode cX4_wordHere 36 = .ok (.aload_n 0, 1) := dk_42 (dk_at dksX4_wordHere_1 12 rfl rfl)
theorem dX4_wordHere_37 : decode cX4_wordHere 37 = .ok (.ldc2_w 131, 3) := dk_20 0 131 (dk_at dksX4_wordHere_1 13 rfl rfl)
theorem dX4_wordHere_40 : decode cX4_wordHere 40 = .ok (.invokevirtual 104, 3) := dk_182 0 104 (dk_at dksX4_wordHere_1 16 rfl rfl)
theorem dX4_wordHere_43 : decode cX4_wordHere 43 = .ok (.ifCond .eq 5, 3) := dk_153 0 5 (dk_at dksX4_wordHere_1 19 rfl rfl)
theorem dX4_wordHere_46 : decode cX4_wordHere 46 = .ok (.iconst 3, 1) := dk_6 (dk_at dksX4_wordHere_1 22 rfl rfl)
theorem dX4_wordHere_47 : decode cX4_wordHere 47 = .ok (.ireturn, 1) := dk_172 (dk_at dksX4_wordHere_1 23 rfl rfl)
theorem dX4_wordHere_48 : decode cX4_wordHere 48 = .ok (.aload_n 0, 1) := dk_42 (dk_at dksX4_wordHere_2 0 rfl rfl)
theorem dX4_wordHere_49 : decode cX4_wordHere 49 = .ok (.ldc2_w 133, 3) := dk_20 0 133 (dk_at dksX4_wordHere_2 1 rfl rfl)
theorem dX4_wordHere_52 : decode cX4_wordHere 52 = .ok (.invokevirtual 104, 3) := dk_182 0 104 (dk_at dksX4_wordHere_2 4 rfl rfl)
theorem dX4_wordHere_55 : decode cX4_wordHere 55 = .ok (.ifCond .eq 5, 3) := dk_153 0 5 (dk_at dksX4_wordHere_2 7 rfl rfl)
theorem dX4_wordHere_58 : decode cX4_wordHere 58 = .ok (.iconst 4, 1) := dk_7 (dk_at dksX4_wordHere_2 10 rfl rfl)
theorem dX4_wordHere_59 : decode cX4_wordHere 59 = .ok (.ireturn, 1) := dk_172 (dk_at dksX4_wordHere_2 11 rfl rfl)
theorem dX4_wordHere_60 : decode cX4_wordHere 60 = .ok (.aload_n 0, 1) := dk_42 (dk_at dksX4_wordHere_2 12 rfl rfl)
theorem dX4_wordHere_61 : decode cX4_wordHere 61 = .ok (.ldc2_w 135, 3) := dk_20 0 135 (dk_at dksX4_wordHere_2 13 rfl rfl)
theorem dX4_wordHere_64 : decode cX4_wordHere 64 = .ok (.invokevirtual 104, 3) := dk_182 0 104 (dk_at dksX4_wordHere_2 16 rfl rfl)
theorem dX4_wordHere_67 : decode cX4_wordHere 67 = .ok (.ifCond .eq 5, 3) := dk_153 0 5 (dk_at dksX4_wordHere_2 19 rfl rfl)
theorem dX4_wordHere_70 : decode cX4_wordHere 70 = .ok (.iconst 5, 1) := dk_8 (dk_at dksX4_wordHere_2 22 rfl rfl)
theorem dX4_wordHere_71 : decode cX4_wordHere 71 = .ok (.ireturn, 1) := dk_172 (dk_at dksX4_wordHere_2 23 rfl rfl)
theorem dX4_wordHere_72 : decode cX4_wordHere 72 = .ok (.aload_n 0, 1) := dk_42 (dk_at dksX4_wordHere_3 0 rfl rfl)
theorem dX4_wordHere_73 : decode cX4_wordHere 73 = .ok (.ldc2_w 137, 3) := dk_20 0 137 (dk_at dksX4_wordHere_3 1 rfl rfl)
theorem dX4_wordHere_76 : decode cX4_wordHere 76 = .ok (.invokevirtual 104, 3) := dk_182 0 104 (dk_at dksX4_wordHere_3 4 rfl rfl)
theorem dX4_wordHere_79 : decode cX4_wordHere 79 = .ok (.ifCond .eq 6, 3) := dk_153 0 6 (dk_at dksX4_wordHere_3 7 rfl rfl)
theorem dX4_wordHere_82 : decode cX4_wordHere 82 = .ok (.bipush 6, 2) := dk_16 6 (dk_at dksX4_wordHere_3 10 rfl rfl)
theorem dX4_wordHere_84 : decode cX4_wordHere 84 = .ok (.ireturn, 1) := dk_172 (dk_at dksX4_wordHere_3 12 rfl rfl)
theorem dX4_wordHere_85 : decode cX4_wordHere 85 = .ok (.aload_n 0, 1) := dk_42 (dk_at dksX4_wordHere_3 13 rfl rfl)
theorem dX4_wordHere_86 : decode cX4_wordHere 86 = .ok (.ldc2_w 139, 3) := dk_20 0 139 (dk_at dksX4_wordHere_3 14 rfl rfl)
theorem dX4_wordHere_89 : decode cX4_wordHere 89 = .ok (.invokevirtual 104, 3) := dk_182 0 104 (dk_at dksX4_wordHere_3 17 rfl rfl)
theorem dX4_wordHere_92 : decode cX4_wordHere 92 = .ok (.ifCond .eq 6, 3) := dk_153 0 6 (dk_at dksX4_wordHere_3 20 rfl rfl)
theorem dX4_wordHere_95 : decode cX4_wordHere 95 = .ok (.bipush 7, 2) := dk_16 7 (dk_at dksX4_wordHere_4 0 rfl rfl)
theorem dX4_wordHere_97 : decode cX4_wordHere 97 = .ok (.ireturn, 1) := dk_172 (dk_at dksX4_wordHere_4 2 rfl rfl)
theorem dX4_wordHere_98 : decode cX4_wordHere 98 = .ok (.aload_n 0, 1) := dk_42 (dk_at dksX4_wordHere_4 3 rfl rfl)
theorem dX4_wordHere_99 : decode cX4_wordHere 99 = .ok (.ldc2_w 141, 3) := dk_20 0 141 (dk_at dksX4_wordHere_4 4 rfl rfl)
theorem dX4_wordHere_102 : decode cX4_wordHere 102 = .ok (.invokevirtual 104, 3) := dk_182 0 104 (dk_at dksX4_wordHere_4 7 rfl rfl)
theorem dX4_wordHere_105 : decode cX4_wordHere 105 = .ok (.ifCond .eq 6, 3) := dk_153 0 6 (dk_at dksX4_wordHere_4 10 rfl rfl)
theorem dX4_wordHere_108 : decode cX4_wordHere 108 = .ok (.bipush 8, 2) := dk_16 8 (dk_at dksX4_wordHere_4 13 rfl rfl)
theorem dX4_wordHere_110 : decode cX4_wordHere 110 = .ok (.ireturn, 1) := dk_172 (dk_at dksX4_wordHere_4 15 rfl rfl)
theorem dX4_wordHere_111 : decode cX4_wordHere 111 = .ok (.aload_n 0, 1) := dk_42 (dk_at dksX4_wordHere_4 16 rfl rfl)
theorem dX4_wordHere_112 : decode cX4_wordHere 112 = .ok (.ldc2_w 143, 3) := dk_20 0 143 (dk_at dksX4_wordHere_4 17 rfl rfl)
theorem dX4_wordHere_115 : decode cX4_wordHere 115 = .ok (.invokevirtual 104, 3) := dk_182 0 104 (dk_at dksX4_wordHere_4 20 rfl rfl)
theorem dX4_wordHere_118 : decode cX4_wordHere 118 = .ok (.ifCond .eq 8, 3) := dk_153 0 8 (dk_at dksX4_wordHere_5 0 rfl rfl)
theorem dX4_wordHere_121 : decode cX4_wordHere 121 = .ok (.bipush 9, 2) := dk_16 9 (dk_at dksX4_wordHere_5 3 rfl rfl)
theorem dX4_wordHere_123 : decode cX4_wordHere 123 = .ok (.goto 19, 3) := dk_167 0 19 (dk_at dksX4_wordHere_5 5 rfl rfl)
theorem dX4_wordHere_126 : decode cX4_wordHere 126 = .ok (.aload_n 0, 1) := dk_42 (dk_at dksX4_wordHere_5 8 rfl rfl)
theorem dX4_wordHere_127 : decode cX4_wordHere 127 = .ok (.ldc2_w 145, 3) := dk_20 0 145 (dk_at dksX4_wordHere_5 9 rfl rfl)
theorem dX4_wordHere_130 : decode cX4_wordHere 130 = .ok (.invokevirtual 104, 3) := dk_182 0 104 (dk_at dksX4_wordHere_5 12 rfl rfl)
theorem dX4_wordHere_133 : decode cX4_wordHere 133 = .ok (.ifCond .eq 8, 3) := dk_153 0 8 (dk_at dksX4_wordHere_5 15 rfl rfl)
theorem dX4_wordHere_136 : decode cX4_wordHere 136 = .ok (.bipush 10, 2) := dk_16 10 (dk_at dksX4_wordHere_5 18 rfl rfl)
theorem dX4_wordHere_138 : decode cX4_wordHere 138 = .ok (.goto 4, 3) := dk_167 0 4 (dk_at dksX4_wordHere_5 20 rfl rfl)
theorem dX4_wordHere_141 : decode cX4_wordHere 141 = .ok (.iconst (-1), 1) := dk_2 (dk_at dksX4_wordHere_5 23 rfl rfl)
theorem dX4_wordHere_142 : decode cX4_wordHere 142 = .ok (.ireturn, 1) := dk_172 (dk_at dksX4_wordHere_6 0 rfl rfl)
abbrev cX4_takesWord : ByteArray := prog_19_method_14_code
def yX4_takesWord : MethodName := ⟨RX4, "takesWord", "(J)Z"⟩
def dkwX4_takesWord_0 : List UInt8 := [42, 31, 182, 0, 104, 154, 0, 5, 3, 172, 42, 182, 0, 108, 4, 172]
abbrev dktX4_takesWord_0 : List UInt8 := dkwX4_takesWord_0 ++ []
theorem dksX4_takesWord_0 : cX4_takesWord.data.toList.drop 0 = dktX4_takesWord_0 := by decide +kernel
theorem dX4_takesWord_0 : decode cX4_takesWord 0 = .ok (.aload_n 0, 1) := dk_42 (dk_at dksX4_takesWord_0 0 rfl rfl)
theorem dX4_takesWord_1 : decode cX4_takesWord 1 = .ok (.lload_n 1, 1) := dk_31 (dk_at dksX4_takesWord_0 1 rfl rfl)
theorem dX4_takesWord_2 : decode cX4_takesWord 2 = .ok (.invokevirtual 104, 3) := dk_182 0 104 (dk_at dksX4_takesWord_0 2 rfl rfl)
theorem dX4_takesWord_5 : decode cX4_takesWord 5 = .ok (.ifCond .ne 5, 3) := dk_154 0 5 (dk_at dksX4_takesWord_0 5 rfl rfl)
theorem dX4_takesWord_8 : decode cX4_takesWord 8 = .ok (.iconst 0, 1) := dk_3 (dk_at dksX4_takesWord_0 8 rfl rfl)
theorem dX4_takesWord_9 : decode cX4_takesWord 9 = .ok (.ireturn, 1) := dk_172 (dk_at dksX4_takesWord_0 9 rfl rfl)
theorem dX4_takesWord_10 : decode cX4_takesWord 10 = .ok (.aload_n 0, 1) := dk_42 (dk_at dksX4_takesWord_0 10 rfl rfl)
theorem dX4_takesWord_11 : decode cX4_takesWord 11 = .ok (.invokevirtual 108, 3) := dk_182 0 108 (dk_at dksX4_takesWord_0 11 rfl rfl)
theorem dX4_takesWord_14 : decode cX4_takesWord 14 = .ok (.iconst 1, 1) := dk_4 (dk_at dksX4_takesWord_0 14 rfl rfl)
theorem dX4_takesWord_15 : decode cX4_takesWord 15 = .ok (.ireturn, 1) := dk_172 (dk_at dksX4_takesWord_0 15 rfl rfl)
abbrev cX4_tested : ByteArray := prog_19_method_29_code
def yX4_tested : MethodName := ⟨RX4, "tested", "()Z"⟩
def dkwX4_tested_6 : List UInt8 := [172]
abbrev dktX4_tested_6 : List UInt8 := dkwX4_tested_6 ++ []
def dkwX4_tested_5 : List UInt8 := [153, 0, 18, 42, 182, 0, 96, 87, 42, 3, 42, 180, 0, 93, 182, 0, 114, 172, 42, 4, 182, 0, 195, 4]
abbrev dktX4_tested_5 : List UInt8 := dkwX4_tested_5 ++ dktX4_tested_6
def dkwX4_tested_4 : List UInt8 := [42, 180, 0, 156, 28, 79, 42, 89, 180, 0, 156, 4, 96, 181, 0, 156, 167, 255, 159, 42, 182, 0, 198]
abbrev dktX4_tested_4 : List UInt8 := dkwX4_tested_4 ++ dktX4_tested_5
def dkwX4_tested_3 : List UInt8 := [16, 12, 167, 0, 5, 16, 13, 61, 42, 182, 0, 108, 42, 28, 184, 0, 159, 182, 0, 195, 42, 180, 0, 29]
abbrev dktX4_tested_3 : List UInt8 := dkwX4_tested_3 ++ dktX4_tested_4
def dkwX4_tested_2 : List UInt8 := [153, 0, 7, 4, 167, 0, 4, 3, 60, 27, 153, 255, 212, 42, 20, 0, 207, 182, 0, 104, 153, 0, 8]
abbrev dktX4_tested_2 : List UInt8 := dkwX4_tested_2 ++ dktX4_tested_3
def dkwX4_tested_1 : List UInt8 := [172, 42, 182, 0, 204, 42, 20, 0, 207, 182, 0, 104, 154, 0, 13, 42, 20, 0, 209, 182, 0, 104]
abbrev dktX4_tested_1 : List UInt8 := dkwX4_tested_1 ++ dktX4_tested_2
def dkwX4_tested_0 : List UInt8 := [42, 3, 181, 0, 156, 42, 3, 181, 0, 153, 4, 60, 27, 153, 0, 99, 42, 182, 0, 201, 154, 0, 5, 3]
abbrev dktX4_tested_0 : List UInt8 := dkwX4_tested_0 ++ dktX4_tested_1
theorem dksX4_tested_0 : cX4_tested.data.toList.drop 0 = dktX4_tested_0 := by decide +kernel
theorem dksX4_tested_1 : cX4_tested.data.toList.drop 24 = dktX4_tested_1 := dk_seg dksX4_tested_0 24 rfl rfl
theorem dksX4_tested_2 : cX4_tested.data.toList.drop 46 = dktX4_tested_2 := dk_seg dksX4_tested_1 22 rfl rfl
theorem dksX4_tested_3 : cX4_tested.data.toList.drop 69 = dktX4_tested_3 := dk_seg dksX4_tested_2 23 rfl rfl
theorem dksX4_tested_4 : cX4_tested.data.toList.drop 93 = dktX4_tested_4 := dk_seg dksX4_tested_3 24 rfl rfl
theorem dksX4_tested_5 : cX4_tested.data.toList.drop 116 = dktX4_tested_5 := dk_seg dksX4_tested_4 23 rfl rfl
theorem dksX4_tested_6 : cX4_tested.data.toList.drop 140 = dktX4_tested_6 := dk_seg dksX4_tested_5 24 rfl rfl
theorem dX4_tested_0 : decode cX4_tested 0 = .ok (.aload_n 0, 1) := dk_42 (dk_at dksX4_tested_0 0 rfl rfl)
theorem dX4_tested_1 : decode cX4_tested 1 = .ok (.iconst 0, 1) := dk_3 (dk_at dksX4_tested_0 1 rfl rfl)
theorem dX4_tested_2 : decode cX4_tested 2 = .ok (.putfield 156, 3) := dk_181 0 156 (dk_at dksX4_tested_0 2 rfl rfl)
theorem dX4_tested_5 : decode cX4_tested 5 = .ok (.aload_n 0, 1) := dk_42 (dk_at dksX4_tested_0 5 rfl rfl)
theorem dX4_tested_6 : decode cX4_tested 6 = .ok (.iconst 0, 1) := dk_3 (dk_at dksX4_tested_0 6 rfl rfl)
theorem dX4_tested_7 : decode cX4_tested 7 = .ok (.putfield 153, 3) := dk_181 0 153 (dk_at dksX4_tested_0 7 rfl rfl)
theorem dX4_tested_10 : decode cX4_tested 10 = .ok (.iconst 1, 1) := dk_4 (dk_at dksX4_tested_0 10 rfl rfl)
theorem dX4_tested_11 : decode cX4_tested 11 = .ok (.istore_n 1, 1) := dk_60 (dk_at dksX4_tested_0 11 rfl rfl)
theorem dX4_tested_12 : decode cX4_tested 12 = .ok (.iload_n 1, 1) := dk_27 (dk_at dksX4_tested_0 12 rfl rfl)
theorem dX4_tested_13 : decode cX4_tested 13 = .ok (.ifCond .eq 99, 3) := dk_153 0 99 (dk_at dksX4_tested_0 13 rfl rfl)
theorem dX4_tested_16 : decode cX4_tested 16 = .ok (.aload_n 0, 1) := dk_42 (dk_at dksX4_tested_0 16 rfl rfl)
theorem dX4_tested_17 : decode cX4_tested 17 = .ok (.invokevirtual 201, 3) := dk_182 0 201 (dk_at dksX4_tested_0 17 rfl rfl)
theorem dX4_tested_20 : decode cX4_tested 20 = .ok (.ifCond .ne 5, 3) := dk_154 0 5 (dk_at dksX4_tested_0 20 rfl rfl)
theorem dX4_tested_23 : decode cX4_tested 23 = .ok (.iconst 0, 1) := dk_3 (dk_at dksX4_tested_0 23 rfl rfl)
theorem dX4_tested_24 : decode cX4_tested 24 = .ok (.ireturn, 1) := dk_172 (dk_at dksX4_tested_1 0 rfl rfl)
theorem dX4_tested_25 : decode cX4_tested 25 = .ok (.aload_n 0, 1) := dk_42 (dk_at dksX4_tested_1 1 rfl rfl)
theorem dX4_tested_26 : decode cX4_tested 26 = .ok (.invokevirtual 204, 3) := dk_182 0 204 (dk_at dksX4_tested_1 2 rfl rfl)
theorem dX4_tested_29 : decode cX4_tested 29 = .ok (.aload_n 0, 1) := dk_42 (dk_at dksX4_tested_1 5 rfl rfl)
theorem dX4_tested_30 : decode cX4_tested 30 = .ok (.ldc2_w 207, 3) := dk_20 0 207 (dk_at dksX4_tested_1 6 rfl rfl)
theorem dX4_tested_33 : decode cX4_tested 33 = .ok (.invokevirtual 104, 3) := dk_182 0 104 (dk_at dksX4_tested_1 9 rfl rfl)
theorem dX4_tested_36 : decode cX4_tested 36 = .ok (.ifCond .ne 13, 3) := dk_154 0 13 (dk_at dksX4_tested_1 12 rfl rfl)
theorem dX4_tested_39 : decode cX4_tested 39 = .ok (.aload_n 0, 1) := dk_42 (dk_at dksX4_tested_1 15 rfl rfl)
theorem dX4_tested_40 : decode cX4_tested 40 = .ok (.ldc2_w 209, 3) := dk_20 0 209 (dk_at dksX4_tested_1 16 rfl rfl)
theorem dX4_tested_43 : decode cX4_tested 43 = .ok (.invokevirtual 104, 3) := dk_182 0 104 (dk_at dksX4_tested_1 19 rfl rfl)
theorem dX4_tested_46 : decode cX4_tested 46 = .ok (.ifCond .eq 7, 3) := dk_153 0 7 (dk_at dksX4_tested_2 0 rfl rfl)
theorem dX4_tested_49 : decode cX4_tested 49 = .ok (.iconst 1, 1) := dk_4 (dk_at dksX4_tested_2 3 rfl rfl)
theorem dX4_tested_50 : decode cX4_tested 50 = .ok (.goto 4, 3) := dk_167 0 4 (dk_at dksX4_tested_2 4 rfl rfl)
theorem dX4_tested_53 : decode cX4_tested 53 = .ok (.iconst 0, 1) := dk_3 (dk_at dksX4_tested_2 7 rfl rfl)
theorem dX4_tested_54 : decode cX4_tested 54 = .ok (.istore_n 1, 1) := dk_60 (dk_at dksX4_tested_2 8 rfl rfl)
theorem dX4_tested_55 : decode cX4_tested 55 = .ok (.iload_n 1, 1) := dk_27 (dk_at dksX4_tested_2 9 rfl rfl)
theorem dX4_tested_56 : decode cX4_tested 56 = .ok (.ifCond .eq (-44), 3) := dk_153 255 212 (dk_at dksX4_tested_2 10 rfl rfl)
theorem dX4_tested_59 : decode cX4_tested 59 = .ok (.aload_n 0, 1) := dk_42 (dk_at dksX4_tested_2 13 rfl rfl)
theorem dX4_tested_60 : decode cX4_tested 60 = .ok (.ldc2_w 207, 3) := dk_20 0 207 (dk_at dksX4_tested_2 14 rfl rfl)
theorem dX4_tested_63 : decode cX4_tested 63 = .ok (.invokevirtual 104, 3) := dk_182 0 104 (dk_at dksX4_tested_2 17 rfl rfl)
theorem dX4_tested_66 : decode cX4_tested 66 = .ok (.ifCond .eq 8, 3) := dk_153 0 8 (dk_at dksX4_tested_2 20 rfl rfl)
theorem dX4_tested_69 : decode cX4_tested 69 = .ok (.bipush 12, 2) := dk_16 12 (dk_at dksX4_tested_3 0 rfl rfl)
theorem dX4_tested_71 : decode cX4_tested 71 = .ok (.goto 5, 3) := dk_167 0 5 (dk_at dksX4_tested_3 2 rfl rfl)
theorem dX4_tested_74 : decode cX4_tested 74 = .ok (.bipush 13, 2) := dk_16 13 (dk_at dksX4_tested_3 5 rfl rfl)
theorem dX4_tested_76 : decode cX4_tested 76 = .ok (.istore_n 2, 1) := dk_61 (dk_at dksX4_tested_3 7 rfl rfl)
theorem dX4_tested_77 : decode cX4_tested 77 = .ok (.aload_n 0, 1) := dk_42 (dk_at dksX4_tested_3 8 rfl rfl)
theorem dX4_tested_78 : decode cX4_tested 78 = .ok (.invokevirtual 108, 3) := dk_182 0 108 (dk_at dksX4_tested_3 9 rfl rfl)
theorem dX4_tested_81 : decode cX4_tested 81 = .ok (.aload_n 0, 1) := dk_42 (dk_at dksX4_tested_3 12 rfl rfl)
theorem dX4_tested_82 : decode cX4_tested 82 = .ok (.iload_n 2, 1) := dk_28 (dk_at dksX4_tested_3 13 rfl rfl)
theorem dX4_tested_83 : decode cX4_tested 83 = .ok (.invokestatic 159, 3) := dk_184 0 159 (dk_at dksX4_tested_3 14 rfl rfl)
theorem dX4_tested_86 : decode cX4_tested 86 = .ok (.invokevirtual 195, 3) := dk_182 0 195 (dk_at dksX4_tested_3 17 rfl rfl)
theorem dX4_tested_89 : decode cX4_tested 89 = .ok (.aload_n 0, 1) := dk_42 (dk_at dksX4_tested_3 20 rfl rfl)
theorem dX4_tested_90 : decode cX4_tested 90 = .ok (.getfield 29, 3) := dk_180 0 29 (dk_at dksX4_tested_3 21 rfl rfl)
theorem dX4_tested_93 : decode cX4_tested 93 = .ok (.aload_n 0, 1) := dk_42 (dk_at dksX4_tested_4 0 rfl rfl)
theorem dX4_tested_94 : decode cX4_tested 94 = .ok (.getfield 156, 3) := dk_180 0 156 (dk_at dksX4_tested_4 1 rfl rfl)
theorem dX4_tested_97 : decode cX4_tested 97 = .ok (.iload_n 2, 1) := dk_28 (dk_at dksX4_tested_4 4 rfl rfl)
theorem dX4_tested_98 : decode cX4_tested 98 = .ok (.iastore, 1) := dk_79 (dk_at dksX4_tested_4 5 rfl rfl)
theorem dX4_tested_99 : decode cX4_tested 99 = .ok (.aload_n 0, 1) := dk_42 (dk_at dksX4_tested_4 6 rfl rfl)
theorem dX4_tested_100 : decode cX4_tested 100 = .ok (.dup, 1) := dk_89 (dk_at dksX4_tested_4 7 rfl rfl)
theorem dX4_tested_101 : decode cX4_tested 101 = .ok (.getfield 156, 3) := dk_180 0 156 (dk_at dksX4_tested_4 8 rfl rfl)
theorem dX4_tested_104 : decode cX4_tested 104 = .ok (.iconst 1, 1) := dk_4 (dk_at dksX4_tested_4 11 rfl rfl)
theorem dX4_tested_105 : decode cX4_tested 105 = .ok (.iadd, 1) := dk_96 (dk_at dksX4_tested_4 12 rfl rfl)
theorem dX4_tested_106 : decode cX4_tested 106 = .ok (.putfield 156, 3) := dk_181 0 156 (dk_at dksX4_tested_4 13 rfl rfl)
theorem dX4_tested_109 : decode cX4_tested 109 = .ok (.goto (-97), 3) := dk_167 255 159 (dk_at dksX4_tested_4 16 rfl rfl)
theorem dX4_tested_112 : decode cX4_tested 112 = .ok (.aload_n 0, 1) := dk_42 (dk_at dksX4_tested_4 19 rfl rfl)
theorem dX4_tested_113 : decode cX4_tested 113 = .ok (.invokevirtual 198, 3) := dk_182 0 198 (dk_at dksX4_tested_4 20 rfl rfl)
theorem dX4_tested_116 : decode cX4_tested 116 = .ok (.ifCond .eq 18, 3) := dk_153 0 18 (dk_at dksX4_tested_5 0 rfl rfl)
theorem dX4_tested_119 : decode cX4_tested 119 = .ok (.aload_n 0, 1) := dk_42 (dk_at dksX4_tested_5 3 rfl rfl)
theorem dX4_tested_120 : decode cX4_tested 120 = .ok (.invokevirtual 96, 3) := dk_182 0 96 (dk_at dksX4_tested_5 4 rfl rfl)
theorem dX4_tested_123 : decode cX4_tested 123 = .ok (.pop, 1) := dk_87 (dk_at dksX4_tested_5 7 rfl rfl)
theorem dX4_tested_124 : decode cX4_tested 124 = .ok (.aload_n 0, 1) := dk_42 (dk_at dksX4_tested_5 8 rfl rfl)
theorem dX4_tested_125 : decode cX4_tested 125 = .ok (.iconst 0, 1) := dk_3 (dk_at dksX4_tested_5 9 rfl rfl)
theorem dX4_tested_126 : decode cX4_tested 126 = .ok (.aload_n 0, 1) := dk_42 (dk_at dksX4_tested_5 10 rfl rfl)
theorem dX4_tested_127 : decode cX4_tested 127 = .ok (.getfield 93, 3) := dk_180 0 93 (dk_at dksX4_tested_5 11 rfl rfl)
theorem dX4_tested_130 : decode cX4_tested 130 = .ok (.invokevirtual 114, 3) := dk_182 0 114 (dk_at dksX4_tested_5 14 rfl rfl)
theorem dX4_tested_133 : decode cX4_tested 133 = .ok (.ireturn, 1) := dk_172 (dk_at dksX4_tested_5 17 rfl rfl)
theorem dX4_tested_134 : decode cX4_tested 134 = .ok (.aload_n 0, 1) := dk_42 (dk_at dksX4_tested_5 18 rfl rfl)
theorem dX4_tested_135 : decode cX4_tested 135 = .ok (.iconst 1, 1) := dk_4 (dk_at dksX4_tested_5 19 rfl rfl)
theorem dX4_tested_136 : decode cX4_tested 136 = .ok (.invokevirtual 195, 3) := dk_182 0 195 (dk_at dksX4_tested_5 20 rfl rfl)
theorem dX4_tested_139 : decode cX4_tested 139 = .ok (.iconst 1, 1) := dk_4 (dk_at dksX4_tested_5 23 rfl rfl)
theorem dX4_tested_140 : decode cX4_tested 140 = .ok (.ireturn, 1) := dk_172 (dk_at dksX4_tested_6 0 rfl rfl)
abbrev cX4_fact : ByteArray := prog_19_method_26_code
def yX4_fact : MethodName := ⟨RX4, "fact", "()Z"⟩
def dkwX4_fact_3 : List UInt8 := [4, 60, 167, 255, 186, 42, 182, 0, 192, 172]
abbrev dktX4_fact_3 : List UInt8 := dkwX4_fact_3 ++ []
def dkwX4_fact_2 : List UInt8 := [160, 0, 26, 42, 16, 91, 182, 0, 189, 154, 0, 5, 3, 172, 42, 89, 180, 0, 93, 4, 96, 181, 0, 93]
abbrev dktX4_fact_2 : List UInt8 := dkwX4_fact_2 ++ dktX4_fact_3
def dkwX4_fact_1 : List UInt8 := [16, 11, 182, 0, 189, 154, 0, 5, 3, 172, 42, 182, 0, 108, 4, 60, 167, 0, 32, 28, 16, 91]
abbrev dktX4_fact_1 : List UInt8 := dkwX4_fact_1 ++ dktX4_fact_2
def dkwX4_fact_0 : List UInt8 := [4, 60, 27, 153, 0, 72, 3, 60, 42, 182, 0, 96, 61, 42, 20, 0, 187, 182, 0, 104, 153, 0, 23, 42]
abbrev dktX4_fact_0 : List UInt8 := dkwX4_fact_0 ++ dktX4_fact_1
theorem dksX4_fact_0 : cX4_fact.data.toList.drop 0 = dktX4_fact_0 := by decide +kernel
theorem dksX4_fact_1 : cX4_fact.data.toList.drop 24 = dktX4_fact_1 := dk_seg dksX4_fact_0 24 rfl rfl
theorem dksX4_fact_2 : cX4_fact.data.toList.drop 46 = dktX4_fact_2 := dk_seg dksX4_fact_1 22 rfl rfl
theorem dksX4_fact_3 : cX4_fact.data.toList.drop 70 = dktX4_fact_3 := dk_seg dksX4_fact_2 24 rfl rfl
theorem dX4_fact_0 : decode cX4_fact 0 = .ok (.iconst 1, 1) := dk_4 (dk_at dksX4_fact_0 0 rfl rfl)
theorem dX4_fact_1 : decode cX4_fact 1 = .ok (.istore_n 1, 1) := dk_60 (dk_at dksX4_fact_0 1 rfl rfl)
theorem dX4_fact_2 : decode cX4_fact 2 = .ok (.iload_n 1, 1) := dk_27 (dk_at dksX4_fact_0 2 rfl rfl)
theorem dX4_fact_3 : decode cX4_fact 3 = .ok (.ifCond .eq 72, 3) := dk_153 0 72 (dk_at dksX4_fact_0 3 rfl rfl)
theorem dX4_fact_6 : decode cX4_fact 6 = .ok (.iconst 0, 1) := dk_3 (dk_at dksX4_fact_0 6 rfl rfl)
theorem dX4_fact_7 : decode cX4_fact 7 = .ok (.istore_n 1, 1) := dk_60 (dk_at dksX4_fact_0 7 rfl rfl)
theorem dX4_fact_8 : decode cX4_fact 8 = .ok (.aload_n 0, 1) := dk_42 (dk_at dksX4_fact_0 8 rfl rfl)
theorem dX4_fact_9 : decode cX4_fact 9 = .ok (.invokevirtual 96, 3) := dk_182 0 96 (dk_at dksX4_fact_0 9 rfl rfl)
theorem dX4_fact_12 : decode cX4_fact 12 = .ok (.istore_n 2, 1) := dk_61 (dk_at dksX4_fact_0 12 rfl rfl)
theorem dX4_fact_13 : decode cX4_fact 13 = .ok (.aload_n 0, 1) := dk_42 (dk_at dksX4_fact_0 13 rfl rfl)
theorem dX4_fact_14 : decode cX4_fact 14 = .ok (.ldc2_w 187, 3) := dk_20 0 187 (dk_at dksX4_fact_0 14 rfl rfl)
theorem dX4_fact_17 : decode cX4_fact 17 = .ok (.invokevirtual 104, 3) := dk_182 0 104 (dk_at dksX4_fact_0 17 rfl rfl)
theorem dX4_fact_20 : decode cX4_fact 20 = .ok (.ifCond .eq 23, 3) := dk_153 0 23 (dk_at dksX4_fact_0 20 rfl rfl)
theorem dX4_fact_23 : decode cX4_fact 23 = .ok (.aload_n 0, 1) := dk_42 (dk_at dksX4_fact_0 23 rfl rfl)
theorem dX4_fact_24 : decode cX4_fact 24 = .ok (.bipush 11, 2) := dk_16 11 (dk_at dksX4_fact_1 0 rfl rfl)
theorem dX4_fact_26 : decode cX4_fact 26 = .ok (.invokevirtual 189, 3) := dk_182 0 189 (dk_at dksX4_fact_1 2 rfl rfl)
theorem dX4_fact_29 : decode cX4_fact 29 = .ok (.ifCond .ne 5, 3) := dk_154 0 5 (dk_at dksX4_fact_1 5 rfl rfl)
theorem dX4_fact_32 : decode cX4_fact 32 = .ok (.iconst 0, 1) := dk_3 (dk_at dksX4_fact_1 8 rfl rfl)
theorem dX4_fact_33 : decode cX4_fact 33 = .ok (.ireturn, 1) := dk_172 (dk_at dksX4_fact_1 9 rfl rfl)
theorem dX4_fact_34 : decode cX4_fact 34 = .ok (.aload_n 0, 1) := dk_42 (dk_at dksX4_fact_1 10 rfl rfl)
theorem dX4_fact_35 : decode cX4_fact 35 = .ok (.invokevirtual 108, 3) := dk_182 0 108 (dk_at dksX4_fact_1 11 rfl rfl)
theorem dX4_fact_38 : decode cX4_fact 38 = .ok (.iconst 1, 1) := dk_4 (dk_at dksX4_fact_1 14 rfl rfl)
theorem dX4_fact_39 : decode cX4_fact 39 = .ok (.istore_n 1, 1) := dk_60 (dk_at dksX4_fact_1 15 rfl rfl)
theorem dX4_fact_40 : decode cX4_fact 40 = .ok (.goto 32, 3) := dk_167 0 32 (dk_at dksX4_fact_1 16 rfl rfl)
theorem dX4_fact_43 : decode cX4_fact 43 = .ok (.iload_n 2, 1) := dk_28 (dk_at dksX4_fact_1 19 rfl rfl)
theorem dX4_fact_44 : decode cX4_fact 44 = .ok (.bipush 91, 2) := dk_16 91 (dk_at dksX4_fact_1 20 rfl rfl)
theorem dX4_fact_46 : decode cX4_fact 46 = .ok (.if_icmp .ne 26, 3) := dk_160 0 26 (dk_at dksX4_fact_2 0 rfl rfl)
theorem dX4_fact_49 : decode cX4_fact 49 = .ok (.aload_n 0, 1) := dk_42 (dk_at dksX4_fact_2 3 rfl rfl)
theorem dX4_fact_50 : decode cX4_fact 50 = .ok (.bipush 91, 2) := dk_16 91 (dk_at dksX4_fact_2 4 rfl rfl)
theorem dX4_fact_52 : decode cX4_fact 52 = .ok (.invokevirtual 189, 3) := dk_182 0 189 (dk_at dksX4_fact_2 6 rfl rfl)
theorem dX4_fact_55 : decode cX4_fact 55 = .ok (.ifCond .ne 5, 3) := dk_154 0 5 (dk_at dksX4_fact_2 9 rfl rfl)
theorem dX4_fact_58 : decode cX4_fact 58 = .ok (.iconst 0, 1) := dk_3 (dk_at dksX4_fact_2 12 rfl rfl)
theorem dX4_fact_59 : decode cX4_fact 59 = .ok (.ireturn, 1) := dk_172 (dk_at dksX4_fact_2 13 rfl rfl)
theorem dX4_fact_60 : decode cX4_fact 60 = .ok (.aload_n 0, 1) := dk_42 (dk_at dksX4_fact_2 14 rfl rfl)
theorem dX4_fact_61 : decode cX4_fact 61 = .ok (.dup, 1) := dk_89 (dk_at dksX4_fact_2 15 rfl rfl)
theorem dX4_fact_62 : decode cX4_fact 62 = .ok (.getfield 93, 3) := dk_180 0 93 (dk_at dksX4_fact_2 16 rfl rfl)
theorem dX4_fact_65 : decode cX4_fact 65 = .ok (.iconst 1, 1) := dk_4 (dk_at dksX4_fact_2 19 rfl rfl)
theorem dX4_fact_66 : decode cX4_fact 66 = .ok (.iadd, 1) := dk_96 (dk_at dksX4_fact_2 20 rfl rfl)
theorem dX4_fact_67 : decode cX4_fact 67 = .ok (.putfield 93, 3) := dk_181 0 93 (dk_at dksX4_fact_2 21 rfl rfl)
theorem dX4_fact_70 : decode cX4_fact 70 = .ok (.iconst 1, 1) := dk_4 (dk_at dksX4_fact_3 0 rfl rfl)
theorem dX4_fact_71 : decode cX4_fact 71 = .ok (.istore_n 1, 1) := dk_60 (dk_at dksX4_fact_3 1 rfl rfl)
theorem dX4_fact_72 : decode cX4_fact 72 = .ok (.goto (-70), 3) := dk_167 255 186 (dk_at dksX4_fact_3 2 rfl rfl)
theorem dX4_fact_75 : decode cX4_fact 75 = .ok (.aload_n 0, 1) := dk_42 (dk_at dksX4_fact_3 5 rfl rfl)
theorem dX4_fact_76 : decode cX4_fact 76 = .ok (.invokevirtual 192, 3) := dk_182 0 192 (dk_at dksX4_fact_3 6 rfl rfl)
theorem dX4_fact_79 : decode cX4_fact 79 = .ok (.ireturn, 1) := dk_172 (dk_at dksX4_fact_3 9 rfl rfl)
abbrev cX4_opens : ByteArray := prog_19_method_19_code
def yX4_opens : MethodName := ⟨RX4, "opens", "(I)Z"⟩
def dkwX4_opens_2 : List UInt8 := [181, 0, 156, 4, 172]
abbrev dktX4_opens_2 : List UInt8 := dkwX4_opens_2 ++ []
def dkwX4_opens_1 : List UInt8 := [4, 96, 181, 0, 153, 42, 180, 0, 29, 42, 180, 0, 156, 27, 79, 42, 89, 180, 0, 156, 4, 96]
abbrev dktX4_opens_1 : List UInt8 := dkwX4_opens_1 ++ dktX4_opens_2
def dkwX4_opens_0 : List UInt8 := [42, 180, 0, 153, 16, 10, 160, 0, 13, 42, 5, 42, 180, 0, 93, 182, 0, 114, 172, 42, 89, 180, 0, 153]
abbrev dktX4_opens_0 : List UInt8 := dkwX4_opens_0 ++ dktX4_opens_1
theorem dksX4_opens_0 : cX4_opens.data.toList.drop 0 = dktX4_opens_0 := by decide +kernel
theorem dksX4_opens_1 : cX4_opens.data.toList.drop 24 = dktX4_opens_1 := dk_seg dksX4_opens_0 24 rfl rfl
theorem dksX4_opens_2 : cX4_opens.data.toList.drop 46 = dktX4_opens_2 := dk_seg dksX4_opens_1 22 rfl rfl
theorem dX4_opens_0 : decode cX4_opens 0 = .ok (.aload_n 0, 1) := dk_42 (dk_at dksX4_opens_0 0 rfl rfl)
theorem dX4_opens_1 : decode cX4_opens 1 = .ok (.getfield 153, 3) := dk_180 0 153 (dk_at dksX4_opens_0 1 rfl rfl)
theorem dX4_opens_4 : decode cX4_opens 4 = .ok (.bipush 10, 2) := dk_16 10 (dk_at dksX4_opens_0 4 rfl rfl)
theorem dX4_opens_6 : decode cX4_opens 6 = .ok (.if_icmp .ne 13, 3) := dk_160 0 13 (dk_at dksX4_opens_0 6 rfl rfl)
theorem dX4_opens_9 : decode cX4_opens 9 = .ok (.aload_n 0, 1) := dk_42 (dk_at dksX4_opens_0 9 rfl rfl)
theorem dX4_opens_10 : decode cX4_opens 10 = .ok (.iconst 2, 1) := dk_5 (dk_at dksX4_opens_0 10 rfl rfl)
theorem dX4_opens_11 : decode cX4_opens 11 = .ok (.aload_n 0, 1) := dk_42 (dk_at dksX4_opens_0 11 rfl rfl)
theorem dX4_opens_12 : decode cX4_opens 12 = .ok (.getfield 93, 3) := dk_180 0 93 (dk_at dksX4_opens_0 12 rfl rfl)
theorem dX4_opens_15 : decode cX4_opens 15 = .ok (.invokevirtual 114, 3) := dk_182 0 114 (dk_at dksX4_opens_0 15 rfl rfl)
theorem dX4_opens_18 : decode cX4_opens 18 = .ok (.ireturn, 1) := dk_172 (dk_at dksX4_opens_0 18 rfl rfl)
theorem dX4_opens_19 : decode cX4_opens 19 = .ok (.aload_n 0, 1) := dk_42 (dk_at dksX4_opens_0 19 rfl rfl)
theorem dX4_opens_20 : decode cX4_opens 20 = .ok (.dup, 1) := dk_89 (dk_at dksX4_opens_0 20 rfl rfl)
theorem dX4_opens_21 : decode cX4_opens 21 = .ok (.getfield 153, 3) := dk_180 0 153 (dk_at dksX4_opens_0 21 rfl rfl)
theorem dX4_opens_24 : decode cX4_opens 24 = .ok (.iconst 1, 1) := dk_4 (dk_at dksX4_opens_1 0 rfl rfl)
theorem dX4_opens_25 : decode cX4_opens 25 = .ok (.iadd, 1) := dk_96 (dk_at dksX4_opens_1 1 rfl rfl)
theorem dX4_opens_26 : decode cX4_opens 26 = .ok (.putfield 153, 3) := dk_181 0 153 (dk_at dksX4_opens_1 2 rfl rfl)
theorem dX4_opens_29 : decode cX4_opens 29 = .ok (.aload_n 0, 1) := dk_42 (dk_at dksX4_opens_1 5 rfl rfl)
theorem dX4_opens_30 : decode cX4_opens 30 = .ok (.getfield 29, 3) := dk_180 0 29 (dk_at dksX4_opens_1 6 rfl rfl)
theorem dX4_opens_33 : decode cX4_opens 33 = .ok (.aload_n 0, 1) := dk_42 (dk_at dksX4_opens_1 9 rfl rfl)
theorem dX4_opens_34 : decode cX4_opens 34 = .ok (.getfield 156, 3) := dk_180 0 156 (dk_at dksX4_opens_1 10 rfl rfl)
theorem dX4_opens_37 : decode cX4_opens 37 = .ok (.iload_n 1, 1) := dk_27 (dk_at dksX4_opens_1 13 rfl rfl)
theorem dX4_opens_38 : decode cX4_opens 38 = .ok (.iastore, 1) := dk_79 (dk_at dksX4_opens_1 14 rfl rfl)
theorem dX4_opens_39 : decode cX4_opens 39 = .ok (.aload_n 0, 1) := dk_42 (dk_at dksX4_opens_1 15 rfl rfl)
theorem dX4_opens_40 : decode cX4_opens 40 = .ok (.dup, 1) := dk_89 (dk_at dksX4_opens_1 16 rfl rfl)
theorem dX4_opens_41 : decode cX4_opens 41 = .ok (.getfield 156, 3) := dk_180 0 156 (dk_at dksX4_opens_1 17 rfl rfl)
theorem dX4_opens_44 : decode cX4_opens 44 = .ok (.iconst 1, 1) := dk_4 (dk_at dksX4_opens_1 20 rfl rfl)
theorem dX4_opens_45 : decode cX4_opens 45 = .ok (.iadd, 1) := dk_96 (dk_at dksX4_opens_1 21 rfl rfl)
theorem dX4_opens_46 : decode cX4_opens 46 = .ok (.putfield 156, 3) := dk_181 0 156 (dk_at dksX4_opens_2 0 rfl rfl)
theorem dX4_opens_49 : decode cX4_opens 49 = .ok (.iconst 1, 1) := dk_4 (dk_at dksX4_opens_2 3 rfl rfl)
theorem dX4_opens_50 : decode cX4_opens 50 = .ok (.ireturn, 1) := dk_172 (dk_at dksX4_opens_2 4 rfl rfl)
abbrev cX4_compare : ByteArray := prog_19_method_25_code
def yX4_compare : MethodName := ⟨RX4, "compare", "()Z"⟩
def dkwX4_compare_7 : List UInt8 := [16, 6, 21, 4, 96, 3, 182, 0, 163, 4, 172]
abbrev dktX4_compare_7 : List UInt8 := dkwX4_compare_7 ++ []
def dkwX4_compare_6 : List UInt8 := [167, 0, 12, 29, 153, 0, 7, 6, 167, 0, 4, 7, 54, 4, 42, 182, 0, 184, 154, 0, 5, 3, 172, 42]
abbrev dktX4_compare_6 : List UInt8 := dkwX4_compare_6 ++ dktX4_compare_7
def dkwX4_compare_5 : List UInt8 := [16, 60, 160, 0, 15, 29, 153, 0, 7, 4, 167, 0, 26, 3, 167, 0, 22, 27, 16, 61, 160, 0, 7, 5]
abbrev dktX4_compare_5 : List UInt8 := dkwX4_compare_5 ++ dktX4_compare_6
def dkwX4_compare_4 : List UInt8 := [153, 0, 13, 42, 89, 180, 0, 93, 4, 96, 181, 0, 93, 42, 28, 182, 0, 171, 154, 0, 5, 3, 172, 27]
abbrev dktX4_compare_4 : List UInt8 := dkwX4_compare_4 ++ dktX4_compare_5
def dkwX4_compare_3 : List UInt8 := [162, 0, 21, 42, 180, 0, 7, 42, 180, 0, 93, 51, 16, 61, 160, 0, 7, 4, 167, 0, 4, 3, 62, 29]
abbrev dktX4_compare_3 : List UInt8 := dkwX4_compare_3 ++ dktX4_compare_4
def dkwX4_compare_2 : List UInt8 := [180, 0, 93, 4, 96, 181, 0, 93, 27, 16, 61, 159, 0, 32, 42, 180, 0, 93, 42, 180, 0, 83]
abbrev dktX4_compare_2 : List UInt8 := dkwX4_compare_2 ++ dktX4_compare_3
def dkwX4_compare_1 : List UInt8 := [159, 0, 22, 27, 16, 61, 159, 0, 16, 27, 16, 62, 159, 0, 10, 42, 3, 28, 182, 0, 114, 172, 42, 89]
abbrev dktX4_compare_1 : List UInt8 := dkwX4_compare_1 ++ dktX4_compare_2
def dkwX4_compare_0 : List UInt8 := [42, 182, 0, 184, 154, 0, 5, 3, 172, 42, 182, 0, 96, 60, 42, 180, 0, 93, 61, 27, 16, 60]
abbrev dktX4_compare_0 : List UInt8 := dkwX4_compare_0 ++ dktX4_compare_1
theorem dksX4_compare_0 : cX4_compare.data.toList.drop 0 = dktX4_compare_0 := by decide +kernel
theorem dksX4_compare_1 : cX4_compare.data.toList.drop 22 = dktX4_compare_1 := dk_seg dksX4_compare_0 22 rfl rfl
theorem dksX4_compare_2 : cX4_compare.data.toList.drop 46 = dktX4_compare_2 := dk_seg dksX4_compare_1 24 rfl rfl
theorem dksX4_compare_3 : cX4_compare.data.toList.drop 68 = dktX4_compare_3 := dk_seg dksX4_compare_2 22 rfl rfl
theorem dksX4_compare_4 : cX4_compare.data.toList.drop 92 = dktX4_compare_4 := dk_seg dksX4_compare_3 24 rfl rfl
theorem dksX4_compare_5 : cX4_compare.data.toList.drop 116 = dktX4_compare_5 := dk_seg dksX4_compare_4 24 rfl rfl
theorem dksX4_compare_6 : cX4_compare.data.toList.drop 140 = dktX4_compare_6 := dk_seg dksX4_compare_5 24 rfl rfl
theorem dksX4_compare_7 : cX4_compare.data.toList.drop 164 = dktX4_compare_7 := dk_seg dksX4_compare_6 24 rfl rfl
theorem dX4_compare_0 : decode cX4_compare 0 = .ok (.aload_n 0, 1) := dk_42 (dk_at dksX4_compare_0 0 rfl rfl)
theorem dX4_compare_1 : decode cX4_compare 1 = .ok (.invokevirtual 184, 3) := dk_182 0 184 (dk_at dksX4_compare_0 1 rfl rfl)
theorem dX4_compare_4 : decode cX4_compare 4 = .ok (.ifCond .ne 5, 3) := dk_154 0 5 (dk_at dksX4_compare_0 4 rfl rfl)
theorem dX4_compare_7 : decode cX4_compare 7 = .ok (.iconst 0, 1) := dk_3 (dk_at dksX4_compare_0 7 rfl rfl)
theorem dX4_compare_8 : decode cX4_compare 8 = .ok (.ireturn, 1) := dk_172 (dk_at dksX4_compare_0 8 rfl rfl)
theorem dX4_compare_9 : decode cX4_compare 9 = .ok (.aload_n 0, 1) := dk_42 (dk_at dksX4_compare_0 9 rfl rfl)
theorem dX4_compare_10 : decode cX4_compare 10 = .ok (.invokevirtual 96, 3) := dk_182 0 96 (dk_at dksX4_compare_0 10 rfl rfl)
theorem dX4_compare_13 : decode cX4_compare 13 = .ok (.istore_n 1, 1) := dk_60 (dk_at dksX4_compare_0 13 rfl rfl)
theorem dX4_compare_14 : decode cX4_compare 14 = .ok (.aload_n 0, 1) := dk_42 (dk_at dksX4_compare_0 14 rfl rfl)
theorem dX4_compare_15 : decode cX4_compare 15 = .ok (.getfield 93, 3) := dk_180 0 93 (dk_at dksX4_compare_0 15 rfl rfl)
theorem dX4_compare_18 : decode cX4_compare 18 = .ok (.istore_n 2, 1) := dk_61 (dk_at dksX4_compare_0 18 rfl rfl)
theorem dX4_compare_19 : decode cX4_compare 19 = .ok (.iload_n 1, 1) := dk_27 (dk_at dksX4_compare_0 19 rfl rfl)
theorem dX4_compare_20 : decode cX4_compare 20 = .ok (.bipush 60, 2) := dk_16 60 (dk_at dksX4_compare_0 20 rfl rfl)
theorem dX4_compare_22 : decode cX4_compare 22 = .ok (.if_icmp .eq 22, 3) := dk_159 0 22 (dk_at dksX4_compare_1 0 rfl rfl)
theorem dX4_compare_25 : decode cX4_compare 25 = .ok (.iload_n 1, 1) := dk_27 (dk_at dksX4_compare_1 3 rfl rfl)
theorem dX4_compare_26 : decode cX4_compare 26 = .ok (.bipush 61, 2) := dk_16 61 (dk_at dksX4_compare_1 4 rfl rfl)
theorem dX4_compare_28 : decode cX4_compare 28 = .ok (.if_icmp .eq 16, 3) := dk_159 0 16 (dk_at dksX4_compare_1 6 rfl rfl)
theorem dX4_compare_31 : decode cX4_compare 31 = .ok (.iload_n 1, 1) := dk_27 (dk_at dksX4_compare_1 9 rfl rfl)
theorem dX4_compare_32 : decode cX4_compare 32 = .ok (.bipush 62, 2) := dk_16 62 (dk_at dksX4_compare_1 10 rfl rfl)
theorem dX4_compare_34 : decode cX4_compare 34 = .ok (.if_icmp .eq 10, 3) := dk_159 0 10 (dk_at dksX4_compare_1 12 rfl rfl)
theorem dX4_compare_37 : decode cX4_compare 37 = .ok (.aload_n 0, 1) := dk_42 (dk_at dksX4_compare_1 15 rfl rfl)
theorem dX4_compare_38 : decode cX4_compare 38 = .ok (.iconst 0, 1) := dk_3 (dk_at dksX4_compare_1 16 rfl rfl)
theorem dX4_compare_39 : decode cX4_compare 39 = .ok (.iload_n 2, 1) := dk_28 (dk_at dksX4_compare_1 17 rfl rfl)
theorem dX4_compare_40 : decode cX4_compare 40 = .ok (.invokevirtual 114, 3) := dk_182 0 114 (dk_at dksX4_compare_1 18 rfl rfl)
theorem dX4_compare_43 : decode cX4_compare 43 = .ok (.ireturn, 1) := dk_172 (dk_at dksX4_compare_1 21 rfl rfl)
theorem dX4_compare_44 : decode cX4_compare 44 = .ok (.aload_n 0, 1) := dk_42 (dk_at dksX4_compare_1 22 rfl rfl)
theorem dX4_compare_45 : decode cX4_compare 45 = .ok (.dup, 1) := dk_89 (dk_at dksX4_compare_1 23 rfl rfl)
theorem dX4_compare_46 : decode cX4_compare 46 = .ok (.getfield 93, 3) := dk_180 0 93 (dk_at dksX4_compare_2 0 rfl rfl)
theorem dX4_compare_49 : decode cX4_compare 49 = .ok (.iconst 1, 1) := dk_4 (dk_at dksX4_compare_2 3 rfl rfl)
theorem dX4_compare_50 : decode cX4_compare 50 = .ok (.iadd, 1) := dk_96 (dk_at dksX4_compare_2 4 rfl rfl)
theorem dX4_compare_51 : decode cX4_compare 51 = .ok (.putfield 93, 3) := dk_181 0 93 (dk_at dksX4_compare_2 5 rfl rfl)
theorem dX4_compare_54 : decode cX4_compare 54 = .ok (.iload_n 1, 1) := dk_27 (dk_at dksX4_compare_2 8 rfl rfl)
theorem dX4_compare_55 : decode cX4_compare 55 = .ok (.bipush 61, 2) := dk_16 61 (dk_at dksX4_compare_2 9 rfl rfl)
theorem dX4_compare_57 : decode cX4_compare 57 = .ok (.if_icmp .eq 32, 3) := dk_159 0 32 (dk_at dksX4_compare_2 11 rfl rfl)
theorem dX4_compare_60 : decode cX4_compare 60 = .ok (.aload_n 0, 1) := dk_42 (dk_at dksX4_compare_2 14 rfl rfl)
theorem dX4_compare_61 : decode cX4_compare 61 = .ok (.getfield 93, 3) := dk_180 0 93 (dk_at dksX4_compare_2 15 rfl rfl)
theorem dX4_compare_64 : decode cX4_compare 64 = .ok (.aload_n 0, 1) := dk_42 (dk_at dksX4_compare_2 18 rfl rfl)
theorem dX4_compare_65 : decode cX4_compare 65 = .ok (.getfield 83, 3) := dk_180 0 83 (dk_at dksX4_compare_2 19 rfl rfl)
theorem dX4_compare_68 : decode cX4_compare 68 = .ok (.if_icmp .ge 21, 3) := dk_162 0 21 (dk_at dksX4_compare_3 0 rfl rfl)
theorem dX4_compare_71 : decode cX4_compare 71 = .ok (.aload_n 0, 1) := dk_42 (dk_at dksX4_compare_3 3 rfl rfl)
theorem dX4_compare_72 : decode cX4_compare 72 = .ok (.getfield 7, 3) := dk_180 0 7 (dk_at dksX4_compare_3 4 rfl rfl)
theorem dX4_compare_75 : decode cX4_compare 75 = .ok (.aload_n 0, 1) := dk_42 (dk_at dksX4_compare_3 7 rfl rfl)
theorem dX4_compare_76 : decode cX4_compare 76 = .ok (.getfield 93, 3) := dk_180 0 93 (dk_at dksX4_compare_3 8 rfl rfl)
theorem dX4_compare_79 : decode cX4_compare 79 = .ok (.baload, 1) := dk_51 (dk_at dksX4_compare_3 11 rfl rfl)
theorem dX4_compare_80 : decode cX4_compare 80 = .ok (.bipush 61, 2) := dk_16 61 (dk_at dksX4_compare_3 12 rfl rfl)
theorem dX4_compare_82 : decode cX4_compare 82 = .ok (.if_icmp .ne 7, 3) := dk_160 0 7 (dk_at dksX4_compare_3 14 rfl rfl)
theorem dX4_compare_85 : decode cX4_compare 85 = .ok (.iconst 1, 1) := dk_4 (dk_at dksX4_compare_3 17 rfl rfl)
theorem dX4_compare_86 : decode cX4_compare 86 = .ok (.goto 4, 3) := dk_167 0 4 (dk_at dksX4_compare_3 18 rfl rfl)
theorem dX4_compare_89 : decode cX4_compare 89 = .ok (.iconst 0, 1) := dk_3 (dk_at dksX4_compare_3 21 rfl rfl)
theorem dX4_compare_90 : decode cX4_compare 90 = .ok (.istore_n 3, 1) := dk_62 (dk_at dksX4_compare_3 22 rfl rfl)
theorem dX4_compare_91 : decode cX4_compare 91 = .ok (.iload_n 3, 1) := dk_29 (dk_at dksX4_compare_3 23 rfl rfl)
theorem dX4_compare_92 : decode cX4_compare 92 = .ok (.ifCond .eq 13, 3) := dk_153 0 13 (dk_at dksX4_compare_4 0 rfl rfl)
theorem dX4_compare_95 : decode cX4_compare 95 = .ok (.aload_n 0, 1) := dk_42 (dk_at dksX4_compare_4 3 rfl rfl)
theorem dX4_compare_96 : decode cX4_compare 96 = .ok (.dup, 1) := dk_89 (dk_at dksX4_compare_4 4 rfl rfl)
theorem dX4_compare_97 : decode cX4_compare 97 = .ok (.getfield 93, 3) := dk_180 0 93 (dk_at dksX4_compare_4 5 rfl rfl)
theorem dX4_compare_100 : decode cX4_compare 100 = .ok (.iconst 1, 1) := dk_4 (dk_at dksX4_compare_4 8 rfl rfl)
theorem dX4_compare_101 : decode cX4_compare 101 = .ok (.iadd, 1) := dk_96 (dk_at dksX4_compare_4 9 rfl rfl)
theorem dX4_compare_102 : decode cX4_compare 102 = .ok (.putfield 93, 3) := dk_181 0 93 (dk_at dksX4_compare_4 10 rfl rfl)
theorem dX4_compare_105 : decode cX4_compare 105 = .ok (.aload_n 0, 1) := dk_42 (dk_at dksX4_compare_4 13 rfl rfl)
theorem dX4_compare_106 : decode cX4_compare 106 = .ok (.iload_n 2, 1) := dk_28 (dk_at dksX4_compare_4 14 rfl rfl)
theorem dX4_compare_107 : decode cX4_compare 107 = .ok (.invokevirtual 171, 3) := dk_182 0 171 (dk_at dksX4_compare_4 15 rfl rfl)
theorem dX4_compare_110 : decode cX4_compare 110 = .ok (.ifCond .ne 5, 3) := dk_154 0 5 (dk_at dksX4_compare_4 18 rfl rfl)
theorem dX4_compare_113 : decode cX4_compare 113 = .ok (.iconst 0, 1) := dk_3 (dk_at dksX4_compare_4 21 rfl rfl)
theorem dX4_compare_114 : decode cX4_compare 114 = .ok (.ireturn, 1) := dk_172 (dk_at dksX4_compare_4 22 rfl rfl)
theorem dX4_compare_115 : decode cX4_compare 115 = .ok (.iload_n 1, 1) := dk_27 (dk_at dksX4_compare_4 23 rfl rfl)
theorem dX4_compare_116 : decode cX4_compare 116 = .ok (.bipush 60, 2) := dk_16 60 (dk_at dksX4_compare_5 0 rfl rfl)
theorem dX4_compare_118 : decode cX4_compare 118 = .ok (.if_icmp .ne 15, 3) := dk_160 0 15 (dk_at dksX4_compare_5 2 rfl rfl)
theorem dX4_compare_121 : decode cX4_compare 121 = .ok (.iload_n 3, 1) := dk_29 (dk_at dksX4_compare_5 5 rfl rfl)
theorem dX4_compare_122 : decode cX4_compare 122 = .ok (.ifCond .eq 7, 3) := dk_153 0 7 (dk_at dksX4_compare_5 6 rfl rfl)
theorem dX4_compare_125 : decode cX4_compare 125 = .ok (.iconst 1, 1) := dk_4 (dk_at dksX4_compare_5 9 rfl rfl)
theorem dX4_compare_126 : decode cX4_compare 126 = .ok (.goto 26, 3) := dk_167 0 26 (dk_at dksX4_compare_5 10 rfl rfl)
theorem dX4_compare_129 : decode cX4_compare 129 = .ok (.iconst 0, 1) := dk_3 (dk_at dksX4_compare_5 13 rfl rfl)
theorem dX4_compare_130 : decode cX4_compare 130 = .ok (.goto 22, 3) := dk_167 0 22 (dk_at dksX4_compare_5 14 rfl rfl)
theorem dX4_compare_133 : decode cX4_compare 133 = .ok (.iload_n 1, 1) := dk_27 (dk_at dksX4_compare_5 17 rfl rfl)
theorem dX4_compare_134 : decode cX4_compare 134 = .ok (.bipush 61, 2) := dk_16 61 (dk_at dksX4_compare_5 18 rfl rfl)
theorem dX4_compare_136 : decode cX4_compare 136 = .ok (.if_icmp .ne 7, 3) := dk_160 0 7 (dk_at dksX4_compare_5 20 rfl rfl)
theorem dX4_compare_139 : decode cX4_compare 139 = .ok (.iconst 2, 1) := dk_5 (dk_at dksX4_compare_5 23 rfl rfl)
theorem dX4_compare_140 : decode cX4_compare 140 = .ok (.goto 12, 3) := dk_167 0 12 (dk_at dksX4_compare_6 0 rfl rfl)
theorem dX4_compare_143 : decode cX4_compare 143 = .ok (.iload_n 3, 1) := dk_29 (dk_at dksX4_compare_6 3 rfl rfl)
theorem dX4_compare_144 : decode cX4_compare 144 = .ok (.ifCond .eq 7, 3) := dk_153 0 7 (dk_at dksX4_compare_6 4 rfl rfl)
theorem dX4_compare_147 : decode cX4_compare 147 = .ok (.iconst 3, 1) := dk_6 (dk_at dksX4_compare_6 7 rfl rfl)
theorem dX4_compare_148 : decode cX4_compare 148 = .ok (.goto 4, 3) := dk_167 0 4 (dk_at dksX4_compare_6 8 rfl rfl)
theorem dX4_compare_151 : decode cX4_compare 151 = .ok (.iconst 4, 1) := dk_7 (dk_at dksX4_compare_6 11 rfl rfl)
theorem dX4_compare_152 : decode cX4_compare 152 = .ok (.istore 4, 2) := dk_54 4 (dk_at dksX4_compare_6 12 rfl rfl)
theorem dX4_compare_154 : decode cX4_compare 154 = .ok (.aload_n 0, 1) := dk_42 (dk_at dksX4_compare_6 14 rfl rfl)
theorem dX4_compare_155 : decode cX4_compare 155 = .ok (.invokevirtual 184, 3) := dk_182 0 184 (dk_at dksX4_compare_6 15 rfl rfl)
theorem dX4_compare_158 : decode cX4_compare 158 = .ok (.ifCond .ne 5, 3) := dk_154 0 5 (dk_at dksX4_compare_6 18 rfl rfl)
theorem dX4_compare_161 : decode cX4_compare 161 = .ok (.iconst 0, 1) := dk_3 (dk_at dksX4_compare_6 21 rfl rfl)
theorem dX4_compare_162 : decode cX4_compare 162 = .ok (.ireturn, 1) := dk_172 (dk_at dksX4_compare_6 22 rfl rfl)
theorem dX4_compare_163 : decode cX4_compare 163 = .ok (.aload_n 0, 1) := dk_42 (dk_at dksX4_compare_6 23 rfl rfl)
theorem dX4_compare_164 : decode cX4_compare 164 = .ok (.bipush 6, 2) := dk_16 6 (dk_at dksX4_compare_7 0 rfl rfl)
theorem dX4_compare_166 : decode cX4_compare 166 = .ok (.iload 4, 2) := dk_21 4 (dk_at dksX4_compare_7 2 rfl rfl)
theorem dX4_compare_168 : decode cX4_compare 168 = .ok (.iadd, 1) := dk_96 (dk_at dksX4_compare_7 4 rfl rfl)
theorem dX4_compare_169 : decode cX4_compare 169 = .ok (.iconst 0, 1) := dk_3 (dk_at dksX4_compare_7 5 rfl rfl)
theorem dX4_compare_170 : decode cX4_compare 170 = .ok (.invokevirtual 163, 3) := dk_182 0 163 (dk_at dksX4_compare_7 6 rfl rfl)
theorem dX4_compare_173 : decode cX4_compare 173 = .ok (.iconst 1, 1) := dk_4 (dk_at dksX4_compare_7 9 rfl rfl)
theorem dX4_compare_174 : decode cX4_compare 174 = .ok (.ireturn, 1) := dk_172 (dk_at dksX4_compare_7 10 rfl rfl)
abbrev cX4_closes : ByteArray := prog_19_method_28_code
def yX4_closes : MethodName := ⟨RX4, "closes", "()V"⟩
def dkwX4_closes_2 : List UInt8 := [89, 180, 0, 93, 4, 96, 181, 0, 93, 42, 6, 182, 0, 195, 167, 255, 200, 177]
abbrev dktX4_closes_2 : List UInt8 := dkwX4_closes_2 ++ []
def dkwX4_closes_1 : List UInt8 := [182, 0, 195, 42, 89, 180, 0, 156, 4, 100, 181, 0, 156, 42, 89, 180, 0, 153, 4, 100, 181, 0, 153, 42]
abbrev dktX4_closes_1 : List UInt8 := dkwX4_closes_1 ++ dktX4_closes_2
def dkwX4_closes_0 : List UInt8 := [42, 6, 182, 0, 195, 42, 182, 0, 96, 16, 93, 160, 0, 53, 42, 182, 0, 198, 153, 0, 46, 42, 4]
abbrev dktX4_closes_0 : List UInt8 := dkwX4_closes_0 ++ dktX4_closes_1
theorem dksX4_closes_0 : cX4_closes.data.toList.drop 0 = dktX4_closes_0 := by decide +kernel
theorem dksX4_closes_1 : cX4_closes.data.toList.drop 23 = dktX4_closes_1 := dk_seg dksX4_closes_0 23 rfl rfl
theorem dksX4_closes_2 : cX4_closes.data.toList.drop 47 = dktX4_closes_2 := dk_seg dksX4_closes_1 24 rfl rfl
theorem dX4_closes_0 : decode cX4_closes 0 = .ok (.aload_n 0, 1) := dk_42 (dk_at dksX4_closes_0 0 rfl rfl)
theorem dX4_closes_1 : decode cX4_closes 1 = .ok (.iconst 3, 1) := dk_6 (dk_at dksX4_closes_0 1 rfl rfl)
theorem dX4_closes_2 : decode cX4_closes 2 = .ok (.invokevirtual 195, 3) := dk_182 0 195 (dk_at dksX4_closes_0 2 rfl rfl)
theorem dX4_closes_5 : decode cX4_closes 5 = .ok (.aload_n 0, 1) := dk_42 (dk_at dksX4_closes_0 5 rfl rfl)
theorem dX4_closes_6 : decode cX4_closes 6 = .ok (.invokevirtual 96, 3) := dk_182 0 96 (dk_at dksX4_closes_0 6 rfl rfl)
theorem dX4_closes_9 : decode cX4_closes 9 = .ok (.bipush 93, 2) := dk_16 93 (dk_at dksX4_closes_0 9 rfl rfl)
theorem dX4_closes_11 : decode cX4_closes 11 = .ok (.if_icmp .ne 53, 3) := dk_160 0 53 (dk_at dksX4_closes_0 11 rfl rfl)
theorem dX4_closes_14 : decode cX4_closes 14 = .ok (.aload_n 0, 1) := dk_42 (dk_at dksX4_closes_0 14 rfl rfl)
theorem dX4_closes_15 : decode cX4_closes 15 = .ok (.invokevirtual 198, 3) := dk_182 0 198 (dk_at dksX4_closes_0 15 rfl rfl)
theorem dX4_closes_18 : decode cX4_closes 18 = .ok (.ifCond .eq 46, 3) := dk_153 0 46 (dk_at dksX4_closes_0 18 rfl rfl)
theorem dX4_closes_21 : decode cX4_closes 21 = .ok (.aload_n 0, 1) := dk_42 (dk_at dksX4_closes_0 21 rfl rfl)
theorem dX4_closes_22 : decode cX4_closes 22 = .ok (.iconst 1, 1) := dk_4 (dk_at dksX4_closes_0 22 rfl rfl)
theorem dX4_closes_23 : decode cX4_closes 23 = .ok (.invokevirtual 195, 3) := dk_182 0 195 (dk_at dksX4_closes_1 0 rfl rfl)
theorem dX4_closes_26 : decode cX4_closes 26 = .ok (.aload_n 0, 1) := dk_42 (dk_at dksX4_closes_1 3 rfl rfl)
theorem dX4_closes_27 : decode cX4_closes 27 = .ok (.dup, 1) := dk_89 (dk_at dksX4_closes_1 4 rfl rfl)
theorem dX4_closes_28 : decode cX4_closes 28 = .ok (.getfield 156, 3) := dk_180 0 156 (dk_at dksX4_closes_1 5 rfl rfl)
theorem dX4_closes_31 : decode cX4_closes 31 = .ok (.iconst 1, 1) := dk_4 (dk_at dksX4_closes_1 8 rfl rfl)
theorem dX4_closes_32 : decode cX4_closes 32 = .ok (.isub, 1) := dk_100 (dk_at dksX4_closes_1 9 rfl rfl)
theorem dX4_closes_33 : decode cX4_closes 33 = .ok (.putfield 156, 3) := dk_181 0 156 (dk_at dksX4_closes_1 10 rfl rfl)
theorem dX4_closes_36 : decode cX4_closes 36 = .ok (.aload_n 0, 1) := dk_42 (dk_at dksX4_closes_1 13 rfl rfl)
theorem dX4_closes_37 : decode cX4_closes 37 = .ok (.dup, 1) := dk_89 (dk_at dksX4_closes_1 14 rfl rfl)
theorem dX4_closes_38 : decode cX4_closes 38 = .ok (.getfield 153, 3) := dk_180 0 153 (dk_at dksX4_closes_1 15 rfl rfl)
theorem dX4_closes_41 : decode cX4_closes 41 = .ok (.iconst 1, 1) := dk_4 (dk_at dksX4_closes_1 18 rfl rfl)
theorem dX4_closes_42 : decode cX4_closes 42 = .ok (.isub, 1) := dk_100 (dk_at dksX4_closes_1 19 rfl rfl)
theorem dX4_closes_43 : decode cX4_closes 43 = .ok (.putfield 153, 3) := dk_181 0 153 (dk_at dksX4_closes_1 20 rfl rfl)
theorem dX4_closes_46 : decode cX4_closes 46 = .ok (.aload_n 0, 1) := dk_42 (dk_at dksX4_closes_1 23 rfl rfl)
theorem dX4_closes_47 : decode cX4_closes 47 = .ok (.dup, 1) := dk_89 (dk_at dksX4_closes_2 0 rfl rfl)
theorem dX4_closes_48 : decode cX4_closes 48 = .ok (.getfield 93, 3) := dk_180 0 93 (dk_at dksX4_closes_2 1 rfl rfl)
theorem dX4_closes_51 : decode cX4_closes 51 = .ok (.iconst 1, 1) := dk_4 (dk_at dksX4_closes_2 4 rfl rfl)
theorem dX4_closes_52 : decode cX4_closes 52 = .ok (.iadd, 1) := dk_96 (dk_at dksX4_closes_2 5 rfl rfl)
theorem dX4_closes_53 : decode cX4_closes 53 = .ok (.putfield 93, 3) := dk_181 0 93 (dk_at dksX4_closes_2 6 rfl rfl)
theorem dX4_closes_56 : decode cX4_closes 56 = .ok (.aload_n 0, 1) := dk_42 (dk_at dksX4_closes_2 9 rfl rfl)
theorem dX4_closes_57 : decode cX4_closes 57 = .ok (.iconst 3, 1) := dk_6 (dk_at dksX4_closes_2 10 rfl rfl)
theorem dX4_closes_58 : decode cX4_closes 58 = .ok (.invokevirtual 195, 3) := dk_182 0 195 (dk_at dksX4_closes_2 11 rfl rfl)
theorem dX4_closes_61 : decode cX4_closes 61 = .ok (.goto (-56), 3) := dk_167 255 200 (dk_at dksX4_closes_2 14 rfl rfl)
theorem dX4_closes_64 : decode cX4_closes 64 = .ok (.return_, 1) := dk_177 (dk_at dksX4_closes_2 17 rfl rfl)
abbrev cX4_layDown : ByteArray := prog_19_method_21_code
def yX4_layDown : MethodName := ⟨RX4, "layDown", "(I)V"⟩
def dkwX4_layDown_3 : List UInt8 := [181, 0, 153, 167, 255, 183, 177]
abbrev dktX4_layDown_3 : List UInt8 := dkwX4_layDown_3 ++ []
def dkwX4_layDown_2 : List UInt8 := [182, 0, 163, 42, 180, 0, 29, 42, 180, 0, 156, 46, 16, 11, 160, 255, 196, 42, 89, 180, 0, 153, 4, 100]
abbrev dktX4_layDown_2 : List UInt8 := dkwX4_layDown_2 ++ dktX4_layDown_3
def dkwX4_layDown_1 : List UInt8 := [161, 0, 54, 42, 89, 180, 0, 156, 4, 100, 181, 0, 156, 42, 42, 180, 0, 29, 42, 180, 0, 156, 46, 3]
abbrev dktX4_layDown_1 : List UInt8 := dkwX4_layDown_1 ++ dktX4_layDown_2
def dkwX4_layDown_0 : List UInt8 := [42, 180, 0, 156, 158, 0, 72, 42, 180, 0, 29, 42, 180, 0, 156, 4, 100, 46, 184, 0, 159, 27]
abbrev dktX4_layDown_0 : List UInt8 := dkwX4_layDown_0 ++ dktX4_layDown_1
theorem dksX4_layDown_0 : cX4_layDown.data.toList.drop 0 = dktX4_layDown_0 := by decide +kernel
theorem dksX4_layDown_1 : cX4_layDown.data.toList.drop 22 = dktX4_layDown_1 := dk_seg dksX4_layDown_0 22 rfl rfl
theorem dksX4_layDown_2 : cX4_layDown.data.toList.drop 46 = dktX4_layDown_2 := dk_seg dksX4_layDown_1 24 rfl rfl
theorem dksX4_layDown_3 : cX4_layDown.data.toList.drop 70 = dktX4_layDown_3 := dk_seg dksX4_layDown_2 24 rfl rfl
theorem dX4_layDown_0 : decode cX4_layDown 0 = .ok (.aload_n 0, 1) := dk_42 (dk_at dksX4_layDown_0 0 rfl rfl)
theorem dX4_layDown_1 : decode cX4_layDown 1 = .ok (.getfield 156, 3) := dk_180 0 156 (dk_at dksX4_layDown_0 1 rfl rfl)
theorem dX4_layDown_4 : decode cX4_layDown 4 = .ok (.ifCond .le 72, 3) := dk_158 0 72 (dk_at dksX4_layDown_0 4 rfl rfl)
theorem dX4_layDown_7 : decode cX4_layDown 7 = .ok (.aload_n 0, 1) := dk_42 (dk_at dksX4_layDown_0 7 rfl rfl)
theorem dX4_layDown_8 : decode cX4_layDown 8 = .ok (.getfield 29, 3) := dk_180 0 29 (dk_at dksX4_layDown_0 8 rfl rfl)
theorem dX4_layDown_11 : decode cX4_layDown 11 = .ok (.aload_n 0, 1) := dk_42 (dk_at dksX4_layDown_0 11 rfl rfl)
theorem dX4_layDown_12 : decode cX4_layDown 12 = .ok (.getfield 156, 3) := dk_180 0 156 (dk_at dksX4_layDown_0 12 rfl rfl)
theorem dX4_layDown_15 : decode cX4_layDown 15 = .ok (.iconst 1, 1) := dk_4 (dk_at dksX4_layDown_0 15 rfl rfl)
theorem dX4_layDown_16 : decode cX4_layDown 16 = .ok (.isub, 1) := dk_100 (dk_at dksX4_layDown_0 16 rfl rfl)
theorem dX4_layDown_17 : decode cX4_layDown 17 = .ok (.iaload, 1) := dk_46 (dk_at dksX4_layDown_0 17 rfl rfl)
theorem dX4_layDown_18 : decode cX4_layDown 18 = .ok (.invokestatic 159, 3) := dk_184 0 159 (dk_at dksX4_layDown_0 18 rfl rfl)
theorem dX4_layDown_21 : decode cX4_layDown 21 = .ok (.iload_n 1, 1) := dk_27 (dk_at dksX4_layDown_0 21 rfl rfl)
theorem dX4_layDown_22 : decode cX4_layDown 22 = .ok (.if_icmp .lt 54, 3) := dk_161 0 54 (dk_at dksX4_layDown_1 0 rfl rfl)
theorem dX4_layDown_25 : decode cX4_layDown 25 = .ok (.aload_n 0, 1) := dk_42 (dk_at dksX4_layDown_1 3 rfl rfl)
theorem dX4_layDown_26 : decode cX4_layDown 26 = .ok (.dup, 1) := dk_89 (dk_at dksX4_layDown_1 4 rfl rfl)
theorem dX4_layDown_27 : decode cX4_layDown 27 = .ok (.getfield 156, 3) := dk_180 0 156 (dk_at dksX4_layDown_1 5 rfl rfl)
theorem dX4_layDown_30 : decode cX4_layDown 30 = .ok (.iconst 1, 1) := dk_4 (dk_at dksX4_layDown_1 8 rfl rfl)
theorem dX4_layDown_31 : decode cX4_layDown 31 = .ok (.isub, 1) := dk_100 (dk_at dksX4_layDown_1 9 rfl rfl)
theorem dX4_layDown_32 : decode cX4_layDown 32 = .ok (.putfield 156, 3) := dk_181 0 156 (dk_at dksX4_layDown_1 10 rfl rfl)
theorem dX4_layDown_35 : decode cX4_layDown 35 = .ok (.aload_n 0, 1) := dk_42 (dk_at dksX4_layDown_1 13 rfl rfl)
theorem dX4_layDown_36 : decode cX4_layDown 36 = .ok (.aload_n 0, 1) := dk_42 (dk_at dksX4_layDown_1 14 rfl rfl)
theorem dX4_layDown_37 : decode cX4_layDown 37 = .ok (.getfield 29, 3) := dk_180 0 29 (dk_at dksX4_layDown_1 15 rfl rfl)
theorem dX4_layDown_40 : decode cX4_layDown 40 = .ok (.aload_n 0, 1) := dk_42 (dk_at dksX4_layDown_1 18 rfl rfl)
theorem dX4_layDown_41 : decode cX4_layDown 41 = .ok (.getfield 156, 3) := dk_180 0 156 (dk_at dksX4_layDown_1 19 rfl rfl)
theorem dX4_layDown_44 : decode cX4_layDown 44 = .ok (.iaload, 1) := dk_46 (dk_at dksX4_layDown_1 22 rfl rfl)
theorem dX4_layDown_45 : decode cX4_layDown 45 = .ok (.iconst 0, 1) := dk_3 (dk_at dksX4_layDown_1 23 rfl rfl)
theorem dX4_layDown_46 : decode cX4_layDown 46 = .ok (.invokevirtual 163, 3) := dk_182 0 163 (dk_at dksX4_layDown_2 0 rfl rfl)
theorem dX4_layDown_49 : decode cX4_layDown 49 = .ok (.aload_n 0, 1) := dk_42 (dk_at dksX4_layDown_2 3 rfl rfl)
theorem dX4_layDown_50 : decode cX4_layDown 50 = .ok (.getfield 29, 3) := dk_180 0 29 (dk_at dksX4_layDown_2 4 rfl rfl)
theorem dX4_layDown_53 : decode cX4_layDown 53 = .ok (.aload_n 0, 1) := dk_42 (dk_at dksX4_layDown_2 7 rfl rfl)
theorem dX4_layDown_54 : decode cX4_layDown 54 = .ok (.getfield 156, 3) := dk_180 0 156 (dk_at dksX4_layDown_2 8 rfl rfl)
theorem dX4_layDown_57 : decode cX4_layDown 57 = .ok (.iaload, 1) := dk_46 (dk_at dksX4_layDown_2 11 rfl rfl)
theorem dX4_layDown_58 : decode cX4_layDown 58 = .ok (.bipush 11, 2) := dk_16 11 (dk_at dksX4_layDown_2 12 rfl rfl)
theorem dX4_layDown_60 : decode cX4_layDown 60 = .ok (.if_icmp .ne (-60), 3) := dk_160 255 196 (dk_at dksX4_layDown_2 14 rfl rfl)
theorem dX4_layDown_63 : decode cX4_layDown 63 = .ok (.aload_n 0, 1) := dk_42 (dk_at dksX4_layDown_2 17 rfl rfl)
theorem dX4_layDown_64 : decode cX4_layDown 64 = .ok (.dup, 1) := dk_89 (dk_at dksX4_layDown_2 18 rfl rfl)
theorem dX4_layDown_65 : decode cX4_layDown 65 = .ok (.getfield 153, 3) := dk_180 0 153 (dk_at dksX4_layDown_2 19 rfl rfl)
theorem dX4_layDown_68 : decode cX4_layDown 68 = .ok (.iconst 1, 1) := dk_4 (dk_at dksX4_layDown_2 22 rfl rfl)
theorem dX4_layDown_69 : decode cX4_layDown 69 = .ok (.isub, 1) := dk_100 (dk_at dksX4_layDown_2 23 rfl rfl)
theorem dX4_layDown_70 : decode cX4_layDown 70 = .ok (.putfield 153, 3) := dk_181 0 153 (dk_at dksX4_layDown_3 0 rfl rfl)
theorem dX4_layDown_73 : decode cX4_layDown 73 = .ok (.goto (-73), 3) := dk_167 255 183 (dk_at dksX4_layDown_3 3 rfl rfl)
theorem dX4_layDown_76 : decode cX4_layDown 76 = .ok (.return_, 1) := dk_177 (dk_at dksX4_layDown_3 6 rfl rfl)
abbrev cX4_strength : ByteArray := prog_19_method_20_code
def yX4_strength : MethodName := ⟨RX4, "strength", "(I)I"⟩
def dkwX4_strength_1 : List UInt8 := [160, 0, 7, 6, 167, 0, 4, 3, 172]
abbrev dktX4_strength_1 : List UInt8 := dkwX4_strength_1 ++ []
def dkwX4_strength_0 : List UInt8 := [26, 16, 13, 160, 0, 7, 4, 167, 0, 24, 26, 16, 12, 160, 0, 7, 5, 167, 0, 14, 26, 16, 11]
abbrev dktX4_strength_0 : List UInt8 := dkwX4_strength_0 ++ dktX4_strength_1
theorem dksX4_strength_0 : cX4_strength.data.toList.drop 0 = dktX4_strength_0 := by decide +kernel
theorem dksX4_strength_1 : cX4_strength.data.toList.drop 23 = dktX4_strength_1 := dk_seg dksX4_strength_0 23 rfl rfl
theorem dX4_strength_0 : decode cX4_strength 0 = .ok (.iload_n 0, 1) := dk_26 (dk_at dksX4_strength_0 0 rfl rfl)
theorem dX4_strength_1 : decode cX4_strength 1 = .ok (.bipush 13, 2) := dk_16 13 (dk_at dksX4_strength_0 1 rfl rfl)
theorem dX4_strength_3 : decode cX4_strength 3 = .ok (.if_icmp .ne 7, 3) := dk_160 0 7 (dk_at dksX4_strength_0 3 rfl rfl)
theorem dX4_strength_6 : decode cX4_strength 6 = .ok (.iconst 1, 1) := dk_4 (dk_at dksX4_strength_0 6 rfl rfl)
theorem dX4_strength_7 : decode cX4_strength 7 = .ok (.goto 24, 3) := dk_167 0 24 (dk_at dksX4_strength_0 7 rfl rfl)
theorem dX4_strength_10 : decode cX4_strength 10 = .ok (.iload_n 0, 1) := dk_26 (dk_at dksX4_strength_0 10 rfl rfl)
theorem dX4_strength_11 : decode cX4_strength 11 = .ok (.bipush 12, 2) := dk_16 12 (dk_at dksX4_strength_0 11 rfl rfl)
theorem dX4_strength_13 : decode cX4_strength 13 = .ok (.if_icmp .ne 7, 3) := dk_160 0 7 (dk_at dksX4_strength_0 13 rfl rfl)
theorem dX4_strength_16 : decode cX4_strength 16 = .ok (.iconst 2, 1) := dk_5 (dk_at dksX4_strength_0 16 rfl rfl)
theorem dX4_strength_17 : decode cX4_strength 17 = .ok (.goto 14, 3) := dk_167 0 14 (dk_at dksX4_strength_0 17 rfl rfl)
theorem dX4_strength_20 : decode cX4_strength 20 = .ok (.iload_n 0, 1) := dk_26 (dk_at dksX4_strength_0 20 rfl rfl)
theorem dX4_strength_21 : decode cX4_strength 21 = .ok (.bipush 11, 2) := dk_16 11 (dk_at dksX4_strength_0 21 rfl rfl)
theorem dX4_strength_23 : decode cX4_strength 23 = .ok (.if_icmp .ne 7, 3) := dk_160 0 7 (dk_at dksX4_strength_1 0 rfl rfl)
theorem dX4_strength_26 : decode cX4_strength 26 = .ok (.iconst 3, 1) := dk_6 (dk_at dksX4_strength_1 3 rfl rfl)
theorem dX4_strength_27 : decode cX4_strength 27 = .ok (.goto 4, 3) := dk_167 0 4 (dk_at dksX4_strength_1 4 rfl rfl)
theorem dX4_strength_30 : decode cX4_strength 30 = .ok (.iconst 0, 1) := dk_3 (dk_at dksX4_strength_1 7 rfl rfl)
theorem dX4_strength_31 : decode cX4_strength 31 = .ok (.ireturn, 1) := dk_172 (dk_at dksX4_strength_1 8 rfl rfl)
abbrev cX4_isInside : ByteArray := prog_19_method_27_code
def yX4_isInside : MethodName := ⟨RX4, "isInside", "()Z"⟩
def dkwX4_isInside_1 : List UInt8 := [132, 1, 1, 167, 255, 232, 3, 172]
abbrev dktX4_isInside_1 : List UInt8 := dkwX4_isInside_1 ++ []
def dkwX4_isInside_0 : List UInt8 := [3, 60, 27, 42, 180, 0, 156, 162, 0, 22, 42, 180, 0, 29, 27, 46, 16, 91, 160, 0, 5, 4, 172]
abbrev dktX4_isInside_0 : List UInt8 := dkwX4_isInside_0 ++ dktX4_isInside_1
theorem dksX4_isInside_0 : cX4_isInside.data.toList.drop 0 = dktX4_isInside_0 := by decide +kernel
theorem dksX4_isInside_1 : cX4_isInside.data.toList.drop 23 = dktX4_isInside_1 := dk_seg dksX4_isInside_0 23 rfl rfl
theorem dX4_isInside_0 : decode cX4_isInside 0 = .ok (.iconst 0, 1) := dk_3 (dk_at dksX4_isInside_0 0 rfl rfl)
theorem dX4_isInside_1 : decode cX4_isInside 1 = .ok (.istore_n 1, 1) := dk_60 (dk_at dksX4_isInside_0 1 rfl rfl)
theorem dX4_isInside_2 : decode cX4_isInside 2 = .ok (.iload_n 1, 1) := dk_27 (dk_at dksX4_isInside_0 2 rfl rfl)
theorem dX4_isInside_3 : decode cX4_isInside 3 = .ok (.aload_n 0, 1) := dk_42 (dk_at dksX4_isInside_0 3 rfl rfl)
theorem dX4_isInside_4 : decode cX4_isInside 4 = .ok (.getfield 156, 3) := dk_180 0 156 (dk_at dksX4_isInside_0 4 rfl rfl)
theorem dX4_isInside_7 : decode cX4_isInside 7 = .ok (.if_icmp .ge 22, 3) := dk_162 0 22 (dk_at dksX4_isInside_0 7 rfl rfl)
theorem dX4_isInside_10 : decode cX4_isInside 10 = .ok (.aload_n 0, 1) := dk_42 (dk_at dksX4_isInside_0 10 rfl rfl)
theorem dX4_isInside_11 : decode cX4_isInside 11 = .ok (.getfield 29, 3) := dk_180 0 29 (dk_at dksX4_isInside_0 11 rfl rfl)
theorem dX4_isInside_14 : decode cX4_isInside 14 = .ok (.iload_n 1, 1) := dk_27 (dk_at dksX4_isInside_0 14 rfl rfl)
theorem dX4_isInside_15 : decode cX4_isInside 15 = .ok (.iaload, 1) := dk_46 (dk_at dksX4_isInside_0 15 rfl rfl)
theorem dX4_isInside_16 : decode cX4_isInside 16 = .ok (.bipush 91, 2) := dk_16 91 (dk_at dksX4_isInside_0 16 rfl rfl)
theorem dX4_isInside_18 : decode cX4_isInside 18 = .ok (.if_icmp .ne 5, 3) := dk_160 0 5 (dk_at dksX4_isInside_0 18 rfl rfl)
theorem dX4_isInside_21 : decode cX4_isInside 21 = .ok (.iconst 1, 1) := dk_4 (dk_at dksX4_isInside_0 21 rfl rfl)
theorem dX4_isInside_22 : decode cX4_isInside 22 = .ok (.ireturn, 1) := dk_172 (dk_at dksX4_isInside_0 22 rfl rfl)
theorem dX4_isInside_23 : decode cX4_isInside 23 = .ok (.iinc 1 1, 3) := dk_132 1 1 (dk_at dksX4_isInside_1 0 rfl rfl)
theorem dX4_isInside_26 : decode cX4_isInside 26 = .ok (.goto (-24), 3) := dk_167 255 232 (dk_at dksX4_isInside_1 3 rfl rfl)
theorem dX4_isInside_29 : decode cX4_isInside 29 = .ok (.iconst 0, 1) := dk_3 (dk_at dksX4_isInside_1 6 rfl rfl)
theorem dX4_isInside_30 : decode cX4_isInside 30 = .ok (.ireturn, 1) := dk_172 (dk_at dksX4_isInside_1 7 rfl rfl)
abbrev cX4_valley : ByteArray := prog_19_method_42_code
def yX4_valley : MethodName := ⟨RX4, "valley", "()I"⟩
def dkwX4_valley_4 : List UInt8 := [6, 46, 172]
abbrev dktX4_valley_4 : List UInt8 := dkwX4_valley_4 ++ []
def dkwX4_valley_3 : List UInt8 := [79, 132, 1, 1, 167, 255, 224, 42, 182, 1, 14, 42, 182, 1, 17, 42, 3, 181, 1, 20, 42, 180, 0, 39]
abbrev dktX4_valley_3 : List UInt8 := dkwX4_valley_3 ++ dktX4_valley_4
def dkwX4_valley_2 : List UInt8 := [162, 0, 31, 42, 180, 0, 39, 27, 27, 16, 111, 162, 0, 12, 42, 180, 0, 26, 27, 46, 167, 0, 4, 3]
abbrev dktX4_valley_2 : List UInt8 := dkwX4_valley_2 ++ dktX4_valley_3
def dkwX4_valley_1 : List UInt8 := [167, 255, 240, 42, 182, 1, 11, 154, 0, 11, 16, 254, 42, 180, 0, 90, 100, 172, 3, 60, 27, 17, 0, 132]
abbrev dktX4_valley_1 : List UInt8 := dkwX4_valley_1 ++ dktX4_valley_2
def dkwX4_valley_0 : List UInt8 := [42, 16, 6, 181, 0, 147, 3, 60, 27, 16, 111, 162, 0, 16, 42, 180, 0, 26, 27, 3, 79, 132, 1, 1]
abbrev dktX4_valley_0 : List UInt8 := dkwX4_valley_0 ++ dktX4_valley_1
theorem dksX4_valley_0 : cX4_valley.data.toList.drop 0 = dktX4_valley_0 := by decide +kernel
theorem dksX4_valley_1 : cX4_valley.data.toList.drop 24 = dktX4_valley_1 := dk_seg dksX4_valley_0 24 rfl rfl
theorem dksX4_valley_2 : cX4_valley.data.toList.drop 48 = dktX4_valley_2 := dk_seg dksX4_valley_1 24 rfl rfl
theorem dksX4_valley_3 : cX4_valley.data.toList.drop 72 = dktX4_valley_3 := dk_seg dksX4_valley_2 24 rfl rfl
theorem dksX4_valley_4 : cX4_valley.data.toList.drop 96 = dktX4_valley_4 := dk_seg dksX4_valley_3 24 rfl rfl
theorem dX4_valley_0 : decode cX4_valley 0 = .ok (.aload_n 0, 1) := dk_42 (dk_at dksX4_valley_0 0 rfl rfl)
theorem dX4_valley_1 : decode cX4_valley 1 = .ok (.bipush 6, 2) := dk_16 6 (dk_at dksX4_valley_0 1 rfl rfl)
theorem dX4_valley_3 : decode cX4_valley 3 = .ok (.putfield 147, 3) := dk_181 0 147 (dk_at dksX4_valley_0 3 rfl rfl)
theorem dX4_valley_6 : decode cX4_valley 6 = .ok (.iconst 0, 1) := dk_3 (dk_at dksX4_valley_0 6 rfl rfl)
theorem dX4_valley_7 : decode cX4_valley 7 = .ok (.istore_n 1, 1) := dk_60 (dk_at dksX4_valley_0 7 rfl rfl)
theorem dX4_valley_8 : decode cX4_valley 8 = .ok (.iload_n 1, 1) := dk_27 (dk_at dksX4_valley_0 8 rfl rfl)
theorem dX4_valley_9 : decode cX4_valley 9 = .ok (.bipush 111, 2) := dk_16 111 (dk_at dksX4_valley_0 9 rfl rfl)
theorem dX4_valley_11 : decode cX4_valley 11 = .ok (.if_icmp .ge 16, 3) := dk_162 0 16 (dk_at dksX4_valley_0 11 rfl rfl)
theorem dX4_valley_14 : decode cX4_valley 14 = .ok (.aload_n 0, 1) := dk_42 (dk_at dksX4_valley_0 14 rfl rfl)
theorem dX4_valley_15 : decode cX4_valley 15 = .ok (.getfield 26, 3) := dk_180 0 26 (dk_at dksX4_valley_0 15 rfl rfl)
theorem dX4_valley_18 : decode cX4_valley 18 = .ok (.iload_n 1, 1) := dk_27 (dk_at dksX4_valley_0 18 rfl rfl)
theorem dX4_valley_19 : decode cX4_valley 19 = .ok (.iconst 0, 1) := dk_3 (dk_at dksX4_valley_0 19 rfl rfl)
theorem dX4_valley_20 : decode cX4_valley 20 = .ok (.iastore, 1) := dk_79 (dk_at dksX4_valley_0 20 rfl rfl)
theorem dX4_valley_21 : decode cX4_valley 21 = .ok (.iinc 1 1, 3) := dk_132 1 1 (dk_at dksX4_valley_0 21 rfl rfl)
theorem dX4_valley_24 : decode cX4_valley 24 = .ok (.goto (-16), 3) := dk_167 255 240 (dk_at dksX4_valley_1 0 rfl rfl)
theorem dX4_valley_27 : decode cX4_valley 27 = .ok (.aload_n 0, 1) := dk_42 (dk_at dksX4_valley_1 3 rfl rfl)
theorem dX4_valley_28 : decode cX4_valley 28 = .ok (.invokevirtual 267, 3) := dk_182 1 11 (dk_at dksX4_valley_1 4 rfl rfl)
theorem dX4_valley_31 : decode cX4_valley 31 = .ok (.ifCond .ne 11, 3) := dk_154 0 11 (dk_at dksX4_valley_1 7 rfl rfl)
theorem dX4_valley_34 : decode cX4_valley 34 = .ok (.bipush (-2), 2) := dk_16 254 (dk_at dksX4_valley_1 10 rfl rfl)
theorem dX4_valley_36 : decode cX4_valley 36 = .ok (.aload_n 0, 1) := dk_42 (dk_at dksX4_valley_1 12 rfl rfl)
theorem dX4_valley_37 : decode cX4_valley 37 = .ok (.getfield 90, 3) := dk_180 0 90 (dk_at dksX4_valley_1 13 rfl rfl)
theorem dX4_valley_40 : decode cX4_valley 40 = .ok (.isub, 1) := dk_100 (dk_at dksX4_valley_1 16 rfl rfl)
theorem dX4_valley_41 : decode cX4_valley 41 = .ok (.ireturn, 1) := dk_172 (dk_at dksX4_valley_1 17 rfl rfl)
theorem dX4_valley_42 : decode cX4_valley 42 = .ok (.iconst 0, 1) := dk_3 (dk_at dksX4_valley_1 18 rfl rfl)
theorem dX4_valley_43 : decode cX4_valley 43 = .ok (.istore_n 1, 1) := dk_60 (dk_at dksX4_valley_1 19 rfl rfl)
theorem dX4_valley_44 : decode cX4_valley 44 = .ok (.iload_n 1, 1) := dk_27 (dk_at dksX4_valley_1 20 rfl rfl)
theorem dX4_valley_45 : decode cX4_valley 45 = .ok (.sipush 132, 3) := dk_17 0 132 (dk_at dksX4_valley_1 21 rfl rfl)
theorem dX4_valley_48 : decode cX4_valley 48 = .ok (.if_icmp .ge 31, 3) := dk_162 0 31 (dk_at dksX4_valley_2 0 rfl rfl)
theorem dX4_valley_51 : decode cX4_valley 51 = .ok (.aload_n 0, 1) := dk_42 (dk_at dksX4_valley_2 3 rfl rfl)
theorem dX4_valley_52 : decode cX4_valley 52 = .ok (.getfield 39, 3) := dk_180 0 39 (dk_at dksX4_valley_2 4 rfl rfl)
theorem dX4_valley_55 : decode cX4_valley 55 = .ok (.iload_n 1, 1) := dk_27 (dk_at dksX4_valley_2 7 rfl rfl)
theorem dX4_valley_56 : decode cX4_valley 56 = .ok (.iload_n 1, 1) := dk_27 (dk_at dksX4_valley_2 8 rfl rfl)
theorem dX4_valley_57 : decode cX4_valley 57 = .ok (.bipush 111, 2) := dk_16 111 (dk_at dksX4_valley_2 9 rfl rfl)
theorem dX4_valley_59 : decode cX4_valley 59 = .ok (.if_icmp .ge 12, 3) := dk_162 0 12 (dk_at dksX4_valley_2 11 rfl rfl)
theorem dX4_valley_62 : decode cX4_valley 62 = .ok (.aload_n 0, 1) := dk_42 (dk_at dksX4_valley_2 14 rfl rfl)
theorem dX4_valley_63 : decode cX4_valley 63 = .ok (.getfield 26, 3) := dk_180 0 26 (dk_at dksX4_valley_2 15 rfl rfl)
theorem dX4_valley_66 : decode cX4_valley 66 = .ok (.iload_n 1, 1) := dk_27 (dk_at dksX4_valley_2 18 rfl rfl)
theorem dX4_valley_67 : decode cX4_valley 67 = .ok (.iaload, 1) := dk_46 (dk_at dksX4_valley_2 19 rfl rfl)
theorem dX4_valley_68 : decode cX4_valley 68 = .ok (.goto 4, 3) := dk_167 0 4 (dk_at dksX4_valley_2 20 rfl rfl)
theorem dX4_valley_71 : decode cX4_valley 71 = .ok (.iconst 0, 1) := dk_3 (dk_at dksX4_valley_2 23 rfl rfl)
theorem dX4_valley_72 : decode cX4_valley 72 = .ok (.iastore, 1) := dk_79 (dk_at dksX4_valley_3 0 rfl rfl)
theorem dX4_valley_73 : decode cX4_valley 73 = .ok (.iinc 1 1, 3) := dk_132 1 1 (dk_at dksX4_valley_3 1 rfl rfl)
theorem dX4_valley_76 : decode cX4_valley 76 = .ok (.goto (-32), 3) := dk_167 255 224 (dk_at dksX4_valley_3 4 rfl rfl)
theorem dX4_valley_79 : decode cX4_valley 79 = .ok (.aload_n 0, 1) := dk_42 (dk_at dksX4_valley_3 7 rfl rfl)
theorem dX4_valley_80 : decode cX4_valley 80 = .ok (.invokevirtual 270, 3) := dk_182 1 14 (dk_at dksX4_valley_3 8 rfl rfl)
theorem dX4_valley_83 : decode cX4_valley 83 = .ok (.aload_n 0, 1) := dk_42 (dk_at dksX4_valley_3 11 rfl rfl)
theorem dX4_valley_84 : decode cX4_valley 84 = .ok (.invokevirtual 273, 3) := dk_182 1 17 (dk_at dksX4_valley_3 12 rfl rfl)
theorem dX4_valley_87 : decode cX4_valley 87 = .ok (.aload_n 0, 1) := dk_42 (dk_at dksX4_valley_3 15 rfl rfl)
theorem dX4_valley_88 : decode cX4_valley 88 = .ok (.iconst 0, 1) := dk_3 (dk_at dksX4_valley_3 16 rfl rfl)
theorem dX4_valley_89 : decode cX4_valley 89 = .ok (.putfield 276, 3) := dk_181 1 20 (dk_at dksX4_valley_3 17 rfl rfl)
theorem dX4_valley_92 : decode cX4_valley 92 = .ok (.aload_n 0, 1) := dk_42 (dk_at dksX4_valley_3 20 rfl rfl)
theorem dX4_valley_93 : decode cX4_valley 93 = .ok (.getfield 39, 3) := dk_180 0 39 (dk_at dksX4_valley_3 21 rfl rfl)
theorem dX4_valley_96 : decode cX4_valley 96 = .ok (.iconst 3, 1) := dk_6 (dk_at dksX4_valley_4 0 rfl rfl)
theorem dX4_valley_97 : decode cX4_valley 97 = .ok (.iaload, 1) := dk_46 (dk_at dksX4_valley_4 1 rfl rfl)
theorem dX4_valley_98 : decode cX4_valley 98 = .ok (.ireturn, 1) := dk_172 (dk_at dksX4_valley_4 2 rfl rfl)
abbrev cX4_measures : ByteArray := prog_19_method_58_code
def yX4_measures : MethodName := ⟨RX4, "measures", "()V"⟩
def dkwX4_measures_8 : List UInt8 := [132, 1, 1, 167, 255, 147, 177]
abbrev dktX4_measures_8 : List UInt8 := dkwX4_measures_8 ++ []
def dkwX4_measures_7 : List UInt8 := [16, 44, 16, 7, 28, 104, 96, 29, 96, 21, 4, 79, 132, 3, 1, 167, 255, 175, 132, 2, 1, 167, 255, 161]
abbrev dktX4_measures_7 : List UInt8 := dkwX4_measures_7 ++ dktX4_measures_8
def dkwX4_measures_6 : List UInt8 := [42, 28, 29, 182, 1, 50, 155, 0, 14, 21, 4, 42, 28, 29, 182, 1, 50, 162, 0, 19, 42, 180, 0, 39]
abbrev dktX4_measures_6 : List UInt8 := dkwX4_measures_6 ++ dktX4_measures_7
def dkwX4_measures_5 : List UInt8 := [182, 1, 50, 156, 0, 6, 167, 0, 54, 42, 28, 27, 182, 1, 50, 42, 27, 29, 182, 1, 50, 96, 54, 4]
abbrev dktX4_measures_5 : List UInt8 := dkwX4_measures_5 ++ dktX4_measures_6
def dkwX4_measures_4 : List UInt8 := [162, 0, 95, 3, 62, 29, 16, 7, 162, 0, 81, 42, 28, 27, 182, 1, 50, 155, 0, 66, 42, 27, 29]
abbrev dktX4_measures_4 : List UInt8 := dkwX4_measures_4 ++ dktX4_measures_5
def dkwX4_measures_3 : List UInt8 := [167, 255, 199, 132, 1, 1, 167, 255, 185, 3, 60, 27, 16, 7, 162, 0, 109, 3, 61, 28, 16, 7]
abbrev dktX4_measures_3 : List UInt8 := dkwX4_measures_3 ++ dktX4_measures_4
def dkwX4_measures_2 : List UInt8 := [154, 0, 19, 42, 180, 0, 39, 16, 44, 16, 7, 27, 104, 96, 28, 96, 16, 254, 79, 132, 2, 1]
abbrev dktX4_measures_2 : List UInt8 := dkwX4_measures_2 ++ dktX4_measures_3
def dkwX4_measures_1 : List UInt8 := [180, 0, 39, 16, 44, 16, 7, 27, 104, 96, 28, 96, 3, 79, 167, 0, 28, 42, 27, 28, 182, 1, 50]
abbrev dktX4_measures_1 : List UInt8 := dkwX4_measures_1 ++ dktX4_measures_2
def dkwX4_measures_0 : List UInt8 := [3, 60, 27, 16, 7, 162, 0, 71, 3, 61, 28, 16, 7, 162, 0, 57, 27, 28, 160, 0, 21, 42]
abbrev dktX4_measures_0 : List UInt8 := dkwX4_measures_0 ++ dktX4_measures_1
theorem dksX4_measures_0 : cX4_measures.data.toList.drop 0 = dktX4_measures_0 := by decide +kernel
theorem dksX4_measures_1 : cX4_measures.data.toList.drop 22 = dktX4_measures_1 := dk_seg dksX4_measures_0 22 rfl rfl
theorem dksX4_measures_2 : cX4_measures.data.toList.drop 45 = dktX4_measures_2 := dk_seg dksX4_measures_1 23 rfl rfl
theorem dksX4_measures_3 : cX4_measures.data.toList.drop 67 = dktX4_measures_3 := dk_seg dksX4_measures_2 22 rfl rfl
theorem dksX4_measures_4 : cX4_measures.data.toList.drop 89 = dktX4_measures_4 := dk_seg dksX4_measures_3 22 rfl rfl
theorem dksX4_measures_5 : cX4_measures.data.toList.drop 112 = dktX4_measures_5 := dk_seg dksX4_measures_4 23 rfl rfl
theorem dksX4_measures_6 : cX4_measures.data.toList.drop 136 = dktX4_measures_6 := dk_seg dksX4_measures_5 24 rfl rfl
theorem dksX4_measures_7 : cX4_measures.data.toList.drop 160 = dktX4_measures_7 := dk_seg dksX4_measures_6 24 rfl rfl
theorem dksX4_measures_8 : cX4_measures.data.toList.drop 184 = dktX4_measures_8 := dk_seg dksX4_measures_7 24 rfl rfl
theorem dX4_measures_0 : decode cX4_measures 0 = .ok (.iconst 0, 1) := dk_3 (dk_at dksX4_measures_0 0 rfl rfl)
theorem dX4_measures_1 : decode cX4_measures 1 = .ok (.istore_n 1, 1) := dk_60 (dk_at dksX4_measures_0 1 rfl rfl)
theorem dX4_measures_2 : decode cX4_measures 2 = .ok (.iload_n 1, 1) := dk_27 (dk_at dksX4_measures_0 2 rfl rfl)
theorem dX4_measures_3 : decode cX4_measures 3 = .ok (.bipush 7, 2) := dk_16 7 (dk_at dksX4_measures_0 3 rfl rfl)
theorem dX4_measures_5 : decode cX4_measures 5 = .ok (.if_icmp .ge 71, 3) := dk_162 0 71 (dk_at dksX4_measures_0 5 rfl rfl)
theorem dX4_measures_8 : decode cX4_measures 8 = .ok (.iconst 0, 1) := dk_3 (dk_at dksX4_measures_0 8 rfl rfl)
theorem dX4_measures_9 : decode cX4_measures 9 = .ok (.istore_n 2, 1) := dk_61 (dk_at dksX4_measures_0 9 rfl rfl)
theorem dX4_measures_10 : decode cX4_measures 10 = .ok (.iload_n 2, 1) := dk_28 (dk_at dksX4_measures_0 10 rfl rfl)
theorem dX4_measures_11 : decode cX4_measures 11 = .ok (.bipush 7, 2) := dk_16 7 (dk_at dksX4_measures_0 11 rfl rfl)
theorem dX4_measures_13 : decode cX4_measures 13 = .ok (.if_icmp .ge 57, 3) := dk_162 0 57 (dk_at dksX4_measures_0 13 rfl rfl)
theorem dX4_measures_16 : decode cX4_measures 16 = .ok (.iload_n 1, 1) := dk_27 (dk_at dksX4_measures_0 16 rfl rfl)
theorem dX4_measures_17 : decode cX4_measures 17 = .ok (.iload_n 2, 1) := dk_28 (dk_at dksX4_measures_0 17 rfl rfl)
theorem dX4_measures_18 : decode cX4_measures 18 = .ok (.if_icmp .ne 21, 3) := dk_160 0 21 (dk_at dksX4_measures_0 18 rfl rfl)
theorem dX4_measures_21 : decode cX4_measures 21 = .ok (.aload_n 0, 1) := dk_42 (dk_at dksX4_measures_0 21 rfl rfl)
theorem dX4_measures_22 : decode cX4_measures 22 = .ok (.getfield 39, 3) := dk_180 0 39 (dk_at dksX4_measures_1 0 rfl rfl)
theorem dX4_measures_25 : decode cX4_measures 25 = .ok (.bipush 44, 2) := dk_16 44 (dk_at dksX4_measures_1 3 rfl rfl)
theorem dX4_measures_27 : decode cX4_measures 27 = .ok (.bipush 7, 2) := dk_16 7 (dk_at dksX4_measures_1 5 rfl rfl)
theorem dX4_measures_29 : decode cX4_measures 29 = .ok (.iload_n 1, 1) := dk_27 (dk_at dksX4_measures_1 7 rfl rfl)
theorem dX4_measures_30 : decode cX4_measures 30 = .ok (.imul, 1) := dk_104 (dk_at dksX4_measures_1 8 rfl rfl)
theorem dX4_measures_31 : decode cX4_measures 31 = .ok (.iadd, 1) := dk_96 (dk_at dksX4_measures_1 9 rfl rfl)
theorem dX4_measures_32 : decode cX4_measures 32 = .ok (.iload_n 2, 1) := dk_28 (dk_at dksX4_measures_1 10 rfl rfl)
theorem dX4_measures_33 : decode cX4_measures 33 = .ok (.iadd, 1) := dk_96 (dk_at dksX4_measures_1 11 rfl rfl)
theorem dX4_measures_34 : decode cX4_measures 34 = .ok (.iconst 0, 1) := dk_3 (dk_at dksX4_measures_1 12 rfl rfl)
theorem dX4_measures_35 : decode cX4_measures 35 = .ok (.iastore, 1) := dk_79 (dk_at dksX4_measures_1 13 rfl rfl)
theorem dX4_measures_36 : decode cX4_measures 36 = .ok (.goto 28, 3) := dk_167 0 28 (dk_at dksX4_measures_1 14 rfl rfl)
theorem dX4_measures_39 : decode cX4_measures 39 = .ok (.aload_n 0, 1) := dk_42 (dk_at dksX4_measures_1 17 rfl rfl)
theorem dX4_measures_40 : decode cX4_measures 40 = .ok (.iload_n 1, 1) := dk_27 (dk_at dksX4_measures_1 18 rfl rfl)
theorem dX4_measures_41 : decode cX4_measures 41 = .ok (.iload_n 2, 1) := dk_28 (dk_at dksX4_measures_1 19 rfl rfl)
theorem dX4_measures_42 : decode cX4_measures 42 = .ok (.invokevirtual 306, 3) := dk_182 1 50 (dk_at dksX4_measures_1 20 rfl rfl)
theorem dX4_measures_45 : decode cX4_measures 45 = .ok (.ifCond .ne 19, 3) := dk_154 0 19 (dk_at dksX4_measures_2 0 rfl rfl)
theorem dX4_measures_48 : decode cX4_measures 48 = .ok (.aload_n 0, 1) := dk_42 (dk_at dksX4_measures_2 3 rfl rfl)
theorem dX4_measures_49 : decode cX4_measures 49 = .ok (.getfield 39, 3) := dk_180 0 39 (dk_at dksX4_measures_2 4 rfl rfl)
theorem dX4_measures_52 : decode cX4_measures 52 = .ok (.bipush 44, 2) := dk_16 44 (dk_at dksX4_measures_2 7 rfl rfl)
theorem dX4_measures_54 : decode cX4_measures 54 = .ok (.bipush 7, 2) := dk_16 7 (dk_at dksX4_measures_2 9 rfl rfl)
theorem dX4_measures_56 : decode cX4_measures 56 = .ok (.iload_n 1, 1) := dk_27 (dk_at dksX4_measures_2 11 rfl rfl)
theorem dX4_measures_57 : decode cX4_measures 57 = .ok (.imul, 1) := dk_104 (dk_at dksX4_measures_2 12 rfl rfl)
theorem dX4_measures_58 : decode cX4_measures 58 = .ok (.iadd, 1) := dk_96 (dk_at dksX4_measures_2 13 rfl rfl)
theorem dX4_measures_59 : decode cX4_measures 59 = .ok (.iload_n 2, 1) := dk_28 (dk_at dksX4_measures_2 14 rfl rfl)
theorem dX4_measures_60 : decode cX4_measures 60 = .ok (.iadd, 1) := dk_96 (dk_at dksX4_measures_2 15 rfl rfl)
theorem dX4_measures_61 : decode cX4_measures 61 = .ok (.bipush (-2), 2) := dk_16 254 (dk_at dksX4_measures_2 16 rfl rfl)
theorem dX4_measures_63 : decode cX4_measures 63 = .ok (.iastore, 1) := dk_79 (dk_at dksX4_measures_2 18 rfl rfl)
theorem dX4_measures_64 : decode cX4_measures 64 = .ok (.iinc 2 1, 3) := dk_132 2 1 (dk_at dksX4_measures_2 19 rfl rfl)
theorem dX4_measures_67 : decode cX4_measures 67 = .ok (.goto (-57), 3) := dk_167 255 199 (dk_at dksX4_measures_3 0 rfl rfl)
theorem dX4_measures_70 : decode cX4_measures 70 = .ok (.iinc 1 1, 3) := dk_132 1 1 (dk_at dksX4_measures_3 3 rfl rfl)
theorem dX4_measures_73 : decode cX4_measures 73 = .ok (.goto (-71), 3) := dk_167 255 185 (dk_at dksX4_measures_3 6 rfl rfl)
theorem dX4_measures_76 : decode cX4_measures 76 = .ok (.iconst 0, 1) := dk_3 (dk_at dksX4_measures_3 9 rfl rfl)
theorem dX4_measures_77 : decode cX4_measures 77 = .ok (.istore_n 1, 1) := dk_60 (dk_at dksX4_measures_3 10 rfl rfl)
theorem dX4_measures_78 : decode cX4_measures 78 = .ok (.iload_n 1, 1) := dk_27 (dk_at dksX4_measures_3 11 rfl rfl)
theorem dX4_measures_79 : decode cX4_measures 79 = .ok (.bipush 7, 2) := dk_16 7 (dk_at dksX4_measures_3 12 rfl rfl)
theorem dX4_measures_81 : decode cX4_measures 81 = .ok (.if_icmp .ge 109, 3) := dk_162 0 109 (dk_at dksX4_measures_3 14 rfl rfl)
theorem dX4_measures_84 : decode cX4_measures 84 = .ok (.iconst 0, 1) := dk_3 (dk_at dksX4_measures_3 17 rfl rfl)
theorem dX4_measures_85 : decode cX4_measures 85 = .ok (.istore_n 2, 1) := dk_61 (dk_at dksX4_measures_3 18 rfl rfl)
theorem dX4_measures_86 : decode cX4_measures 86 = .ok (.iload_n 2, 1) := dk_28 (dk_at dksX4_measures_3 19 rfl rfl)
theorem dX4_measures_87 : decode cX4_measures 87 = .ok (.bipush 7, 2) := dk_16 7 (dk_at dksX4_measures_3 20 rfl rfl)
theorem dX4_measures_89 : decode cX4_measures 89 = .ok (.if_icmp .ge 95, 3) := dk_162 0 95 (dk_at dksX4_measures_4 0 rfl rfl)
theorem dX4_measures_92 : decode cX4_measures 92 = .ok (.iconst 0, 1) := dk_3 (dk_at dksX4_measures_4 3 rfl rfl)
theorem dX4_measures_93 : decode cX4_measures 93 = .ok (.istore_n 3, 1) := dk_62 (dk_at dksX4_measures_4 4 rfl rfl)
theorem dX4_measures_94 : decode cX4_measures 94 = .ok (.iload_n 3, 1) := dk_29 (dk_at dksX4_measures_4 5 rfl rfl)
theorem dX4_measures_95 : decode cX4_measures 95 = .ok (.bipush 7, 2) := dk_16 7 (dk_at dksX4_measures_4 6 rfl rfl)
theorem dX4_measures_97 : decode cX4_measures 97 = .ok (.if_icmp .ge 81, 3) := dk_162 0 81 (dk_at dksX4_measures_4 8 rfl rfl)
theorem dX4_measures_100 : decode cX4_measures 100 = .ok (.aload_n 0, 1) := dk_42 (dk_at dksX4_measures_4 11 rfl rfl)
theorem dX4_measures_101 : decode cX4_measures 101 = .ok (.iload_n 2, 1) := dk_28 (dk_at dksX4_measures_4 12 rfl rfl)
theorem dX4_measures_102 : decode cX4_measures 102 = .ok (.iload_n 1, 1) := dk_27 (dk_at dksX4_measures_4 13 rfl rfl)
theorem dX4_measures_103 : decode cX4_measures 103 = .ok (.invokevirtual 306, 3) := dk_182 1 50 (dk_at dksX4_measures_4 14 rfl rfl)
theorem dX4_measures_106 : decode cX4_measures 106 = .ok (.ifCond .lt 66, 3) := dk_155 0 66 (dk_at dksX4_measures_4 17 rfl rfl)
theorem dX4_measures_109 : decode cX4_measures 109 = .ok (.aload_n 0, 1) := dk_42 (dk_at dksX4_measures_4 20 rfl rfl)
theorem dX4_measures_110 : decode cX4_measures 110 = .ok (.iload_n 1, 1) := dk_27 (dk_at dksX4_measures_4 21 rfl rfl)
theorem dX4_measures_111 : decode cX4_measures 111 = .ok (.iload_n 3, 1) := dk_29 (dk_at dksX4_measures_4 22 rfl rfl)
theorem dX4_measures_112 : decode cX4_measures 112 = .ok (.invokevirtual 306, 3) := dk_182 1 50 (dk_at dksX4_measures_5 0 rfl rfl)
theorem dX4_measures_115 : decode cX4_measures 115 = .ok (.ifCond .ge 6, 3) := dk_156 0 6 (dk_at dksX4_measures_5 3 rfl rfl)
theorem dX4_measures_118 : decode cX4_measures 118 = .ok (.goto 54, 3) := dk_167 0 54 (dk_at dksX4_measures_5 6 rfl rfl)
theorem dX4_measures_121 : decode cX4_measures 121 = .ok (.aload_n 0, 1) := dk_42 (dk_at dksX4_measures_5 9 rfl rfl)
theorem dX4_measures_122 : decode cX4_measures 122 = .ok (.iload_n 2, 1) := dk_28 (dk_at dksX4_measures_5 10 rfl rfl)
theorem dX4_measures_123 : decode cX4_measures 123 = .ok (.iload_n 1, 1) := dk_27 (dk_at dksX4_measures_5 11 rfl rfl)
theorem dX4_measures_124 : decode cX4_measures 124 = .ok (.invokevirtual 306, 3) := dk_182 1 50 (dk_at dksX4_measures_5 12 rfl rfl)
theorem dX4_measures_127 : decode cX4_measures 127 = .ok (.aload_n 0, 1) := dk_42 (dk_at dksX4_measures_5 15 rfl rfl)
theorem dX4_measures_128 : decode cX4_measures 128 = .ok (.iload_n 1, 1) := dk_27 (dk_at dksX4_measures_5 16 rfl rfl)
theorem dX4_measures_129 : decode cX4_measures 129 = .ok (.iload_n 3, 1) := dk_29 (dk_at dksX4_measures_5 17 rfl rfl)
theorem dX4_measures_130 : decode cX4_measures 130 = .ok (.invokevirtual 306, 3) := dk_182 1 50 (dk_at dksX4_measures_5 18 rfl rfl)
theorem dX4_measures_133 : decode cX4_measures 133 = .ok (.iadd, 1) := dk_96 (dk_at dksX4_measures_5 21 rfl rfl)
theorem dX4_measures_134 : decode cX4_measures 134 = .ok (.istore 4, 2) := dk_54 4 (dk_at dksX4_measures_5 22 rfl rfl)
theorem dX4_measures_136 : decode cX4_measures 136 = .ok (.aload_n 0, 1) := dk_42 (dk_at dksX4_measures_6 0 rfl rfl)
theorem dX4_measures_137 : decode cX4_measures 137 = .ok (.iload_n 2, 1) := dk_28 (dk_at dksX4_measures_6 1 rfl rfl)
theorem dX4_measures_138 : decode cX4_measures 138 = .ok (.iload_n 3, 1) := dk_29 (dk_at dksX4_measures_6 2 rfl rfl)
theorem dX4_measures_139 : decode cX4_measures 139 = .ok (.invokevirtual 306, 3) := dk_182 1 50 (dk_at dksX4_measures_6 3 rfl rfl)
theorem dX4_measures_142 : decode cX4_measures 142 = .ok (.ifCond .lt 14, 3) := dk_155 0 14 (dk_at dksX4_measures_6 6 rfl rfl)
theorem dX4_measures_145 : decode cX4_measures 145 = .ok (.iload 4, 2) := dk_21 4 (dk_at dksX4_measures_6 9 rfl rfl)
theorem dX4_measures_147 : decode cX4_measures 147 = .ok (.aload_n 0, 1) := dk_42 (dk_at dksX4_measures_6 11 rfl rfl)
theorem dX4_measures_148 : decode cX4_measures 148 = .ok (.iload_n 2, 1) := dk_28 (dk_at dksX4_measures_6 12 rfl rfl)
theorem dX4_measures_149 : decode cX4_measures 149 = .ok (.iload_n 3, 1) := dk_29 (dk_at dksX4_measures_6 13 rfl rfl)
theorem dX4_measures_150 : decode cX4_measures 150 = .ok (.invokevirtual 306, 3) := dk_182 1 50 (dk_at dksX4_measures_6 14 rfl rfl)
theorem dX4_measures_153 : decode cX4_measures 153 = .ok (.if_icmp .ge 19, 3) := dk_162 0 19 (dk_at dksX4_measures_6 17 rfl rfl)
theorem dX4_measures_156 : decode cX4_measures 156 = .ok (.aload_n 0, 1) := dk_42 (dk_at dksX4_measures_6 20 rfl rfl)
theorem dX4_measures_157 : decode cX4_measures 157 = .ok (.getfield 39, 3) := dk_180 0 39 (dk_at dksX4_measures_6 21 rfl rfl)
theorem dX4_measures_160 : decode cX4_measures 160 = .ok (.bipush 44, 2) := dk_16 44 (dk_at dksX4_measures_7 0 rfl rfl)
theorem dX4_measures_162 : decode cX4_measures 162 = .ok (.bipush 7, 2) := dk_16 7 (dk_at dksX4_measures_7 2 rfl rfl)
theorem dX4_measures_164 : decode cX4_measures 164 = .ok (.iload_n 2, 1) := dk_28 (dk_at dksX4_measures_7 4 rfl rfl)
theorem dX4_measures_165 : decode cX4_measures 165 = .ok (.imul, 1) := dk_104 (dk_at dksX4_measures_7 5 rfl rfl)
theorem dX4_measures_166 : decode cX4_measures 166 = .ok (.iadd, 1) := dk_96 (dk_at dksX4_measures_7 6 rfl rfl)
theorem dX4_measures_167 : decode cX4_measures 167 = .ok (.iload_n 3, 1) := dk_29 (dk_at dksX4_measures_7 7 rfl rfl)
theorem dX4_measures_168 : decode cX4_measures 168 = .ok (.iadd, 1) := dk_96 (dk_at dksX4_measures_7 8 rfl rfl)
theorem dX4_measures_169 : decode cX4_measures 169 = .ok (.iload 4, 2) := dk_21 4 (dk_at dksX4_measures_7 9 rfl rfl)
theorem dX4_measures_171 : decode cX4_measures 171 = .ok (.iastore, 1) := dk_79 (dk_at dksX4_measures_7 11 rfl rfl)
theorem dX4_measures_172 : decode cX4_measures 172 = .ok (.iinc 3 1, 3) := dk_132 3 1 (dk_at dksX4_measures_7 12 rfl rfl)
theorem dX4_measures_175 : decode cX4_measures 175 = .ok (.goto (-81), 3) := dk_167 255 175 (dk_at dksX4_measures_7 15 rfl rfl)
theorem dX4_measures_178 : decode cX4_measures 178 = .ok (.iinc 2 1, 3) := dk_132 2 1 (dk_at dksX4_measures_7 18 rfl rfl)
theorem dX4_measures_181 : decode cX4_measures 181 = .ok (.goto (-95), 3) := dk_167 255 161 (dk_at dksX4_measures_7 21 rfl rfl)
theorem dX4_measures_184 : decode cX4_measures 184 = .ok (.iinc 1 1, 3) := dk_132 1 1 (dk_at dksX4_measures_8 0 rfl rfl)
theorem dX4_measures_187 : decode cX4_measures 187 = .ok (.goto (-109), 3) := dk_167 255 147 (dk_at dksX4_measures_8 3 rfl rfl)
theorem dX4_measures_190 : decode cX4_measures 190 = .ok (.return_, 1) := dk_177 (dk_at dksX4_measures_8 6 rfl rfl)
abbrev cX4_farOf : ByteArray := prog_19_method_53_code
def yX4_farOf : MethodName := ⟨RX4, "farOf", "(II)I"⟩
def dkwX4_farOf_0 : List UInt8 := [42, 180, 0, 39, 16, 44, 16, 7, 27, 104, 96, 28, 96, 46, 172]
abbrev dktX4_farOf_0 : List UInt8 := dkwX4_farOf_0 ++ []
theorem dksX4_farOf_0 : cX4_farOf.data.toList.drop 0 = dktX4_farOf_0 := by decide +kernel
theorem dX4_farOf_0 : decode cX4_farOf 0 = .ok (.aload_n 0, 1) := dk_42 (dk_at dksX4_farOf_0 0 rfl rfl)
theorem dX4_farOf_1 : decode cX4_farOf 1 = .ok (.getfield 39, 3) := dk_180 0 39 (dk_at dksX4_farOf_0 1 rfl rfl)
theorem dX4_farOf_4 : decode cX4_farOf 4 = .ok (.bipush 44, 2) := dk_16 44 (dk_at dksX4_farOf_0 4 rfl rfl)
theorem dX4_farOf_6 : decode cX4_farOf 6 = .ok (.bipush 7, 2) := dk_16 7 (dk_at dksX4_farOf_0 6 rfl rfl)
theorem dX4_farOf_8 : decode cX4_farOf 8 = .ok (.iload_n 1, 1) := dk_27 (dk_at dksX4_farOf_0 8 rfl rfl)
theorem dX4_farOf_9 : decode cX4_farOf 9 = .ok (.imul, 1) := dk_104 (dk_at dksX4_farOf_0 9 rfl rfl)
theorem dX4_farOf_10 : decode cX4_farOf 10 = .ok (.iadd, 1) := dk_96 (dk_at dksX4_farOf_0 10 rfl rfl)
theorem dX4_farOf_11 : decode cX4_farOf 11 = .ok (.iload_n 2, 1) := dk_28 (dk_at dksX4_farOf_0 11 rfl rfl)
theorem dX4_farOf_12 : decode cX4_farOf 12 = .ok (.iadd, 1) := dk_96 (dk_at dksX4_farOf_0 12 rfl rfl)
theorem dX4_farOf_13 : decode cX4_farOf 13 = .ok (.iaload, 1) := dk_46 (dk_at dksX4_farOf_0 13 rfl rfl)
theorem dX4_farOf_14 : decode cX4_farOf 14 = .ok (.ireturn, 1) := dk_172 (dk_at dksX4_farOf_0 14 rfl rfl)
abbrev cX4_begins : ByteArray := prog_19_method_59_code
def yX4_begins : MethodName := ⟨RX4, "begins", "()V"⟩
def dkwX4_begins_4 : List UInt8 := [167, 255, 194, 177]
abbrev dktX4_begins_4 : List UInt8 := dkwX4_begins_4 ++ []
def dkwX4_begins_3 : List UInt8 := [79, 132, 2, 1, 167, 255, 222, 42, 180, 0, 39, 16, 14, 7, 27, 104, 96, 6, 96, 3, 79, 132, 1, 1]
abbrev dktX4_begins_3 : List UInt8 := dkwX4_begins_3 ++ dktX4_begins_4
def dkwX4_begins_2 : List UInt8 := [180, 0, 39, 16, 14, 7, 27, 104, 96, 28, 96, 42, 180, 0, 39, 16, 93, 6, 27, 104, 96, 28, 96, 46]
abbrev dktX4_begins_2 : List UInt8 := dkwX4_begins_2 ++ dktX4_begins_3
def dkwX4_begins_1 : List UInt8 := [42, 180, 0, 39, 16, 13, 3, 79, 3, 60, 27, 16, 6, 162, 0, 62, 3, 61, 28, 6, 162, 0, 35, 42]
abbrev dktX4_begins_1 : List UInt8 := dkwX4_begins_1 ++ dktX4_begins_2
def dkwX4_begins_0 : List UInt8 := [42, 180, 0, 39, 16, 10, 3, 79, 42, 180, 0, 39, 16, 11, 3, 79, 42, 180, 0, 39, 16, 12, 2, 79]
abbrev dktX4_begins_0 : List UInt8 := dkwX4_begins_0 ++ dktX4_begins_1
theorem dksX4_begins_0 : cX4_begins.data.toList.drop 0 = dktX4_begins_0 := by decide +kernel
theorem dksX4_begins_1 : cX4_begins.data.toList.drop 24 = dktX4_begins_1 := dk_seg dksX4_begins_0 24 rfl rfl
theorem dksX4_begins_2 : cX4_begins.data.toList.drop 48 = dktX4_begins_2 := dk_seg dksX4_begins_1 24 rfl rfl
theorem dksX4_begins_3 : cX4_begins.data.toList.drop 72 = dktX4_begins_3 := dk_seg dksX4_begins_2 24 rfl rfl
theorem dksX4_begins_4 : cX4_begins.data.toList.drop 96 = dktX4_begins_4 := dk_seg dksX4_begins_3 24 rfl rfl
theorem dX4_begins_0 : decode cX4_begins 0 = .ok (.aload_n 0, 1) := dk_42 (dk_at dksX4_begins_0 0 rfl rfl)
theorem dX4_begins_1 : decode cX4_begins 1 = .ok (.getfield 39, 3) := dk_180 0 39 (dk_at dksX4_begins_0 1 rfl rfl)
theorem dX4_begins_4 : decode cX4_begins 4 = .ok (.bipush 10, 2) := dk_16 10 (dk_at dksX4_begins_0 4 rfl rfl)
theorem dX4_begins_6 : decode cX4_begins 6 = .ok (.iconst 0, 1) := dk_3 (dk_at dksX4_begins_0 6 rfl rfl)
theorem dX4_begins_7 : decode cX4_begins 7 = .ok (.iastore, 1) := dk_79 (dk_at dksX4_begins_0 7 rfl rfl)
theorem dX4_begins_8 : decode cX4_begins 8 = .ok (.aload_n 0, 1) := dk_42 (dk_at dksX4_begins_0 8 rfl rfl)
theorem dX4_begins_9 : decode cX4_begins 9 = .ok (.getfield 39, 3) := dk_180 0 39 (dk_at dksX4_begins_0 9 rfl rfl)
theorem dX4_begins_12 : decode cX4_begins 12 = .ok (.bipush 11, 2) := dk_16 11 (dk_at dksX4_begins_0 12 rfl rfl)
theorem dX4_begins_14 : decode cX4_begins 14 = .ok (.iconst 0, 1) := dk_3 (dk_at dksX4_begins_0 14 rfl rfl)
theorem dX4_begins_15 : decode cX4_begins 15 = .ok (.iastore, 1) := dk_79 (dk_at dksX4_begins_0 15 rfl rfl)
theorem dX4_begins_16 : decode cX4_begins 16 = .ok (.aload_n 0, 1) := dk_42 (dk_at dksX4_begins_0 16 rfl rfl)
theorem dX4_begins_17 : decode cX4_begins 17 = .ok (.getfield 39, 3) := dk_180 0 39 (dk_at dksX4_begins_0 17 rfl rfl)
theorem dX4_begins_20 : decode cX4_begins 20 = .ok (.bipush 12, 2) := dk_16 12 (dk_at dksX4_begins_0 20 rfl rfl)
theorem dX4_begins_22 : decode cX4_begins 22 = .ok (.iconst (-1), 1) := dk_2 (dk_at dksX4_begins_0 22 rfl rfl)
theorem dX4_begins_23 : decode cX4_begins 23 = .ok (.iastore, 1) := dk_79 (dk_at dksX4_begins_0 23 rfl rfl)
theorem dX4_begins_24 : decode cX4_begins 24 = .ok (.aload_n 0, 1) := dk_42 (dk_at dksX4_begins_1 0 rfl rfl)
theorem dX4_begins_25 : decode cX4_begins 25 = .ok (.getfield 39, 3) := dk_180 0 39 (dk_at dksX4_begins_1 1 rfl rfl)
theorem dX4_begins_28 : decode cX4_begins 28 = .ok (.bipush 13, 2) := dk_16 13 (dk_at dksX4_begins_1 4 rfl rfl)
theorem dX4_begins_30 : decode cX4_begins 30 = .ok (.iconst 0, 1) := dk_3 (dk_at dksX4_begins_1 6 rfl rfl)
theorem dX4_begins_31 : decode cX4_begins 31 = .ok (.iastore, 1) := dk_79 (dk_at dksX4_begins_1 7 rfl rfl)
theorem dX4_begins_32 : decode cX4_begins 32 = .ok (.iconst 0, 1) := dk_3 (dk_at dksX4_begins_1 8 rfl rfl)
theorem dX4_begins_33 : decode cX4_begins 33 = .ok (.istore_n 1, 1) := dk_60 (dk_at dksX4_begins_1 9 rfl rfl)
theorem dX4_begins_34 : decode cX4_begins 34 = .ok (.iload_n 1, 1) := dk_27 (dk_at dksX4_begins_1 10 rfl rfl)
theorem dX4_begins_35 : decode cX4_begins 35 = .ok (.bipush 6, 2) := dk_16 6 (dk_at dksX4_begins_1 11 rfl rfl)
theorem dX4_begins_37 : decode cX4_begins 37 = .ok (.if_icmp .ge 62, 3) := dk_162 0 62 (dk_at dksX4_begins_1 13 rfl rfl)
theorem dX4_begins_40 : decode cX4_begins 40 = .ok (.iconst 0, 1) := dk_3 (dk_at dksX4_begins_1 16 rfl rfl)
theorem dX4_begins_41 : decode cX4_begins 41 = .ok (.istore_n 2, 1) := dk_61 (dk_at dksX4_begins_1 17 rfl rfl)
theorem dX4_begins_42 : decode cX4_begins 42 = .ok (.iload_n 2, 1) := dk_28 (dk_at dksX4_begins_1 18 rfl rfl)
theorem dX4_begins_43 : decode cX4_begins 43 = .ok (.iconst 3, 1) := dk_6 (dk_at dksX4_begins_1 19 rfl rfl)
theorem dX4_begins_44 : decode cX4_begins 44 = .ok (.if_icmp .ge 35, 3) := dk_162 0 35 (dk_at dksX4_begins_1 20 rfl rfl)
theorem dX4_begins_47 : decode cX4_begins 47 = .ok (.aload_n 0, 1) := dk_42 (dk_at dksX4_begins_1 23 rfl rfl)
theorem dX4_begins_48 : decode cX4_begins 48 = .ok (.getfield 39, 3) := dk_180 0 39 (dk_at dksX4_begins_2 0 rfl rfl)
theorem dX4_begins_51 : decode cX4_begins 51 = .ok (.bipush 14, 2) := dk_16 14 (dk_at dksX4_begins_2 3 rfl rfl)
theorem dX4_begins_53 : decode cX4_begins 53 = .ok (.iconst 4, 1) := dk_7 (dk_at dksX4_begins_2 5 rfl rfl)
theorem dX4_begins_54 : decode cX4_begins 54 = .ok (.iload_n 1, 1) := dk_27 (dk_at dksX4_begins_2 6 rfl rfl)
theorem dX4_begins_55 : decode cX4_begins 55 = .ok (.imul, 1) := dk_104 (dk_at dksX4_begins_2 7 rfl rfl)
theorem dX4_begins_56 : decode cX4_begins 56 = .ok (.iadd, 1) := dk_96 (dk_at dksX4_begins_2 8 rfl rfl)
theorem dX4_begins_57 : decode cX4_begins 57 = .ok (.iload_n 2, 1) := dk_28 (dk_at dksX4_begins_2 9 rfl rfl)
theorem dX4_begins_58 : decode cX4_begins 58 = .ok (.iadd, 1) := dk_96 (dk_at dksX4_begins_2 10 rfl rfl)
theorem dX4_begins_59 : decode cX4_begins 59 = .ok (.aload_n 0, 1) := dk_42 (dk_at dksX4_begins_2 11 rfl rfl)
theorem dX4_begins_60 : decode cX4_begins 60 = .ok (.getfield 39, 3) := dk_180 0 39 (dk_at dksX4_begins_2 12 rfl rfl)
theorem dX4_begins_63 : decode cX4_begins 63 = .ok (.bipush 93, 2) := dk_16 93 (dk_at dksX4_begins_2 15 rfl rfl)
theorem dX4_begins_65 : decode cX4_begins 65 = .ok (.iconst 3, 1) := dk_6 (dk_at dksX4_begins_2 17 rfl rfl)
theorem dX4_begins_66 : decode cX4_begins 66 = .ok (.iload_n 1, 1) := dk_27 (dk_at dksX4_begins_2 18 rfl rfl)
theorem dX4_begins_67 : decode cX4_begins 67 = .ok (.imul, 1) := dk_104 (dk_at dksX4_begins_2 19 rfl rfl)
theorem dX4_begins_68 : decode cX4_begins 68 = .ok (.iadd, 1) := dk_96 (dk_at dksX4_begins_2 20 rfl rfl)
theorem dX4_begins_69 : decode cX4_begins 69 = .ok (.iload_n 2, 1) := dk_28 (dk_at dksX4_begins_2 21 rfl rfl)
theorem dX4_begins_70 : decode cX4_begins 70 = .ok (.iadd, 1) := dk_96 (dk_at dksX4_begins_2 22 rfl rfl)
theorem dX4_begins_71 : decode cX4_begins 71 = .ok (.iaload, 1) := dk_46 (dk_at dksX4_begins_2 23 rfl rfl)
theorem dX4_begins_72 : decode cX4_begins 72 = .ok (.iastore, 1) := dk_79 (dk_at dksX4_begins_3 0 rfl rfl)
theorem dX4_begins_73 : decode cX4_begins 73 = .ok (.iinc 2 1, 3) := dk_132 2 1 (dk_at dksX4_begins_3 1 rfl rfl)
theorem dX4_begins_76 : decode cX4_begins 76 = .ok (.goto (-34), 3) := dk_167 255 222 (dk_at dksX4_begins_3 4 rfl rfl)
theorem dX4_begins_79 : decode cX4_begins 79 = .ok (.aload_n 0, 1) := dk_42 (dk_at dksX4_begins_3 7 rfl rfl)
theorem dX4_begins_80 : decode cX4_begins 80 = .ok (.getfield 39, 3) := dk_180 0 39 (dk_at dksX4_begins_3 8 rfl rfl)
theorem dX4_begins_83 : decode cX4_begins 83 = .ok (.bipush 14, 2) := dk_16 14 (dk_at dksX4_begins_3 11 rfl rfl)
theorem dX4_begins_85 : decode cX4_begins 85 = .ok (.iconst 4, 1) := dk_7 (dk_at dksX4_begins_3 13 rfl rfl)
theorem dX4_begins_86 : decode cX4_begins 86 = .ok (.iload_n 1, 1) := dk_27 (dk_at dksX4_begins_3 14 rfl rfl)
theorem dX4_begins_87 : decode cX4_begins 87 = .ok (.imul, 1) := dk_104 (dk_at dksX4_begins_3 15 rfl rfl)
theorem dX4_begins_88 : decode cX4_begins 88 = .ok (.iadd, 1) := dk_96 (dk_at dksX4_begins_3 16 rfl rfl)
theorem dX4_begins_89 : decode cX4_begins 89 = .ok (.iconst 3, 1) := dk_6 (dk_at dksX4_begins_3 17 rfl rfl)
theorem dX4_begins_90 : decode cX4_begins 90 = .ok (.iadd, 1) := dk_96 (dk_at dksX4_begins_3 18 rfl rfl)
theorem dX4_begins_91 : decode cX4_begins 91 = .ok (.iconst 0, 1) := dk_3 (dk_at dksX4_begins_3 19 rfl rfl)
theorem dX4_begins_92 : decode cX4_begins 92 = .ok (.iastore, 1) := dk_79 (dk_at dksX4_begins_3 20 rfl rfl)
theorem dX4_begins_93 : decode cX4_begins 93 = .ok (.iinc 1 1, 3) := dk_132 1 1 (dk_at dksX4_begins_3 21 rfl rfl)
theorem dX4_begins_96 : decode cX4_begins 96 = .ok (.goto (-62), 3) := dk_167 255 194 (dk_at dksX4_begins_4 0 rfl rfl)
theorem dX4_begins_99 : decode cX4_begins 99 = .ok (.return_, 1) := dk_177 (dk_at dksX4_begins_4 3 rfl rfl)
abbrev cX4_force : ByteArray := prog_19_method_60_code
def yX4_force : MethodName := ⟨RX4, "force", "(I)I"⟩
def dkwX4_force_1 : List UInt8 := [181, 0, 42, 28, 172]
abbrev dktX4_force_1 : List UInt8 := dkwX4_force_1 ++ []
def dkwX4_force_0 : List UInt8 := [27, 2, 159, 0, 14, 42, 27, 182, 1, 54, 154, 0, 6, 16, 254, 172, 42, 180, 0, 42, 61, 42, 27]
abbrev dktX4_force_0 : List UInt8 := dkwX4_force_0 ++ dktX4_force_1
theorem dksX4_force_0 : cX4_force.data.toList.drop 0 = dktX4_force_0 := by decide +kernel
theorem dksX4_force_1 : cX4_force.data.toList.drop 23 = dktX4_force_1 := dk_seg dksX4_force_0 23 rfl rfl
theorem dX4_force_0 : decode cX4_force 0 = .ok (.iload_n 1, 1) := dk_27 (dk_at dksX4_force_0 0 rfl rfl)
theorem dX4_force_1 : decode cX4_force 1 = .ok (.iconst (-1), 1) := dk_2 (dk_at dksX4_force_0 1 rfl rfl)
theorem dX4_force_2 : decode cX4_force 2 = .ok (.if_icmp .eq 14, 3) := dk_159 0 14 (dk_at dksX4_force_0 2 rfl rfl)
theorem dX4_force_5 : decode cX4_force 5 = .ok (.aload_n 0, 1) := dk_42 (dk_at dksX4_force_0 5 rfl rfl)
theorem dX4_force_6 : decode cX4_force 6 = .ok (.iload_n 1, 1) := dk_27 (dk_at dksX4_force_0 6 rfl rfl)
theorem dX4_force_7 : decode cX4_force 7 = .ok (.invokevirtual 310, 3) := dk_182 1 54 (dk_at dksX4_force_0 7 rfl rfl)
theorem dX4_force_10 : decode cX4_force 10 = .ok (.ifCond .ne 6, 3) := dk_154 0 6 (dk_at dksX4_force_0 10 rfl rfl)
theorem dX4_force_13 : decode cX4_force 13 = .ok (.bipush (-2), 2) := dk_16 254 (dk_at dksX4_force_0 13 rfl rfl)
theorem dX4_force_15 : decode cX4_force 15 = .ok (.ireturn, 1) := dk_172 (dk_at dksX4_force_0 15 rfl rfl)
theorem dX4_force_16 : decode cX4_force 16 = .ok (.aload_n 0, 1) := dk_42 (dk_at dksX4_force_0 16 rfl rfl)
theorem dX4_force_17 : decode cX4_force 17 = .ok (.getfield 42, 3) := dk_180 0 42 (dk_at dksX4_force_0 17 rfl rfl)
theorem dX4_force_20 : decode cX4_force 20 = .ok (.istore_n 2, 1) := dk_61 (dk_at dksX4_force_0 20 rfl rfl)
theorem dX4_force_21 : decode cX4_force 21 = .ok (.aload_n 0, 1) := dk_42 (dk_at dksX4_force_0 21 rfl rfl)
theorem dX4_force_22 : decode cX4_force 22 = .ok (.iload_n 1, 1) := dk_27 (dk_at dksX4_force_0 22 rfl rfl)
theorem dX4_force_23 : decode cX4_force 23 = .ok (.putfield 42, 3) := dk_181 0 42 (dk_at dksX4_force_1 0 rfl rfl)
theorem dX4_force_26 : decode cX4_force 26 = .ok (.iload_n 2, 1) := dk_28 (dk_at dksX4_force_1 3 rfl rfl)
theorem dX4_force_27 : decode cX4_force 27 = .ok (.ireturn, 1) := dk_172 (dk_at dksX4_force_1 4 rfl rfl)
abbrev cX4_isRule : ByteArray := prog_19_method_43_code
def yX4_isRule : MethodName := ⟨RX4, "isRule", "(I)Z"⟩
def dkwX4_isRule_0 : List UInt8 := [27, 155, 0, 15, 27, 42, 180, 1, 8, 162, 0, 7, 4, 167, 0, 4, 3, 172]
abbrev dktX4_isRule_0 : List UInt8 := dkwX4_isRule_0 ++ []
theorem dksX4_isRule_0 : cX4_isRule.data.toList.drop 0 = dktX4_isRule_0 := by decide +kernel
theorem dX4_isRule_0 : decode cX4_isRule 0 = .ok (.iload_n 1, 1) := dk_27 (dk_at dksX4_isRule_0 0 rfl rfl)
theorem dX4_isRule_1 : decode cX4_isRule 1 = .ok (.ifCond .lt 15, 3) := dk_155 0 15 (dk_at dksX4_isRule_0 1 rfl rfl)
theorem dX4_isRule_4 : decode cX4_isRule 4 = .ok (.iload_n 1, 1) := dk_27 (dk_at dksX4_isRule_0 4 rfl rfl)
theorem dX4_isRule_5 : decode cX4_isRule 5 = .ok (.aload_n 0, 1) := dk_42 (dk_at dksX4_isRule_0 5 rfl rfl)
theorem dX4_isRule_6 : decode cX4_isRule 6 = .ok (.getfield 264, 3) := dk_180 1 8 (dk_at dksX4_isRule_0 6 rfl rfl)
theorem dX4_isRule_9 : decode cX4_isRule 9 = .ok (.if_icmp .ge 7, 3) := dk_162 0 7 (dk_at dksX4_isRule_0 9 rfl rfl)
theorem dX4_isRule_12 : decode cX4_isRule 12 = .ok (.iconst 1, 1) := dk_4 (dk_at dksX4_isRule_0 12 rfl rfl)
theorem dX4_isRule_13 : decode cX4_isRule 13 = .ok (.goto 4, 3) := dk_167 0 4 (dk_at dksX4_isRule_0 13 rfl rfl)
theorem dX4_isRule_16 : decode cX4_isRule 16 = .ok (.iconst 0, 1) := dk_3 (dk_at dksX4_isRule_0 16 rfl rfl)
theorem dX4_isRule_17 : decode cX4_isRule 17 = .ok (.ireturn, 1) := dk_172 (dk_at dksX4_isRule_0 17 rfl rfl)
abbrev cX4_house : ByteArray := prog_19_method_61_code
def yX4_house : MethodName := ⟨RX4, "house", "(II)I"⟩
def dkwX4_house_3 : List UInt8 := [42, 180, 0, 39, 16, 14, 7, 27, 104, 96, 6, 96, 46, 172, 2, 172]
abbrev dktX4_house_3 : List UInt8 := dkwX4_house_3 ++ []
def dkwX4_house_2 : List UInt8 := [42, 180, 0, 39, 16, 14, 7, 27, 104, 96, 28, 96, 46, 172, 42, 180, 0, 39, 16, 38, 27, 96, 46, 172]
abbrev dktX4_house_2 : List UInt8 := dkwX4_house_2 ++ dktX4_house_3
def dkwX4_house_1 : List UInt8 := [170, 0, 0, 0, 71, 0, 0, 0, 0, 0, 0, 0, 4, 0, 0, 0, 33, 0, 0, 0, 33, 0, 0, 0, 33, 0, 0, 0, 47, 0, 0, 0, 57]
abbrev dktX4_house_1 : List UInt8 := dkwX4_house_1 ++ dktX4_house_2
def dkwX4_house_0 : List UInt8 := [42, 27, 182, 1, 57, 154, 0, 5, 2, 172, 28]
abbrev dktX4_house_0 : List UInt8 := dkwX4_house_0 ++ dktX4_house_1
theorem dksX4_house_0 : cX4_house.data.toList.drop 0 = dktX4_house_0 := by decide +kernel
theorem dksX4_house_1 : cX4_house.data.toList.drop 11 = dktX4_house_1 := dk_seg dksX4_house_0 11 rfl rfl
theorem dksX4_house_2 : cX4_house.data.toList.drop 44 = dktX4_house_2 := dk_seg dksX4_house_1 33 rfl rfl
theorem dksX4_house_3 : cX4_house.data.toList.drop 68 = dktX4_house_3 := dk_seg dksX4_house_2 24 rfl rfl
theorem dX4_house_0 : decode cX4_house 0 = .ok (.aload_n 0, 1) := dk_42 (dk_at dksX4_house_0 0 rfl rfl)
theorem dX4_house_1 : decode cX4_house 1 = .ok (.iload_n 1, 1) := dk_27 (dk_at dksX4_house_0 1 rfl rfl)
theorem dX4_house_2 : decode cX4_house 2 = .ok (.invokevirtual 313, 3) := dk_182 1 57 (dk_at dksX4_house_0 2 rfl rfl)
theorem dX4_house_5 : decode cX4_house 5 = .ok (.ifCond .ne 5, 3) := dk_154 0 5 (dk_at dksX4_house_0 5 rfl rfl)
theorem dX4_house_8 : decode cX4_house 8 = .ok (.iconst (-1), 1) := dk_2 (dk_at dksX4_house_0 8 rfl rfl)
theorem dX4_house_9 : decode cX4_house 9 = .ok (.ireturn, 1) := dk_172 (dk_at dksX4_house_0 9 rfl rfl)
theorem dX4_house_10 : decode cX4_house 10 = .ok (.iload_n 2, 1) := dk_28 (dk_at dksX4_house_0 10 rfl rfl)
theorem dX4_house_11 : decode cX4_house 11 = .ok (.tableswitch 71 0 4 #[33, 33, 33, 47, 57], 33) := by decide +kernel
theorem dX4_house_44 : decode cX4_house 44 = .ok (.aload_n 0, 1) := dk_42 (dk_at dksX4_house_2 0 rfl rfl)
theorem dX4_house_45 : decode cX4_house 45 = .ok (.getfield 39, 3) := dk_180 0 39 (dk_at dksX4_house_2 1 rfl rfl)
theorem dX4_house_48 : decode cX4_house 48 = .ok (.bipush 14, 2) := dk_16 14 (dk_at dksX4_house_2 4 rfl rfl)
theorem dX4_house_50 : decode cX4_house 50 = .ok (.iconst 4, 1) := dk_7 (dk_at dksX4_house_2 6 rfl rfl)
theorem dX4_house_51 : decode cX4_house 51 = .ok (.iload_n 1, 1) := dk_27 (dk_at dksX4_house_2 7 rfl rfl)
theorem dX4_house_52 : decode cX4_house 52 = .ok (.imul, 1) := dk_104 (dk_at dksX4_house_2 8 rfl rfl)
theorem dX4_house_53 : decode cX4_house 53 = .ok (.iadd, 1) := dk_96 (dk_at dksX4_house_2 9 rfl rfl)
theorem dX4_house_54 : decode cX4_house 54 = .ok (.iload_n 2, 1) := dk_28 (dk_at dksX4_house_2 10 rfl rfl)
theorem dX4_house_55 : decode cX4_house 55 = .ok (.iadd, 1) := dk_96 (dk_at dksX4_house_2 11 rfl rfl)
theorem dX4_house_56 : decode cX4_house 56 = .ok (.iaload, 1) := dk_46 (dk_at dksX4_house_2 12 rfl rfl)
theorem dX4_house_57 : decode cX4_house 57 = .ok (.ireturn, 1) := dk_172 (dk_at dksX4_house_2 13 rfl rfl)
theorem dX4_house_58 : decode cX4_house 58 = .ok (.aload_n 0, 1) := dk_42 (dk_at dksX4_house_2 14 rfl rfl)
theorem dX4_house_59 : decode cX4_house 59 = .ok (.getfield 39, 3) := dk_180 0 39 (dk_at dksX4_house_2 15 rfl rfl)
theorem dX4_house_62 : decode cX4_house 62 = .ok (.bipush 38, 2) := dk_16 38 (dk_at dksX4_house_2 18 rfl rfl)
theorem dX4_house_64 : decode cX4_house 64 = .ok (.iload_n 1, 1) := dk_27 (dk_at dksX4_house_2 20 rfl rfl)
theorem dX4_house_65 : decode cX4_house 65 = .ok (.iadd, 1) := dk_96 (dk_at dksX4_house_2 21 rfl rfl)
theorem dX4_house_66 : decode cX4_house 66 = .ok (.iaload, 1) := dk_46 (dk_at dksX4_house_2 22 rfl rfl)
theorem dX4_house_67 : decode cX4_house 67 = .ok (.ireturn, 1) := dk_172 (dk_at dksX4_house_2 23 rfl rfl)
theorem dX4_house_68 : decode cX4_house 68 = .ok (.aload_n 0, 1) := dk_42 (dk_at dksX4_house_3 0 rfl rfl)
theorem dX4_house_69 : decode cX4_house 69 = .ok (.getfield 39, 3) := dk_180 0 39 (dk_at dksX4_house_3 1 rfl rfl)
theorem dX4_house_72 : decode cX4_house 72 = .ok (.bipush 14, 2) := dk_16 14 (dk_at dksX4_house_3 4 rfl rfl)
theorem dX4_house_74 : decode cX4_house 74 = .ok (.iconst 4, 1) := dk_7 (dk_at dksX4_house_3 6 rfl rfl)
theorem dX4_house_75 : decode cX4_house 75 = .ok (.iload_n 1, 1) := dk_27 (dk_at dksX4_house_3 7 rfl rfl)
theorem dX4_house_76 : decode cX4_house 76 = .ok (.imul, 1) := dk_104 (dk_at dksX4_house_3 8 rfl rfl)
theorem dX4_house_77 : decode cX4_house 77 = .ok (.iadd, 1) := dk_96 (dk_at dksX4_house_3 9 rfl rfl)
theorem dX4_house_78 : decode cX4_house 78 = .ok (.iconst 3, 1) := dk_6 (dk_at dksX4_house_3 10 rfl rfl)
theorem dX4_house_79 : decode cX4_house 79 = .ok (.iadd, 1) := dk_96 (dk_at dksX4_house_3 11 rfl rfl)
theorem dX4_house_80 : decode cX4_house 80 = .ok (.iaload, 1) := dk_46 (dk_at dksX4_house_3 12 rfl rfl)
theorem dX4_house_81 : decode cX4_house 81 = .ok (.ireturn, 1) := dk_172 (dk_at dksX4_house_3 13 rfl rfl)
theorem dX4_house_82 : decode cX4_house 82 = .ok (.iconst (-1), 1) := dk_2 (dk_at dksX4_house_3 14 rfl rfl)
theorem dX4_house_83 : decode cX4_house 83 = .ok (.ireturn, 1) := dk_172 (dk_at dksX4_house_3 15 rfl rfl)
abbrev cX4_isHouse : ByteArray := prog_19_method_49_code
def yX4_isHouse : MethodName := ⟨RX4, "isHouse", "(I)Z"⟩
def dkwX4_isHouse_0 : List UInt8 := [27, 155, 0, 17, 27, 42, 180, 0, 39, 6, 46, 162, 0, 7, 4, 167, 0, 4, 3, 172]
abbrev dktX4_isHouse_0 : List UInt8 := dkwX4_isHouse_0 ++ []
theorem dksX4_isHouse_0 : cX4_isHouse.data.toList.drop 0 = dktX4_isHouse_0 := by decide +kernel
theorem dX4_isHouse_0 : decode cX4_isHouse 0 = .ok (.iload_n 1, 1) := dk_27 (dk_at dksX4_isHouse_0 0 rfl rfl)
theorem dX4_isHouse_1 : decode cX4_isHouse 1 = .ok (.ifCond .lt 17, 3) := dk_155 0 17 (dk_at dksX4_isHouse_0 1 rfl rfl)
theorem dX4_isHouse_4 : decode cX4_isHouse 4 = .ok (.iload_n 1, 1) := dk_27 (dk_at dksX4_isHouse_0 4 rfl rfl)
theorem dX4_isHouse_5 : decode cX4_isHouse 5 = .ok (.aload_n 0, 1) := dk_42 (dk_at dksX4_isHouse_0 5 rfl rfl)
theorem dX4_isHouse_6 : decode cX4_isHouse 6 = .ok (.getfield 39, 3) := dk_180 0 39 (dk_at dksX4_isHouse_0 6 rfl rfl)
theorem dX4_isHouse_9 : decode cX4_isHouse 9 = .ok (.iconst 3, 1) := dk_6 (dk_at dksX4_isHouse_0 9 rfl rfl)
theorem dX4_isHouse_10 : decode cX4_isHouse 10 = .ok (.iaload, 1) := dk_46 (dk_at dksX4_isHouse_0 10 rfl rfl)
theorem dX4_isHouse_11 : decode cX4_isHouse 11 = .ok (.if_icmp .ge 7, 3) := dk_162 0 7 (dk_at dksX4_isHouse_0 11 rfl rfl)
theorem dX4_isHouse_14 : decode cX4_isHouse 14 = .ok (.iconst 1, 1) := dk_4 (dk_at dksX4_isHouse_0 14 rfl rfl)
theorem dX4_isHouse_15 : decode cX4_isHouse 15 = .ok (.goto 4, 3) := dk_167 0 4 (dk_at dksX4_isHouse_0 15 rfl rfl)
theorem dX4_isHouse_18 : decode cX4_isHouse 18 = .ok (.iconst 0, 1) := dk_3 (dk_at dksX4_isHouse_0 18 rfl rfl)
theorem dX4_isHouse_19 : decode cX4_isHouse 19 = .ok (.ireturn, 1) := dk_172 (dk_at dksX4_isHouse_0 19 rfl rfl)
abbrev cX4_far : ByteArray := prog_19_method_63_code
def yX4_far : MethodName := ⟨RX4, "far", "(II)I"⟩
def dkwX4_far_1 : List UInt8 := [167, 0, 4, 2, 172]
abbrev dktX4_far_1 : List UInt8 := dkwX4_far_1 ++ []
def dkwX4_far_0 : List UInt8 := [42, 27, 182, 1, 63, 153, 0, 20, 42, 28, 182, 1, 63, 153, 0, 12, 42, 27, 28, 182, 1, 50]
abbrev dktX4_far_0 : List UInt8 := dkwX4_far_0 ++ dktX4_far_1
theorem dksX4_far_0 : cX4_far.data.toList.drop 0 = dktX4_far_0 := by decide +kernel
theorem dksX4_far_1 : cX4_far.data.toList.drop 22 = dktX4_far_1 := dk_seg dksX4_far_0 22 rfl rfl
theorem dX4_far_0 : decode cX4_far 0 = .ok (.aload_n 0, 1) := dk_42 (dk_at dksX4_far_0 0 rfl rfl)
theorem dX4_far_1 : decode cX4_far 1 = .ok (.iload_n 1, 1) := dk_27 (dk_at dksX4_far_0 1 rfl rfl)
theorem dX4_far_2 : decode cX4_far 2 = .ok (.invokevirtual 319, 3) := dk_182 1 63 (dk_at dksX4_far_0 2 rfl rfl)
theorem dX4_far_5 : decode cX4_far 5 = .ok (.ifCond .eq 20, 3) := dk_153 0 20 (dk_at dksX4_far_0 5 rfl rfl)
theorem dX4_far_8 : decode cX4_far 8 = .ok (.aload_n 0, 1) := dk_42 (dk_at dksX4_far_0 8 rfl rfl)
theorem dX4_far_9 : decode cX4_far 9 = .ok (.iload_n 2, 1) := dk_28 (dk_at dksX4_far_0 9 rfl rfl)
theorem dX4_far_10 : decode cX4_far 10 = .ok (.invokevirtual 319, 3) := dk_182 1 63 (dk_at dksX4_far_0 10 rfl rfl)
theorem dX4_far_13 : decode cX4_far 13 = .ok (.ifCond .eq 12, 3) := dk_153 0 12 (dk_at dksX4_far_0 13 rfl rfl)
theorem dX4_far_16 : decode cX4_far 16 = .ok (.aload_n 0, 1) := dk_42 (dk_at dksX4_far_0 16 rfl rfl)
theorem dX4_far_17 : decode cX4_far 17 = .ok (.iload_n 1, 1) := dk_27 (dk_at dksX4_far_0 17 rfl rfl)
theorem dX4_far_18 : decode cX4_far 18 = .ok (.iload_n 2, 1) := dk_28 (dk_at dksX4_far_0 18 rfl rfl)
theorem dX4_far_19 : decode cX4_far 19 = .ok (.invokevirtual 306, 3) := dk_182 1 50 (dk_at dksX4_far_0 19 rfl rfl)
theorem dX4_far_22 : decode cX4_far 22 = .ok (.goto 4, 3) := dk_167 0 4 (dk_at dksX4_far_1 0 rfl rfl)
theorem dX4_far_25 : decode cX4_far 25 = .ok (.iconst (-1), 1) := dk_2 (dk_at dksX4_far_1 3 rfl rfl)
theorem dX4_far_26 : decode cX4_far 26 = .ok (.ireturn, 1) := dk_172 (dk_at dksX4_far_1 4 rfl rfl)
abbrev cX4_isPlace : ByteArray := prog_19_method_62_code
def yX4_isPlace : MethodName := ⟨RX4, "isPlace", "(I)Z"⟩
def dkwX4_isPlace_1 : List UInt8 := [167, 0, 4, 3, 172]
abbrev dktX4_isPlace_1 : List UInt8 := dkwX4_isPlace_1 ++ []
def dkwX4_isPlace_0 : List UInt8 := [42, 182, 1, 60, 153, 0, 21, 27, 155, 0, 17, 27, 42, 180, 0, 39, 6, 46, 163, 0, 7, 4]
abbrev dktX4_isPlace_0 : List UInt8 := dkwX4_isPlace_0 ++ dktX4_isPlace_1
theorem dksX4_isPlace_0 : cX4_isPlace.data.toList.drop 0 = dktX4_isPlace_0 := by decide +kernel
theorem dksX4_isPlace_1 : cX4_isPlace.data.toList.drop 22 = dktX4_isPlace_1 := dk_seg dksX4_isPlace_0 22 rfl rfl
theorem dX4_isPlace_0 : decode cX4_isPlace 0 = .ok (.aload_n 0, 1) := dk_42 (dk_at dksX4_isPlace_0 0 rfl rfl)
theorem dX4_isPlace_1 : decode cX4_isPlace 1 = .ok (.invokevirtual 316, 3) := dk_182 1 60 (dk_at dksX4_isPlace_0 1 rfl rfl)
theorem dX4_isPlace_4 : decode cX4_isPlace 4 = .ok (.ifCond .eq 21, 3) := dk_153 0 21 (dk_at dksX4_isPlace_0 4 rfl rfl)
theorem dX4_isPlace_7 : decode cX4_isPlace 7 = .ok (.iload_n 1, 1) := dk_27 (dk_at dksX4_isPlace_0 7 rfl rfl)
theorem dX4_isPlace_8 : decode cX4_isPlace 8 = .ok (.ifCond .lt 17, 3) := dk_155 0 17 (dk_at dksX4_isPlace_0 8 rfl rfl)
theorem dX4_isPlace_11 : decode cX4_isPlace 11 = .ok (.iload_n 1, 1) := dk_27 (dk_at dksX4_isPlace_0 11 rfl rfl)
theorem dX4_isPlace_12 : decode cX4_isPlace 12 = .ok (.aload_n 0, 1) := dk_42 (dk_at dksX4_isPlace_0 12 rfl rfl)
theorem dX4_isPlace_13 : decode cX4_isPlace 13 = .ok (.getfield 39, 3) := dk_180 0 39 (dk_at dksX4_isPlace_0 13 rfl rfl)
theorem dX4_isPlace_16 : decode cX4_isPlace 16 = .ok (.iconst 3, 1) := dk_6 (dk_at dksX4_isPlace_0 16 rfl rfl)
theorem dX4_isPlace_17 : decode cX4_isPlace 17 = .ok (.iaload, 1) := dk_46 (dk_at dksX4_isPlace_0 17 rfl rfl)
theorem dX4_isPlace_18 : decode cX4_isPlace 18 = .ok (.if_icmp .gt 7, 3) := dk_163 0 7 (dk_at dksX4_isPlace_0 18 rfl rfl)
theorem dX4_isPlace_21 : decode cX4_isPlace 21 = .ok (.iconst 1, 1) := dk_4 (dk_at dksX4_isPlace_0 21 rfl rfl)
theorem dX4_isPlace_22 : decode cX4_isPlace 22 = .ok (.goto 4, 3) := dk_167 0 4 (dk_at dksX4_isPlace_1 0 rfl rfl)
theorem dX4_isPlace_25 : decode cX4_isPlace 25 = .ok (.iconst 0, 1) := dk_3 (dk_at dksX4_isPlace_1 3 rfl rfl)
theorem dX4_isPlace_26 : decode cX4_isPlace 26 = .ok (.ireturn, 1) := dk_172 (dk_at dksX4_isPlace_1 4 rfl rfl)
abbrev cX4_isValley : ByteArray := prog_19_method_48_code
def yX4_isValley : MethodName := ⟨RX4, "isValley", "()Z"⟩
def dkwX4_isValley_0 : List UInt8 := [42, 180, 0, 39, 3, 46, 4, 160, 0, 7, 4, 167, 0, 4, 3, 172]
abbrev dktX4_isValley_0 : List UInt8 := dkwX4_isValley_0 ++ []
theorem dksX4_isValley_0 : cX4_isValley.data.toList.drop 0 = dktX4_isValley_0 := by decide +kernel
theorem dX4_isValley_0 : decode cX4_isValley 0 = .ok (.aload_n 0, 1) := dk_42 (dk_at dksX4_isValley_0 0 rfl rfl)
theorem dX4_isValley_1 : decode cX4_isValley 1 = .ok (.getfield 39, 3) := dk_180 0 39 (dk_at dksX4_isValley_0 1 rfl rfl)
theorem dX4_isValley_4 : decode cX4_isValley 4 = .ok (.iconst 0, 1) := dk_3 (dk_at dksX4_isValley_0 4 rfl rfl)
theorem dX4_isValley_5 : decode cX4_isValley 5 = .ok (.iaload, 1) := dk_46 (dk_at dksX4_isValley_0 5 rfl rfl)
theorem dX4_isValley_6 : decode cX4_isValley 6 = .ok (.iconst 1, 1) := dk_4 (dk_at dksX4_isValley_0 6 rfl rfl)
theorem dX4_isValley_7 : decode cX4_isValley 7 = .ok (.if_icmp .ne 7, 3) := dk_160 0 7 (dk_at dksX4_isValley_0 7 rfl rfl)
theorem dX4_isValley_10 : decode cX4_isValley 10 = .ok (.iconst 1, 1) := dk_4 (dk_at dksX4_isValley_0 10 rfl rfl)
theorem dX4_isValley_11 : decode cX4_isValley 11 = .ok (.goto 4, 3) := dk_167 0 4 (dk_at dksX4_isValley_0 11 rfl rfl)
theorem dX4_isValley_14 : decode cX4_isValley 14 = .ok (.iconst 0, 1) := dk_3 (dk_at dksX4_isValley_0 14 rfl rfl)
theorem dX4_isValley_15 : decode cX4_isValley 15 = .ok (.ireturn, 1) := dk_172 (dk_at dksX4_isValley_0 15 rfl rfl)
abbrev cX4_undo : ByteArray := prog_19_method_77_code
def yX4_undo : MethodName := ⟨RX4, "undo", "()I"⟩
def dkwX4_undo_2 : List UInt8 := [46, 79, 132, 1, 1, 167, 255, 224, 42, 180, 1, 20, 172]
abbrev dktX4_undo_2 : List UInt8 := dkwX4_undo_2 ++ []
def dkwX4_undo_1 : List UInt8 := [162, 0, 32, 42, 180, 0, 39, 16, 10, 27, 96, 42, 180, 0, 52, 16, 28, 42, 180, 1, 20, 104, 27, 96]
abbrev dktX4_undo_1 : List UInt8 := dkwX4_undo_1 ++ dktX4_undo_2
def dkwX4_undo_0 : List UInt8 := [42, 180, 1, 20, 154, 0, 5, 2, 172, 42, 89, 180, 1, 20, 4, 100, 181, 1, 20, 3, 60, 27, 16, 28]
abbrev dktX4_undo_0 : List UInt8 := dkwX4_undo_0 ++ dktX4_undo_1
theorem dksX4_undo_0 : cX4_undo.data.toList.drop 0 = dktX4_undo_0 := by decide +kernel
theorem dksX4_undo_1 : cX4_undo.data.toList.drop 24 = dktX4_undo_1 := dk_seg dksX4_undo_0 24 rfl rfl
theorem dksX4_undo_2 : cX4_undo.data.toList.drop 48 = dktX4_undo_2 := dk_seg dksX4_undo_1 24 rfl rfl
theorem dX4_undo_0 : decode cX4_undo 0 = .ok (.aload_n 0, 1) := dk_42 (dk_at dksX4_undo_0 0 rfl rfl)
theorem dX4_undo_1 : decode cX4_undo 1 = .ok (.getfield 276, 3) := dk_180 1 20 (dk_at dksX4_undo_0 1 rfl rfl)
theorem dX4_undo_4 : decode cX4_undo 4 = .ok (.ifCond .ne 5, 3) := dk_154 0 5 (dk_at dksX4_undo_0 4 rfl rfl)
theorem dX4_undo_7 : decode cX4_undo 7 = .ok (.iconst (-1), 1) := dk_2 (dk_at dksX4_undo_0 7 rfl rfl)
theorem dX4_undo_8 : decode cX4_undo 8 = .ok (.ireturn, 1) := dk_172 (dk_at dksX4_undo_0 8 rfl rfl)
theorem dX4_undo_9 : decode cX4_undo 9 = .ok (.aload_n 0, 1) := dk_42 (dk_at dksX4_undo_0 9 rfl rfl)
theorem dX4_undo_10 : decode cX4_undo 10 = .ok (.dup, 1) := dk_89 (dk_at dksX4_undo_0 10 rfl rfl)
theorem dX4_undo_11 : decode cX4_undo 11 = .ok (.getfield 276, 3) := dk_180 1 20 (dk_at dksX4_undo_0 11 rfl rfl)
theorem dX4_undo_14 : decode cX4_undo 14 = .ok (.iconst 1, 1) := dk_4 (dk_at dksX4_undo_0 14 rfl rfl)
theorem dX4_undo_15 : decode cX4_undo 15 = .ok (.isub, 1) := dk_100 (dk_at dksX4_undo_0 15 rfl rfl)
theorem dX4_undo_16 : decode cX4_undo 16 = .ok (.putfield 276, 3) := dk_181 1 20 (dk_at dksX4_undo_0 16 rfl rfl)
theorem dX4_undo_19 : decode cX4_undo 19 = .ok (.iconst 0, 1) := dk_3 (dk_at dksX4_undo_0 19 rfl rfl)
theorem dX4_undo_20 : decode cX4_undo 20 = .ok (.istore_n 1, 1) := dk_60 (dk_at dksX4_undo_0 20 rfl rfl)
theorem dX4_undo_21 : decode cX4_undo 21 = .ok (.iload_n 1, 1) := dk_27 (dk_at dksX4_undo_0 21 rfl rfl)
theorem dX4_undo_22 : decode cX4_undo 22 = .ok (.bipush 28, 2) := dk_16 28 (dk_at dksX4_undo_0 22 rfl rfl)
theorem dX4_undo_24 : decode cX4_undo 24 = .ok (.if_icmp .ge 32, 3) := dk_162 0 32 (dk_at dksX4_undo_1 0 rfl rfl)
theorem dX4_undo_27 : decode cX4_undo 27 = .ok (.aload_n 0, 1) := dk_42 (dk_at dksX4_undo_1 3 rfl rfl)
theorem dX4_undo_28 : decode cX4_undo 28 = .ok (.getfield 39, 3) := dk_180 0 39 (dk_at dksX4_undo_1 4 rfl rfl)
theorem dX4_undo_31 : decode cX4_undo 31 = .ok (.bipush 10, 2) := dk_16 10 (dk_at dksX4_undo_1 7 rfl rfl)
theorem dX4_undo_33 : decode cX4_undo 33 = .ok (.iload_n 1, 1) := dk_27 (dk_at dksX4_undo_1 9 rfl rfl)
theorem dX4_undo_34 : decode cX4_undo 34 = .ok (.iadd, 1) := dk_96 (dk_at dksX4_undo_1 10 rfl rfl)
theorem dX4_undo_35 : decode cX4_undo 35 = .ok (.aload_n 0, 1) := dk_42 (dk_at dksX4_undo_1 11 rfl rfl)
theorem dX4_undo_36 : decode cX4_undo 36 = .ok (.getfield 52, 3) := dk_180 0 52 (dk_at dksX4_undo_1 12 rfl rfl)
theorem dX4_undo_39 : decode cX4_undo 39 = .ok (.bipush 28, 2) := dk_16 28 (dk_at dksX4_undo_1 15 rfl rfl)
theorem dX4_undo_41 : decode cX4_undo 41 = .ok (.aload_n 0, 1) := dk_42 (dk_at dksX4_undo_1 17 rfl rfl)
theorem dX4_undo_42 : decode cX4_undo 42 = .ok (.getfield 276, 3) := dk_180 1 20 (dk_at dksX4_undo_1 18 rfl rfl)
theorem dX4_undo_45 : decode cX4_undo 45 = .ok (.imul, 1) := dk_104 (dk_at dksX4_undo_1 21 rfl rfl)
theorem dX4_undo_46 : decode cX4_undo 46 = .ok (.iload_n 1, 1) := dk_27 (dk_at dksX4_undo_1 22 rfl rfl)
theorem dX4_undo_47 : decode cX4_undo 47 = .ok (.iadd, 1) := dk_96 (dk_at dksX4_undo_1 23 rfl rfl)
theorem dX4_undo_48 : decode cX4_undo 48 = .ok (.iaload, 1) := dk_46 (dk_at dksX4_undo_2 0 rfl rfl)
theorem dX4_undo_49 : decode cX4_undo 49 = .ok (.iastore, 1) := dk_79 (dk_at dksX4_undo_2 1 rfl rfl)
theorem dX4_undo_50 : decode cX4_undo 50 = .ok (.iinc 1 1, 3) := dk_132 1 1 (dk_at dksX4_undo_2 2 rfl rfl)
theorem dX4_undo_53 : decode cX4_undo 53 = .ok (.goto (-32), 3) := dk_167 255 224 (dk_at dksX4_undo_2 5 rfl rfl)
theorem dX4_undo_56 : decode cX4_undo 56 = .ok (.aload_n 0, 1) := dk_42 (dk_at dksX4_undo_2 8 rfl rfl)
theorem dX4_undo_57 : decode cX4_undo 57 = .ok (.getfield 276, 3) := dk_180 1 20 (dk_at dksX4_undo_2 9 rfl rfl)
theorem dX4_undo_60 : decode cX4_undo 60 = .ok (.ireturn, 1) := dk_172 (dk_at dksX4_undo_2 12 rfl rfl)
abbrev cX4_hour : ByteArray := prog_19_method_78_code
def yX4_hour : MethodName := ⟨RX4, "hour", "()I"⟩
def dkwX4_hour_1 : List UInt8 := [182, 1, 128, 42, 182, 1, 125, 172]
abbrev dktX4_hour_1 : List UInt8 := dkwX4_hour_1 ++ []
def dkwX4_hour_0 : List UInt8 := [42, 182, 1, 60, 153, 0, 16, 42, 180, 0, 39, 16, 10, 46, 17, 3, 231, 160, 0, 5, 2, 172, 42]
abbrev dktX4_hour_0 : List UInt8 := dkwX4_hour_0 ++ dktX4_hour_1
theorem dksX4_hour_0 : cX4_hour.data.toList.drop 0 = dktX4_hour_0 := by decide +kernel
theorem dksX4_hour_1 : cX4_hour.data.toList.drop 23 = dktX4_hour_1 := dk_seg dksX4_hour_0 23 rfl rfl
theorem dX4_hour_0 : decode cX4_hour 0 = .ok (.aload_n 0, 1) := dk_42 (dk_at dksX4_hour_0 0 rfl rfl)
theorem dX4_hour_1 : decode cX4_hour 1 = .ok (.invokevirtual 316, 3) := dk_182 1 60 (dk_at dksX4_hour_0 1 rfl rfl)
theorem dX4_hour_4 : decode cX4_hour 4 = .ok (.ifCond .eq 16, 3) := dk_153 0 16 (dk_at dksX4_hour_0 4 rfl rfl)
theorem dX4_hour_7 : decode cX4_hour 7 = .ok (.aload_n 0, 1) := dk_42 (dk_at dksX4_hour_0 7 rfl rfl)
theorem dX4_hour_8 : decode cX4_hour 8 = .ok (.getfield 39, 3) := dk_180 0 39 (dk_at dksX4_hour_0 8 rfl rfl)
theorem dX4_hour_11 : decode cX4_hour 11 = .ok (.bipush 10, 2) := dk_16 10 (dk_at dksX4_hour_0 11 rfl rfl)
theorem dX4_hour_13 : decode cX4_hour 13 = .ok (.iaload, 1) := dk_46 (dk_at dksX4_hour_0 13 rfl rfl)
theorem dX4_hour_14 : decode cX4_hour 14 = .ok (.sipush 999, 3) := dk_17 3 231 (dk_at dksX4_hour_0 14 rfl rfl)
theorem dX4_hour_17 : decode cX4_hour 17 = .ok (.if_icmp .ne 5, 3) := dk_160 0 5 (dk_at dksX4_hour_0 17 rfl rfl)
theorem dX4_hour_20 : decode cX4_hour 20 = .ok (.iconst (-1), 1) := dk_2 (dk_at dksX4_hour_0 20 rfl rfl)
theorem dX4_hour_21 : decode cX4_hour 21 = .ok (.ireturn, 1) := dk_172 (dk_at dksX4_hour_0 21 rfl rfl)
theorem dX4_hour_22 : decode cX4_hour 22 = .ok (.aload_n 0, 1) := dk_42 (dk_at dksX4_hour_0 22 rfl rfl)
theorem dX4_hour_23 : decode cX4_hour 23 = .ok (.invokevirtual 384, 3) := dk_182 1 128 (dk_at dksX4_hour_1 0 rfl rfl)
theorem dX4_hour_26 : decode cX4_hour 26 = .ok (.aload_n 0, 1) := dk_42 (dk_at dksX4_hour_1 3 rfl rfl)
theorem dX4_hour_27 : decode cX4_hour 27 = .ok (.invokevirtual 381, 3) := dk_182 1 125 (dk_at dksX4_hour_1 4 rfl rfl)
theorem dX4_hour_30 : decode cX4_hour 30 = .ok (.ireturn, 1) := dk_172 (dk_at dksX4_hour_1 7 rfl rfl)
abbrev cX4_keepsAct : ByteArray := prog_19_method_76_code
def yX4_keepsAct : MethodName := ⟨RX4, "keepsAct", "()V"⟩
def dkwX4_keepsAct_4 : List UInt8 := [181, 1, 20, 177]
abbrev dktX4_keepsAct_4 : List UInt8 := dkwX4_keepsAct_4 ++ []
def dkwX4_keepsAct_3 : List UInt8 := [42, 180, 0, 39, 16, 10, 27, 96, 46, 79, 132, 1, 1, 167, 255, 224, 42, 89, 180, 1, 20, 4, 96]
abbrev dktX4_keepsAct_3 : List UInt8 := dkwX4_keepsAct_3 ++ dktX4_keepsAct_4
def dkwX4_keepsAct_2 : List UInt8 := [181, 1, 20, 3, 60, 27, 16, 28, 162, 0, 32, 42, 180, 0, 52, 16, 28, 42, 180, 1, 20, 104, 27, 96]
abbrev dktX4_keepsAct_2 : List UInt8 := dkwX4_keepsAct_2 ++ dktX4_keepsAct_3
def dkwX4_keepsAct_1 : List UInt8 := [16, 28, 100, 42, 180, 0, 52, 27, 46, 79, 132, 1, 1, 167, 255, 231, 42, 89, 180, 1, 20, 4, 100]
abbrev dktX4_keepsAct_1 : List UInt8 := dkwX4_keepsAct_1 ++ dktX4_keepsAct_2
def dkwX4_keepsAct_0 : List UInt8 := [42, 180, 1, 20, 16, 20, 160, 0, 44, 16, 28, 60, 27, 17, 2, 48, 162, 0, 24, 42, 180, 0, 52, 27]
abbrev dktX4_keepsAct_0 : List UInt8 := dkwX4_keepsAct_0 ++ dktX4_keepsAct_1
theorem dksX4_keepsAct_0 : cX4_keepsAct.data.toList.drop 0 = dktX4_keepsAct_0 := by decide +kernel
theorem dksX4_keepsAct_1 : cX4_keepsAct.data.toList.drop 24 = dktX4_keepsAct_1 := dk_seg dksX4_keepsAct_0 24 rfl rfl
theorem dksX4_keepsAct_2 : cX4_keepsAct.data.toList.drop 47 = dktX4_keepsAct_2 := dk_seg dksX4_keepsAct_1 23 rfl rfl
theorem dksX4_keepsAct_3 : cX4_keepsAct.data.toList.drop 71 = dktX4_keepsAct_3 := dk_seg dksX4_keepsAct_2 24 rfl rfl
theorem dksX4_keepsAct_4 : cX4_keepsAct.data.toList.drop 94 = dktX4_keepsAct_4 := dk_seg dksX4_keepsAct_3 23 rfl rfl
theorem dX4_keepsAct_0 : decode cX4_keepsAct 0 = .ok (.aload_n 0, 1) := dk_42 (dk_at dksX4_keepsAct_0 0 rfl rfl)
theorem dX4_keepsAct_1 : decode cX4_keepsAct 1 = .ok (.getfield 276, 3) := dk_180 1 20 (dk_at dksX4_keepsAct_0 1 rfl rfl)
theorem dX4_keepsAct_4 : decode cX4_keepsAct 4 = .ok (.bipush 20, 2) := dk_16 20 (dk_at dksX4_keepsAct_0 4 rfl rfl)
theorem dX4_keepsAct_6 : decode cX4_keepsAct 6 = .ok (.if_icmp .ne 44, 3) := dk_160 0 44 (dk_at dksX4_keepsAct_0 6 rfl rfl)
theorem dX4_keepsAct_9 : decode cX4_keepsAct 9 = .ok (.bipush 28, 2) := dk_16 28 (dk_at dksX4_keepsAct_0 9 rfl rfl)
theorem dX4_keepsAct_11 : decode cX4_keepsAct 11 = .ok (.istore_n 1, 1) := dk_60 (dk_at dksX4_keepsAct_0 11 rfl rfl)
theorem dX4_keepsAct_12 : decode cX4_keepsAct 12 = .ok (.iload_n 1, 1) := dk_27 (dk_at dksX4_keepsAct_0 12 rfl rfl)
theorem dX4_keepsAct_13 : decode cX4_keepsAct 13 = .ok (.sipush 560, 3) := dk_17 2 48 (dk_at dksX4_keepsAct_0 13 rfl rfl)
theorem dX4_keepsAct_16 : decode cX4_keepsAct 16 = .ok (.if_icmp .ge 24, 3) := dk_162 0 24 (dk_at dksX4_keepsAct_0 16 rfl rfl)
theorem dX4_keepsAct_19 : decode cX4_keepsAct 19 = .ok (.aload_n 0, 1) := dk_42 (dk_at dksX4_keepsAct_0 19 rfl rfl)
theorem dX4_keepsAct_20 : decode cX4_keepsAct 20 = .ok (.getfield 52, 3) := dk_180 0 52 (dk_at dksX4_keepsAct_0 20 rfl rfl)
theorem dX4_keepsAct_23 : decode cX4_keepsAct 23 = .ok (.iload_n 1, 1) := dk_27 (dk_at dksX4_keepsAct_0 23 rfl rfl)
theorem dX4_keepsAct_24 : decode cX4_keepsAct 24 = .ok (.bipush 28, 2) := dk_16 28 (dk_at dksX4_keepsAct_1 0 rfl rfl)
theorem dX4_keepsAct_26 : decode cX4_keepsAct 26 = .ok (.isub, 1) := dk_100 (dk_at dksX4_keepsAct_1 2 rfl rfl)
theorem dX4_keepsAct_27 : decode cX4_keepsAct 27 = .ok (.aload_n 0, 1) := dk_42 (dk_at dksX4_keepsAct_1 3 rfl rfl)
theorem dX4_keepsAct_28 : decode cX4_keepsAct 28 = .ok (.getfield 52, 3) := dk_180 0 52 (dk_at dksX4_keepsAct_1 4 rfl rfl)
theorem dX4_keepsAct_31 : decode cX4_keepsAct 31 = .ok (.iload_n 1, 1) := dk_27 (dk_at dksX4_keepsAct_1 7 rfl rfl)
theorem dX4_keepsAct_32 : decode cX4_keepsAct 32 = .ok (.iaload, 1) := dk_46 (dk_at dksX4_keepsAct_1 8 rfl rfl)
theorem dX4_keepsAct_33 : decode cX4_keepsAct 33 = .ok (.iastore, 1) := dk_79 (dk_at dksX4_keepsAct_1 9 rfl rfl)
theorem dX4_keepsAct_34 : decode cX4_keepsAct 34 = .ok (.iinc 1 1, 3) := dk_132 1 1 (dk_at dksX4_keepsAct_1 10 rfl rfl)
theorem dX4_keepsAct_37 : decode cX4_keepsAct 37 = .ok (.goto (-25), 3) := dk_167 255 231 (dk_at dksX4_keepsAct_1 13 rfl rfl)
theorem dX4_keepsAct_40 : decode cX4_keepsAct 40 = .ok (.aload_n 0, 1) := dk_42 (dk_at dksX4_keepsAct_1 16 rfl rfl)
theorem dX4_keepsAct_41 : decode cX4_keepsAct 41 = .ok (.dup, 1) := dk_89 (dk_at dksX4_keepsAct_1 17 rfl rfl)
theorem dX4_keepsAct_42 : decode cX4_keepsAct 42 = .ok (.getfield 276, 3) := dk_180 1 20 (dk_at dksX4_keepsAct_1 18 rfl rfl)
theorem dX4_keepsAct_45 : decode cX4_keepsAct 45 = .ok (.iconst 1, 1) := dk_4 (dk_at dksX4_keepsAct_1 21 rfl rfl)
theorem dX4_keepsAct_46 : decode cX4_keepsAct 46 = .ok (.isub, 1) := dk_100 (dk_at dksX4_keepsAct_1 22 rfl rfl)
theorem dX4_keepsAct_47 : decode cX4_keepsAct 47 = .ok (.putfield 276, 3) := dk_181 1 20 (dk_at dksX4_keepsAct_2 0 rfl rfl)
theorem dX4_keepsAct_50 : decode cX4_keepsAct 50 = .ok (.iconst 0, 1) := dk_3 (dk_at dksX4_keepsAct_2 3 rfl rfl)
theorem dX4_keepsAct_51 : decode cX4_keepsAct 51 = .ok (.istore_n 1, 1) := dk_60 (dk_at dksX4_keepsAct_2 4 rfl rfl)
theorem dX4_keepsAct_52 : decode cX4_keepsAct 52 = .ok (.iload_n 1, 1) := dk_27 (dk_at dksX4_keepsAct_2 5 rfl rfl)
theorem dX4_keepsAct_53 : decode cX4_keepsAct 53 = .ok (.bipush 28, 2) := dk_16 28 (dk_at dksX4_keepsAct_2 6 rfl rfl)
theorem dX4_keepsAct_55 : decode cX4_keepsAct 55 = .ok (.if_icmp .ge 32, 3) := dk_162 0 32 (dk_at dksX4_keepsAct_2 8 rfl rfl)
theorem dX4_keepsAct_58 : decode cX4_keepsAct 58 = .ok (.aload_n 0, 1) := dk_42 (dk_at dksX4_keepsAct_2 11 rfl rfl)
theorem dX4_keepsAct_59 : decode cX4_keepsAct 59 = .ok (.getfield 52, 3) := dk_180 0 52 (dk_at dksX4_keepsAct_2 12 rfl rfl)
theorem dX4_keepsAct_62 : decode cX4_keepsAct 62 = .ok (.bipush 28, 2) := dk_16 28 (dk_at dksX4_keepsAct_2 15 rfl rfl)
theorem dX4_keepsAct_64 : decode cX4_keepsAct 64 = .ok (.aload_n 0, 1) := dk_42 (dk_at dksX4_keepsAct_2 17 rfl rfl)
theorem dX4_keepsAct_65 : decode cX4_keepsAct 65 = .ok (.getfield 276, 3) := dk_180 1 20 (dk_at dksX4_keepsAct_2 18 rfl rfl)
theorem dX4_keepsAct_68 : decode cX4_keepsAct 68 = .ok (.imul, 1) := dk_104 (dk_at dksX4_keepsAct_2 21 rfl rfl)
theorem dX4_keepsAct_69 : decode cX4_keepsAct 69 = .ok (.iload_n 1, 1) := dk_27 (dk_at dksX4_keepsAct_2 22 rfl rfl)
theorem dX4_keepsAct_70 : decode cX4_keepsAct 70 = .ok (.iadd, 1) := dk_96 (dk_at dksX4_keepsAct_2 23 rfl rfl)
theorem dX4_keepsAct_71 : decode cX4_keepsAct 71 = .ok (.aload_n 0, 1) := dk_42 (dk_at dksX4_keepsAct_3 0 rfl rfl)
theorem dX4_keepsAct_72 : decode cX4_keepsAct 72 = .ok (.getfield 39, 3) := dk_180 0 39 (dk_at dksX4_keepsAct_3 1 rfl rfl)
theorem dX4_keepsAct_75 : decode cX4_keepsAct 75 = .ok (.bipush 10, 2) := dk_16 10 (dk_at dksX4_keepsAct_3 4 rfl rfl)
theorem dX4_keepsAct_77 : decode cX4_keepsAct 77 = .ok (.iload_n 1, 1) := dk_27 (dk_at dksX4_keepsAct_3 6 rfl rfl)
theorem dX4_keepsAct_78 : decode cX4_keepsAct 78 = .ok (.iadd, 1) := dk_96 (dk_at dksX4_keepsAct_3 7 rfl rfl)
theorem dX4_keepsAct_79 : decode cX4_keepsAct 79 = .ok (.iaload, 1) := dk_46 (dk_at dksX4_keepsAct_3 8 rfl rfl)
theorem dX4_keepsAct_80 : decode cX4_keepsAct 80 = .ok (.iastore, 1) := dk_79 (dk_at dksX4_keepsAct_3 9 rfl rfl)
theorem dX4_keepsAct_81 : decode cX4_keepsAct 81 = .ok (.iinc 1 1, 3) := dk_132 1 1 (dk_at dksX4_keepsAct_3 10 rfl rfl)
theorem dX4_keepsAct_84 : decode cX4_keepsAct 84 = .ok (.goto (-32), 3) := dk_167 255 224 (dk_at dksX4_keepsAct_3 13 rfl rfl)
theorem dX4_keepsAct_87 : decode cX4_keepsAct 87 = .ok (.aload_n 0, 1) := dk_42 (dk_at dksX4_keepsAct_3 16 rfl rfl)
theorem dX4_keepsAct_88 : decode cX4_keepsAct 88 = .ok (.dup, 1) := dk_89 (dk_at dksX4_keepsAct_3 17 rfl rfl)
theorem dX4_keepsAct_89 : decode cX4_keepsAct 89 = .ok (.getfield 276, 3) := dk_180 1 20 (dk_at dksX4_keepsAct_3 18 rfl rfl)
theorem dX4_keepsAct_92 : decode cX4_keepsAct 92 = .ok (.iconst 1, 1) := dk_4 (dk_at dksX4_keepsAct_3 21 rfl rfl)
theorem dX4_keepsAct_93 : decode cX4_keepsAct 93 = .ok (.iadd, 1) := dk_96 (dk_at dksX4_keepsAct_3 22 rfl rfl)
theorem dX4_keepsAct_94 : decode cX4_keepsAct 94 = .ok (.putfield 276, 3) := dk_181 1 20 (dk_at dksX4_keepsAct_4 0 rfl rfl)
theorem dX4_keepsAct_97 : decode cX4_keepsAct 97 = .ok (.return_, 1) := dk_177 (dk_at dksX4_keepsAct_4 3 rfl rfl)
abbrev cX4_passes : ByteArray := prog_19_method_74_code
def yX4_passes : MethodName := ⟨RX4, "passes", "()I"⟩
def dkwX4_passes_1 : List UInt8 := [180, 0, 39, 16, 10, 92, 46, 4, 96, 79, 27, 42, 182, 1, 110, 100, 172]
abbrev dktX4_passes_1 : List UInt8 := dkwX4_passes_1 ++ []
def dkwX4_passes_0 : List UInt8 := [42, 182, 1, 110, 60, 42, 182, 1, 113, 42, 42, 182, 1, 116, 181, 1, 119, 42, 182, 1, 122, 42]
abbrev dktX4_passes_0 : List UInt8 := dkwX4_passes_0 ++ dktX4_passes_1
theorem dksX4_passes_0 : cX4_passes.data.toList.drop 0 = dktX4_passes_0 := by decide +kernel
theorem dksX4_passes_1 : cX4_passes.data.toList.drop 22 = dktX4_passes_1 := dk_seg dksX4_passes_0 22 rfl rfl
theorem dX4_passes_0 : decode cX4_passes 0 = .ok (.aload_n 0, 1) := dk_42 (dk_at dksX4_passes_0 0 rfl rfl)
theorem dX4_passes_1 : decode cX4_passes 1 = .ok (.invokevirtual 366, 3) := dk_182 1 110 (dk_at dksX4_passes_0 1 rfl rfl)
theorem dX4_passes_4 : decode cX4_passes 4 = .ok (.istore_n 1, 1) := dk_60 (dk_at dksX4_passes_0 4 rfl rfl)
theorem dX4_passes_5 : decode cX4_passes 5 = .ok (.aload_n 0, 1) := dk_42 (dk_at dksX4_passes_0 5 rfl rfl)
theorem dX4_passes_6 : decode cX4_passes 6 = .ok (.invokevirtual 369, 3) := dk_182 1 113 (dk_at dksX4_passes_0 6 rfl rfl)
theorem dX4_passes_9 : decode cX4_passes 9 = .ok (.aload_n 0, 1) := dk_42 (dk_at dksX4_passes_0 9 rfl rfl)
theorem dX4_passes_10 : decode cX4_passes 10 = .ok (.aload_n 0, 1) := dk_42 (dk_at dksX4_passes_0 10 rfl rfl)
theorem dX4_passes_11 : decode cX4_passes 11 = .ok (.invokevirtual 372, 3) := dk_182 1 116 (dk_at dksX4_passes_0 11 rfl rfl)
theorem dX4_passes_14 : decode cX4_passes 14 = .ok (.putfield 375, 3) := dk_181 1 119 (dk_at dksX4_passes_0 14 rfl rfl)
theorem dX4_passes_17 : decode cX4_passes 17 = .ok (.aload_n 0, 1) := dk_42 (dk_at dksX4_passes_0 17 rfl rfl)
theorem dX4_passes_18 : decode cX4_passes 18 = .ok (.invokevirtual 378, 3) := dk_182 1 122 (dk_at dksX4_passes_0 18 rfl rfl)
theorem dX4_passes_21 : decode cX4_passes 21 = .ok (.aload_n 0, 1) := dk_42 (dk_at dksX4_passes_0 21 rfl rfl)
theorem dX4_passes_22 : decode cX4_passes 22 = .ok (.getfield 39, 3) := dk_180 0 39 (dk_at dksX4_passes_1 0 rfl rfl)
theorem dX4_passes_25 : decode cX4_passes 25 = .ok (.bipush 10, 2) := dk_16 10 (dk_at dksX4_passes_1 3 rfl rfl)
theorem dX4_passes_27 : decode cX4_passes 27 = .ok (.dup2, 1) := dk_92 (dk_at dksX4_passes_1 5 rfl rfl)
theorem dX4_passes_28 : decode cX4_passes 28 = .ok (.iaload, 1) := dk_46 (dk_at dksX4_passes_1 6 rfl rfl)
theorem dX4_passes_29 : decode cX4_passes 29 = .ok (.iconst 1, 1) := dk_4 (dk_at dksX4_passes_1 7 rfl rfl)
theorem dX4_passes_30 : decode cX4_passes 30 = .ok (.iadd, 1) := dk_96 (dk_at dksX4_passes_1 8 rfl rfl)
theorem dX4_passes_31 : decode cX4_passes 31 = .ok (.iastore, 1) := dk_79 (dk_at dksX4_passes_1 9 rfl rfl)
theorem dX4_passes_32 : decode cX4_passes 32 = .ok (.iload_n 1, 1) := dk_27 (dk_at dksX4_passes_1 10 rfl rfl)
theorem dX4_passes_33 : decode cX4_passes 33 = .ok (.aload_n 0, 1) := dk_42 (dk_at dksX4_passes_1 11 rfl rfl)
theorem dX4_passes_34 : decode cX4_passes 34 = .ok (.invokevirtual 366, 3) := dk_182 1 110 (dk_at dksX4_passes_1 12 rfl rfl)
theorem dX4_passes_37 : decode cX4_passes 37 = .ok (.isub, 1) := dk_100 (dk_at dksX4_passes_1 15 rfl rfl)
theorem dX4_passes_38 : decode cX4_passes 38 = .ok (.ireturn, 1) := dk_172 (dk_at dksX4_passes_1 16 rfl rfl)
abbrev cX4_worthAll : ByteArray := prog_19_method_55_code
def yX4_worthAll : MethodName := ⟨RX4, "worthAll", "()I"⟩
def dkwX4_worthAll_1 : List UInt8 := [132, 2, 1, 167, 255, 235, 27, 172]
abbrev dktX4_worthAll_1 : List UInt8 := dkwX4_worthAll_1 ++ []
def dkwX4_worthAll_0 : List UInt8 := [3, 60, 3, 61, 28, 42, 180, 0, 39, 6, 46, 162, 0, 17, 27, 42, 28, 182, 1, 41, 96, 60]
abbrev dktX4_worthAll_0 : List UInt8 := dkwX4_worthAll_0 ++ dktX4_worthAll_1
theorem dksX4_worthAll_0 : cX4_worthAll.data.toList.drop 0 = dktX4_worthAll_0 := by decide +kernel
theorem dksX4_worthAll_1 : cX4_worthAll.data.toList.drop 22 = dktX4_worthAll_1 := dk_seg dksX4_worthAll_0 22 rfl rfl
theorem dX4_worthAll_0 : decode cX4_worthAll 0 = .ok (.iconst 0, 1) := dk_3 (dk_at dksX4_worthAll_0 0 rfl rfl)
theorem dX4_worthAll_1 : decode cX4_worthAll 1 = .ok (.istore_n 1, 1) := dk_60 (dk_at dksX4_worthAll_0 1 rfl rfl)
theorem dX4_worthAll_2 : decode cX4_worthAll 2 = .ok (.iconst 0, 1) := dk_3 (dk_at dksX4_worthAll_0 2 rfl rfl)
theorem dX4_worthAll_3 : decode cX4_worthAll 3 = .ok (.istore_n 2, 1) := dk_61 (dk_at dksX4_worthAll_0 3 rfl rfl)
theorem dX4_worthAll_4 : decode cX4_worthAll 4 = .ok (.iload_n 2, 1) := dk_28 (dk_at dksX4_worthAll_0 4 rfl rfl)
theorem dX4_worthAll_5 : decode cX4_worthAll 5 = .ok (.aload_n 0, 1) := dk_42 (dk_at dksX4_worthAll_0 5 rfl rfl)
theorem dX4_worthAll_6 : decode cX4_worthAll 6 = .ok (.getfield 39, 3) := dk_180 0 39 (dk_at dksX4_worthAll_0 6 rfl rfl)
theorem dX4_worthAll_9 : decode cX4_worthAll 9 = .ok (.iconst 3, 1) := dk_6 (dk_at dksX4_worthAll_0 9 rfl rfl)
theorem dX4_worthAll_10 : decode cX4_worthAll 10 = .ok (.iaload, 1) := dk_46 (dk_at dksX4_worthAll_0 10 rfl rfl)
theorem dX4_worthAll_11 : decode cX4_worthAll 11 = .ok (.if_icmp .ge 17, 3) := dk_162 0 17 (dk_at dksX4_worthAll_0 11 rfl rfl)
theorem dX4_worthAll_14 : decode cX4_worthAll 14 = .ok (.iload_n 1, 1) := dk_27 (dk_at dksX4_worthAll_0 14 rfl rfl)
theorem dX4_worthAll_15 : decode cX4_worthAll 15 = .ok (.aload_n 0, 1) := dk_42 (dk_at dksX4_worthAll_0 15 rfl rfl)
theorem dX4_worthAll_16 : decode cX4_worthAll 16 = .ok (.iload_n 2, 1) := dk_28 (dk_at dksX4_worthAll_0 16 rfl rfl)
theorem dX4_worthAll_17 : decode cX4_worthAll 17 = .ok (.invokevirtual 297, 3) := dk_182 1 41 (dk_at dksX4_worthAll_0 17 rfl rfl)
theorem dX4_worthAll_20 : decode cX4_worthAll 20 = .ok (.iadd, 1) := dk_96 (dk_at dksX4_worthAll_0 20 rfl rfl)
theorem dX4_worthAll_21 : decode cX4_worthAll 21 = .ok (.istore_n 1, 1) := dk_60 (dk_at dksX4_worthAll_0 21 rfl rfl)
theorem dX4_worthAll_22 : decode cX4_worthAll 22 = .ok (.iinc 2 1, 3) := dk_132 2 1 (dk_at dksX4_worthAll_1 0 rfl rfl)
theorem dX4_worthAll_25 : decode cX4_worthAll 25 = .ok (.goto (-21), 3) := dk_167 255 235 (dk_at dksX4_worthAll_1 3 rfl rfl)
theorem dX4_worthAll_28 : decode cX4_worthAll 28 = .ok (.iload_n 1, 1) := dk_27 (dk_at dksX4_worthAll_1 6 rfl rfl)
theorem dX4_worthAll_29 : decode cX4_worthAll 29 = .ok (.ireturn, 1) := dk_172 (dk_at dksX4_worthAll_1 7 rfl rfl)
abbrev cX4_worthOf : ByteArray := prog_19_method_50_code
def yX4_worthOf : MethodName := ⟨RX4, "worthOf", "(I)I"⟩
def dkwX4_worthOf_0 : List UInt8 := [42, 180, 0, 39, 16, 14, 7, 27, 104, 96, 46, 172]
abbrev dktX4_worthOf_0 : List UInt8 := dkwX4_worthOf_0 ++ []
theorem dksX4_worthOf_0 : cX4_worthOf.data.toList.drop 0 = dktX4_worthOf_0 := by decide +kernel
theorem dX4_worthOf_0 : decode cX4_worthOf 0 = .ok (.aload_n 0, 1) := dk_42 (dk_at dksX4_worthOf_0 0 rfl rfl)
theorem dX4_worthOf_1 : decode cX4_worthOf 1 = .ok (.getfield 39, 3) := dk_180 0 39 (dk_at dksX4_worthOf_0 1 rfl rfl)
theorem dX4_worthOf_4 : decode cX4_worthOf 4 = .ok (.bipush 14, 2) := dk_16 14 (dk_at dksX4_worthOf_0 4 rfl rfl)
theorem dX4_worthOf_6 : decode cX4_worthOf 6 = .ok (.iconst 4, 1) := dk_7 (dk_at dksX4_worthOf_0 6 rfl rfl)
theorem dX4_worthOf_7 : decode cX4_worthOf 7 = .ok (.iload_n 1, 1) := dk_27 (dk_at dksX4_worthOf_0 7 rfl rfl)
theorem dX4_worthOf_8 : decode cX4_worthOf 8 = .ok (.imul, 1) := dk_104 (dk_at dksX4_worthOf_0 8 rfl rfl)
theorem dX4_worthOf_9 : decode cX4_worthOf 9 = .ok (.iadd, 1) := dk_96 (dk_at dksX4_worthOf_0 9 rfl rfl)
theorem dX4_worthOf_10 : decode cX4_worthOf 10 = .ok (.iaload, 1) := dk_46 (dk_at dksX4_worthOf_0 10 rfl rfl)
theorem dX4_worthOf_11 : decode cX4_worthOf 11 = .ok (.ireturn, 1) := dk_172 (dk_at dksX4_worthOf_0 11 rfl rfl)
abbrev cX4_goes : ByteArray := prog_19_method_71_code
def yX4_goes : MethodName := ⟨RX4, "goes", "()V"⟩
def dkwX4_goes_4 : List UInt8 := [2, 79, 177]
abbrev dktX4_goes_4 : List UInt8 := dkwX4_goes_4 ++ []
def dkwX4_goes_3 : List UInt8 := [153, 0, 4, 177, 42, 180, 0, 39, 16, 11, 42, 180, 0, 39, 16, 12, 46, 79, 42, 180, 0, 39, 16, 12]
abbrev dktX4_goes_3 : List UInt8 := dkwX4_goes_3 ++ dktX4_goes_4
def dkwX4_goes_2 : List UInt8 := [182, 1, 92, 154, 0, 4, 177, 42, 180, 0, 39, 16, 13, 92, 46, 4, 100, 79, 42, 182, 1, 92]
abbrev dktX4_goes_2 : List UInt8 := dkwX4_goes_2 ++ dktX4_goes_3
def dkwX4_goes_1 : List UInt8 := [42, 42, 180, 0, 49, 156, 0, 10, 42, 182, 1, 98, 167, 0, 7, 42, 182, 1, 101, 182, 1, 104, 42]
abbrev dktX4_goes_1 : List UInt8 := dkwX4_goes_1 ++ dktX4_goes_2
def dkwX4_goes_0 : List UInt8 := [42, 182, 1, 92, 154, 0, 42, 42, 182, 1, 95, 60, 27, 155, 0, 11, 42, 27, 182, 1, 38, 154, 0, 25]
abbrev dktX4_goes_0 : List UInt8 := dkwX4_goes_0 ++ dktX4_goes_1
theorem dksX4_goes_0 : cX4_goes.data.toList.drop 0 = dktX4_goes_0 := by decide +kernel
theorem dksX4_goes_1 : cX4_goes.data.toList.drop 24 = dktX4_goes_1 := dk_seg dksX4_goes_0 24 rfl rfl
theorem dksX4_goes_2 : cX4_goes.data.toList.drop 47 = dktX4_goes_2 := dk_seg dksX4_goes_1 23 rfl rfl
theorem dksX4_goes_3 : cX4_goes.data.toList.drop 69 = dktX4_goes_3 := dk_seg dksX4_goes_2 22 rfl rfl
theorem dksX4_goes_4 : cX4_goes.data.toList.drop 93 = dktX4_goes_4 := dk_seg dksX4_goes_3 24 rfl rfl
theorem dX4_goes_0 : decode cX4_goes 0 = .ok (.aload_n 0, 1) := dk_42 (dk_at dksX4_goes_0 0 rfl rfl)
theorem dX4_goes_1 : decode cX4_goes 1 = .ok (.invokevirtual 348, 3) := dk_182 1 92 (dk_at dksX4_goes_0 1 rfl rfl)
theorem dX4_goes_4 : decode cX4_goes 4 = .ok (.ifCond .ne 42, 3) := dk_154 0 42 (dk_at dksX4_goes_0 4 rfl rfl)
theorem dX4_goes_7 : decode cX4_goes 7 = .ok (.aload_n 0, 1) := dk_42 (dk_at dksX4_goes_0 7 rfl rfl)
theorem dX4_goes_8 : decode cX4_goes 8 = .ok (.invokevirtual 351, 3) := dk_182 1 95 (dk_at dksX4_goes_0 8 rfl rfl)
theorem dX4_goes_11 : decode cX4_goes 11 = .ok (.istore_n 1, 1) := dk_60 (dk_at dksX4_goes_0 11 rfl rfl)
theorem dX4_goes_12 : decode cX4_goes 12 = .ok (.iload_n 1, 1) := dk_27 (dk_at dksX4_goes_0 12 rfl rfl)
theorem dX4_goes_13 : decode cX4_goes 13 = .ok (.ifCond .lt 11, 3) := dk_155 0 11 (dk_at dksX4_goes_0 13 rfl rfl)
theorem dX4_goes_16 : decode cX4_goes 16 = .ok (.aload_n 0, 1) := dk_42 (dk_at dksX4_goes_0 16 rfl rfl)
theorem dX4_goes_17 : decode cX4_goes 17 = .ok (.iload_n 1, 1) := dk_27 (dk_at dksX4_goes_0 17 rfl rfl)
theorem dX4_goes_18 : decode cX4_goes 18 = .ok (.invokevirtual 294, 3) := dk_182 1 38 (dk_at dksX4_goes_0 18 rfl rfl)
theorem dX4_goes_21 : decode cX4_goes 21 = .ok (.ifCond .ne 25, 3) := dk_154 0 25 (dk_at dksX4_goes_0 21 rfl rfl)
theorem dX4_goes_24 : decode cX4_goes 24 = .ok (.aload_n 0, 1) := dk_42 (dk_at dksX4_goes_1 0 rfl rfl)
theorem dX4_goes_25 : decode cX4_goes 25 = .ok (.aload_n 0, 1) := dk_42 (dk_at dksX4_goes_1 1 rfl rfl)
theorem dX4_goes_26 : decode cX4_goes 26 = .ok (.getfield 49, 3) := dk_180 0 49 (dk_at dksX4_goes_1 2 rfl rfl)
theorem dX4_goes_29 : decode cX4_goes 29 = .ok (.ifCond .ge 10, 3) := dk_156 0 10 (dk_at dksX4_goes_1 5 rfl rfl)
theorem dX4_goes_32 : decode cX4_goes 32 = .ok (.aload_n 0, 1) := dk_42 (dk_at dksX4_goes_1 8 rfl rfl)
theorem dX4_goes_33 : decode cX4_goes 33 = .ok (.invokevirtual 354, 3) := dk_182 1 98 (dk_at dksX4_goes_1 9 rfl rfl)
theorem dX4_goes_36 : decode cX4_goes 36 = .ok (.goto 7, 3) := dk_167 0 7 (dk_at dksX4_goes_1 12 rfl rfl)
theorem dX4_goes_39 : decode cX4_goes 39 = .ok (.aload_n 0, 1) := dk_42 (dk_at dksX4_goes_1 15 rfl rfl)
theorem dX4_goes_40 : decode cX4_goes 40 = .ok (.invokevirtual 357, 3) := dk_182 1 101 (dk_at dksX4_goes_1 16 rfl rfl)
theorem dX4_goes_43 : decode cX4_goes 43 = .ok (.invokevirtual 360, 3) := dk_182 1 104 (dk_at dksX4_goes_1 19 rfl rfl)
theorem dX4_goes_46 : decode cX4_goes 46 = .ok (.aload_n 0, 1) := dk_42 (dk_at dksX4_goes_1 22 rfl rfl)
theorem dX4_goes_47 : decode cX4_goes 47 = .ok (.invokevirtual 348, 3) := dk_182 1 92 (dk_at dksX4_goes_2 0 rfl rfl)
theorem dX4_goes_50 : decode cX4_goes 50 = .ok (.ifCond .ne 4, 3) := dk_154 0 4 (dk_at dksX4_goes_2 3 rfl rfl)
theorem dX4_goes_53 : decode cX4_goes 53 = .ok (.return_, 1) := dk_177 (dk_at dksX4_goes_2 6 rfl rfl)
theorem dX4_goes_54 : decode cX4_goes 54 = .ok (.aload_n 0, 1) := dk_42 (dk_at dksX4_goes_2 7 rfl rfl)
theorem dX4_goes_55 : decode cX4_goes 55 = .ok (.getfield 39, 3) := dk_180 0 39 (dk_at dksX4_goes_2 8 rfl rfl)
theorem dX4_goes_58 : decode cX4_goes 58 = .ok (.bipush 13, 2) := dk_16 13 (dk_at dksX4_goes_2 11 rfl rfl)
theorem dX4_goes_60 : decode cX4_goes 60 = .ok (.dup2, 1) := dk_92 (dk_at dksX4_goes_2 13 rfl rfl)
theorem dX4_goes_61 : decode cX4_goes 61 = .ok (.iaload, 1) := dk_46 (dk_at dksX4_goes_2 14 rfl rfl)
theorem dX4_goes_62 : decode cX4_goes 62 = .ok (.iconst 1, 1) := dk_4 (dk_at dksX4_goes_2 15 rfl rfl)
theorem dX4_goes_63 : decode cX4_goes 63 = .ok (.isub, 1) := dk_100 (dk_at dksX4_goes_2 16 rfl rfl)
theorem dX4_goes_64 : decode cX4_goes 64 = .ok (.iastore, 1) := dk_79 (dk_at dksX4_goes_2 17 rfl rfl)
theorem dX4_goes_65 : decode cX4_goes 65 = .ok (.aload_n 0, 1) := dk_42 (dk_at dksX4_goes_2 18 rfl rfl)
theorem dX4_goes_66 : decode cX4_goes 66 = .ok (.invokevirtual 348, 3) := dk_182 1 92 (dk_at dksX4_goes_2 19 rfl rfl)
theorem dX4_goes_69 : decode cX4_goes 69 = .ok (.ifCond .eq 4, 3) := dk_153 0 4 (dk_at dksX4_goes_3 0 rfl rfl)
theorem dX4_goes_72 : decode cX4_goes 72 = .ok (.return_, 1) := dk_177 (dk_at dksX4_goes_3 3 rfl rfl)
theorem dX4_goes_73 : decode cX4_goes 73 = .ok (.aload_n 0, 1) := dk_42 (dk_at dksX4_goes_3 4 rfl rfl)
theorem dX4_goes_74 : decode cX4_goes 74 = .ok (.getfield 39, 3) := dk_180 0 39 (dk_at dksX4_goes_3 5 rfl rfl)
theorem dX4_goes_77 : decode cX4_goes 77 = .ok (.bipush 11, 2) := dk_16 11 (dk_at dksX4_goes_3 8 rfl rfl)
theorem dX4_goes_79 : decode cX4_goes 79 = .ok (.aload_n 0, 1) := dk_42 (dk_at dksX4_goes_3 10 rfl rfl)
theorem dX4_goes_80 : decode cX4_goes 80 = .ok (.getfield 39, 3) := dk_180 0 39 (dk_at dksX4_goes_3 11 rfl rfl)
theorem dX4_goes_83 : decode cX4_goes 83 = .ok (.bipush 12, 2) := dk_16 12 (dk_at dksX4_goes_3 14 rfl rfl)
theorem dX4_goes_85 : decode cX4_goes 85 = .ok (.iaload, 1) := dk_46 (dk_at dksX4_goes_3 16 rfl rfl)
theorem dX4_goes_86 : decode cX4_goes 86 = .ok (.iastore, 1) := dk_79 (dk_at dksX4_goes_3 17 rfl rfl)
theorem dX4_goes_87 : decode cX4_goes 87 = .ok (.aload_n 0, 1) := dk_42 (dk_at dksX4_goes_3 18 rfl rfl)
theorem dX4_goes_88 : decode cX4_goes 88 = .ok (.getfield 39, 3) := dk_180 0 39 (dk_at dksX4_goes_3 19 rfl rfl)
theorem dX4_goes_91 : decode cX4_goes 91 = .ok (.bipush 12, 2) := dk_16 12 (dk_at dksX4_goes_3 22 rfl rfl)
theorem dX4_goes_93 : decode cX4_goes 93 = .ok (.iconst (-1), 1) := dk_2 (dk_at dksX4_goes_4 0 rfl rfl)
theorem dX4_goes_94 : decode cX4_goes 94 = .ok (.iastore, 1) := dk_79 (dk_at dksX4_goes_4 1 rfl rfl)
theorem dX4_goes_95 : decode cX4_goes 95 = .ok (.return_, 1) := dk_177 (dk_at dksX4_goes_4 2 rfl rfl)
abbrev cX4_isOnItsWay : ByteArray := prog_19_method_68_code
def yX4_isOnItsWay : MethodName := ⟨RX4, "isOnItsWay", "()Z"⟩
def dkwX4_isOnItsWay_0 : List UInt8 := [42, 180, 0, 39, 16, 13, 46, 158, 0, 7, 4, 167, 0, 4, 3, 172]
abbrev dktX4_isOnItsWay_0 : List UInt8 := dkwX4_isOnItsWay_0 ++ []
theorem dksX4_isOnItsWay_0 : cX4_isOnItsWay.data.toList.drop 0 = dktX4_isOnItsWay_0 := by decide +kernel
theorem dX4_isOnItsWay_0 : decode cX4_isOnItsWay 0 = .ok (.aload_n 0, 1) := dk_42 (dk_at dksX4_isOnItsWay_0 0 rfl rfl)
theorem dX4_isOnItsWay_1 : decode cX4_isOnItsWay 1 = .ok (.getfield 39, 3) := dk_180 0 39 (dk_at dksX4_isOnItsWay_0 1 rfl rfl)
theorem dX4_isOnItsWay_4 : decode cX4_isOnItsWay 4 = .ok (.bipush 13, 2) := dk_16 13 (dk_at dksX4_isOnItsWay_0 4 rfl rfl)
theorem dX4_isOnItsWay_6 : decode cX4_isOnItsWay 6 = .ok (.iaload, 1) := dk_46 (dk_at dksX4_isOnItsWay_0 6 rfl rfl)
theorem dX4_isOnItsWay_7 : decode cX4_isOnItsWay 7 = .ok (.ifCond .le 7, 3) := dk_158 0 7 (dk_at dksX4_isOnItsWay_0 7 rfl rfl)
theorem dX4_isOnItsWay_10 : decode cX4_isOnItsWay 10 = .ok (.iconst 1, 1) := dk_4 (dk_at dksX4_isOnItsWay_0 10 rfl rfl)
theorem dX4_isOnItsWay_11 : decode cX4_isOnItsWay 11 = .ok (.goto 4, 3) := dk_167 0 4 (dk_at dksX4_isOnItsWay_0 11 rfl rfl)
theorem dX4_isOnItsWay_14 : decode cX4_isOnItsWay 14 = .ok (.iconst 0, 1) := dk_3 (dk_at dksX4_isOnItsWay_0 14 rfl rfl)
theorem dX4_isOnItsWay_15 : decode cX4_isOnItsWay 15 = .ok (.ireturn, 1) := dk_172 (dk_at dksX4_isOnItsWay_0 15 rfl rfl)
abbrev cX4_whereItIs : ByteArray := prog_19_method_69_code
def yX4_whereItIs : MethodName := ⟨RX4, "whereItIs", "()I"⟩
def dkwX4_whereItIs_0 : List UInt8 := [42, 182, 1, 92, 153, 0, 7, 2, 167, 0, 12, 42, 180, 0, 39, 16, 11, 46, 4, 100, 172]
abbrev dktX4_whereItIs_0 : List UInt8 := dkwX4_whereItIs_0 ++ []
theorem dksX4_whereItIs_0 : cX4_whereItIs.data.toList.drop 0 = dktX4_whereItIs_0 := by decide +kernel
theorem dX4_whereItIs_0 : decode cX4_whereItIs 0 = .ok (.aload_n 0, 1) := dk_42 (dk_at dksX4_whereItIs_0 0 rfl rfl)
theorem dX4_whereItIs_1 : decode cX4_whereItIs 1 = .ok (.invokevirtual 348, 3) := dk_182 1 92 (dk_at dksX4_whereItIs_0 1 rfl rfl)
theorem dX4_whereItIs_4 : decode cX4_whereItIs 4 = .ok (.ifCond .eq 7, 3) := dk_153 0 7 (dk_at dksX4_whereItIs_0 4 rfl rfl)
theorem dX4_whereItIs_7 : decode cX4_whereItIs 7 = .ok (.iconst (-1), 1) := dk_2 (dk_at dksX4_whereItIs_0 7 rfl rfl)
theorem dX4_whereItIs_8 : decode cX4_whereItIs 8 = .ok (.goto 12, 3) := dk_167 0 12 (dk_at dksX4_whereItIs_0 8 rfl rfl)
theorem dX4_whereItIs_11 : decode cX4_whereItIs 11 = .ok (.aload_n 0, 1) := dk_42 (dk_at dksX4_whereItIs_0 11 rfl rfl)
theorem dX4_whereItIs_12 : decode cX4_whereItIs 12 = .ok (.getfield 39, 3) := dk_180 0 39 (dk_at dksX4_whereItIs_0 12 rfl rfl)
theorem dX4_whereItIs_15 : decode cX4_whereItIs 15 = .ok (.bipush 11, 2) := dk_16 11 (dk_at dksX4_whereItIs_0 15 rfl rfl)
theorem dX4_whereItIs_17 : decode cX4_whereItIs 17 = .ok (.iaload, 1) := dk_46 (dk_at dksX4_whereItIs_0 17 rfl rfl)
theorem dX4_whereItIs_18 : decode cX4_whereItIs 18 = .ok (.iconst 1, 1) := dk_4 (dk_at dksX4_whereItIs_0 18 rfl rfl)
theorem dX4_whereItIs_19 : decode cX4_whereItIs 19 = .ok (.isub, 1) := dk_100 (dk_at dksX4_whereItIs_0 19 rfl rfl)
theorem dX4_whereItIs_20 : decode cX4_whereItIs 20 = .ok (.ireturn, 1) := dk_172 (dk_at dksX4_whereItIs_0 20 rfl rfl)
abbrev cX4_heatOf : ByteArray := prog_19_method_51_code
def yX4_heatOf : MethodName := ⟨RX4, "heatOf", "(I)I"⟩
def dkwX4_heatOf_0 : List UInt8 := [42, 180, 0, 39, 16, 14, 7, 27, 104, 96, 4, 96, 46, 172]
abbrev dktX4_heatOf_0 : List UInt8 := dkwX4_heatOf_0 ++ []
theorem dksX4_heatOf_0 : cX4_heatOf.data.toList.drop 0 = dktX4_heatOf_0 := by decide +kernel
theorem dX4_heatOf_0 : decode cX4_heatOf 0 = .ok (.aload_n 0, 1) := dk_42 (dk_at dksX4_heatOf_0 0 rfl rfl)
theorem dX4_heatOf_1 : decode cX4_heatOf 1 = .ok (.getfield 39, 3) := dk_180 0 39 (dk_at dksX4_heatOf_0 1 rfl rfl)
theorem dX4_heatOf_4 : decode cX4_heatOf 4 = .ok (.bipush 14, 2) := dk_16 14 (dk_at dksX4_heatOf_0 4 rfl rfl)
theorem dX4_heatOf_6 : decode cX4_heatOf 6 = .ok (.iconst 4, 1) := dk_7 (dk_at dksX4_heatOf_0 6 rfl rfl)
theorem dX4_heatOf_7 : decode cX4_heatOf 7 = .ok (.iload_n 1, 1) := dk_27 (dk_at dksX4_heatOf_0 7 rfl rfl)
theorem dX4_heatOf_8 : decode cX4_heatOf 8 = .ok (.imul, 1) := dk_104 (dk_at dksX4_heatOf_0 8 rfl rfl)
theorem dX4_heatOf_9 : decode cX4_heatOf 9 = .ok (.iadd, 1) := dk_96 (dk_at dksX4_heatOf_0 9 rfl rfl)
theorem dX4_heatOf_10 : decode cX4_heatOf 10 = .ok (.iconst 1, 1) := dk_4 (dk_at dksX4_heatOf_0 10 rfl rfl)
theorem dX4_heatOf_11 : decode cX4_heatOf 11 = .ok (.iadd, 1) := dk_96 (dk_at dksX4_heatOf_0 11 rfl rfl)
theorem dX4_heatOf_12 : decode cX4_heatOf 12 = .ok (.iaload, 1) := dk_46 (dk_at dksX4_heatOf_0 12 rfl rfl)
theorem dX4_heatOf_13 : decode cX4_heatOf 13 = .ok (.ireturn, 1) := dk_172 (dk_at dksX4_heatOf_0 13 rfl rfl)
abbrev cX4_choice : ByteArray := prog_19_method_66_code
def yX4_choice : MethodName := ⟨RX4, "choice", "()I"⟩
def dkwX4_choice_2 : List UInt8 := [22, 5, 32, 148, 157, 0, 6, 167, 0, 9, 21, 4, 60, 22, 5, 65, 132, 4, 1, 167, 255, 197, 27, 172]
abbrev dktX4_choice_2 : List UInt8 := dkwX4_choice_2 ++ []
def dkwX4_choice_1 : List UInt8 := [16, 11, 46, 21, 4, 4, 96, 182, 1, 50, 156, 0, 6, 167, 0, 27, 42, 21, 4, 182, 1, 86, 55, 5]
abbrev dktX4_choice_1 : List UInt8 := dkwX4_choice_1 ++ dktX4_choice_2
def dkwX4_choice_0 : List UInt8 := [2, 60, 9, 65, 3, 54, 4, 21, 4, 42, 180, 0, 39, 6, 46, 162, 0, 54, 42, 42, 180, 0, 39]
abbrev dktX4_choice_0 : List UInt8 := dkwX4_choice_0 ++ dktX4_choice_1
theorem dksX4_choice_0 : cX4_choice.data.toList.drop 0 = dktX4_choice_0 := by decide +kernel
theorem dksX4_choice_1 : cX4_choice.data.toList.drop 23 = dktX4_choice_1 := dk_seg dksX4_choice_0 23 rfl rfl
theorem dksX4_choice_2 : cX4_choice.data.toList.drop 47 = dktX4_choice_2 := dk_seg dksX4_choice_1 24 rfl rfl
theorem dX4_choice_0 : decode cX4_choice 0 = .ok (.iconst (-1), 1) := dk_2 (dk_at dksX4_choice_0 0 rfl rfl)
theorem dX4_choice_1 : decode cX4_choice 1 = .ok (.istore_n 1, 1) := dk_60 (dk_at dksX4_choice_0 1 rfl rfl)
theorem dX4_choice_2 : decode cX4_choice 2 = .ok (.lconst 0, 1) := dk_9 (dk_at dksX4_choice_0 2 rfl rfl)
theorem dX4_choice_3 : decode cX4_choice 3 = .ok (.lstore_n 2, 1) := dk_65 (dk_at dksX4_choice_0 3 rfl rfl)
theorem dX4_choice_4 : decode cX4_choice 4 = .ok (.iconst 0, 1) := dk_3 (dk_at dksX4_choice_0 4 rfl rfl)
theorem dX4_choice_5 : decode cX4_choice 5 = .ok (.istore 4, 2) := dk_54 4 (dk_at dksX4_choice_0 5 rfl rfl)
theorem dX4_choice_7 : decode cX4_choice 7 = .ok (.iload 4, 2) := dk_21 4 (dk_at dksX4_choice_0 7 rfl rfl)
theorem dX4_choice_9 : decode cX4_choice 9 = .ok (.aload_n 0, 1) := dk_42 (dk_at dksX4_choice_0 9 rfl rfl)
theorem dX4_choice_10 : decode cX4_choice 10 = .ok (.getfield 39, 3) := dk_180 0 39 (dk_at dksX4_choice_0 10 rfl rfl)
theorem dX4_choice_13 : decode cX4_choice 13 = .ok (.iconst 3, 1) := dk_6 (dk_at dksX4_choice_0 13 rfl rfl)
theorem dX4_choice_14 : decode cX4_choice 14 = .ok (.iaload, 1) := dk_46 (dk_at dksX4_choice_0 14 rfl rfl)
theorem dX4_choice_15 : decode cX4_choice 15 = .ok (.if_icmp .ge 54, 3) := dk_162 0 54 (dk_at dksX4_choice_0 15 rfl rfl)
theorem dX4_choice_18 : decode cX4_choice 18 = .ok (.aload_n 0, 1) := dk_42 (dk_at dksX4_choice_0 18 rfl rfl)
theorem dX4_choice_19 : decode cX4_choice 19 = .ok (.aload_n 0, 1) := dk_42 (dk_at dksX4_choice_0 19 rfl rfl)
theorem dX4_choice_20 : decode cX4_choice 20 = .ok (.getfield 39, 3) := dk_180 0 39 (dk_at dksX4_choice_0 20 rfl rfl)
theorem dX4_choice_23 : decode cX4_choice 23 = .ok (.bipush 11, 2) := dk_16 11 (dk_at dksX4_choice_1 0 rfl rfl)
theorem dX4_choice_25 : decode cX4_choice 25 = .ok (.iaload, 1) := dk_46 (dk_at dksX4_choice_1 2 rfl rfl)
theorem dX4_choice_26 : decode cX4_choice 26 = .ok (.iload 4, 2) := dk_21 4 (dk_at dksX4_choice_1 3 rfl rfl)
theorem dX4_choice_28 : decode cX4_choice 28 = .ok (.iconst 1, 1) := dk_4 (dk_at dksX4_choice_1 5 rfl rfl)
theorem dX4_choice_29 : decode cX4_choice 29 = .ok (.iadd, 1) := dk_96 (dk_at dksX4_choice_1 6 rfl rfl)
theorem dX4_choice_30 : decode cX4_choice 30 = .ok (.invokevirtual 306, 3) := dk_182 1 50 (dk_at dksX4_choice_1 7 rfl rfl)
theorem dX4_choice_33 : decode cX4_choice 33 = .ok (.ifCond .ge 6, 3) := dk_156 0 6 (dk_at dksX4_choice_1 10 rfl rfl)
theorem dX4_choice_36 : decode cX4_choice 36 = .ok (.goto 27, 3) := dk_167 0 27 (dk_at dksX4_choice_1 13 rfl rfl)
theorem dX4_choice_39 : decode cX4_choice 39 = .ok (.aload_n 0, 1) := dk_42 (dk_at dksX4_choice_1 16 rfl rfl)
theorem dX4_choice_40 : decode cX4_choice 40 = .ok (.iload 4, 2) := dk_21 4 (dk_at dksX4_choice_1 17 rfl rfl)
theorem dX4_choice_42 : decode cX4_choice 42 = .ok (.invokevirtual 342, 3) := dk_182 1 86 (dk_at dksX4_choice_1 19 rfl rfl)
theorem dX4_choice_45 : decode cX4_choice 45 = .ok (.lstore 5, 2) := dk_55 5 (dk_at dksX4_choice_1 22 rfl rfl)
theorem dX4_choice_47 : decode cX4_choice 47 = .ok (.lload 5, 2) := dk_22 5 (dk_at dksX4_choice_2 0 rfl rfl)
theorem dX4_choice_49 : decode cX4_choice 49 = .ok (.lload_n 2, 1) := dk_32 (dk_at dksX4_choice_2 2 rfl rfl)
theorem dX4_choice_50 : decode cX4_choice 50 = .ok (.lcmp, 1) := dk_148 (dk_at dksX4_choice_2 3 rfl rfl)
theorem dX4_choice_51 : decode cX4_choice 51 = .ok (.ifCond .gt 6, 3) := dk_157 0 6 (dk_at dksX4_choice_2 4 rfl rfl)
theorem dX4_choice_54 : decode cX4_choice 54 = .ok (.goto 9, 3) := dk_167 0 9 (dk_at dksX4_choice_2 7 rfl rfl)
theorem dX4_choice_57 : decode cX4_choice 57 = .ok (.iload 4, 2) := dk_21 4 (dk_at dksX4_choice_2 10 rfl rfl)
theorem dX4_choice_59 : decode cX4_choice 59 = .ok (.istore_n 1, 1) := dk_60 (dk_at dksX4_choice_2 12 rfl rfl)
theorem dX4_choice_60 : decode cX4_choice 60 = .ok (.lload 5, 2) := dk_22 5 (dk_at dksX4_choice_2 13 rfl rfl)
theorem dX4_choice_62 : decode cX4_choice 62 = .ok (.lstore_n 2, 1) := dk_65 (dk_at dksX4_choice_2 15 rfl rfl)
theorem dX4_choice_63 : decode cX4_choice 63 = .ok (.iinc 4 1, 3) := dk_132 4 1 (dk_at dksX4_choice_2 16 rfl rfl)
theorem dX4_choice_66 : decode cX4_choice 66 = .ok (.goto (-59), 3) := dk_167 255 197 (dk_at dksX4_choice_2 19 rfl rfl)
theorem dX4_choice_69 : decode cX4_choice 69 = .ok (.iload_n 1, 1) := dk_27 (dk_at dksX4_choice_2 22 rfl rfl)
theorem dX4_choice_70 : decode cX4_choice 70 = .ok (.ireturn, 1) := dk_172 (dk_at dksX4_choice_2 23 rfl rfl)
abbrev cX4_sumOf : ByteArray := prog_19_method_65_code
def yX4_sumOf : MethodName := ⟨RX4, "sumOf", "(I)J"⟩
def dkwX4_sumOf_8 : List UInt8 := [16, 10, 42, 180, 0, 39, 16, 10, 46, 133, 80, 42, 42, 180, 0, 42, 182, 1, 82, 173]
abbrev dktX4_sumOf_8 : List UInt8 := dkwX4_sumOf_8 ++ []
def dkwX4_sumOf_7 : List UInt8 := [6, 96, 46, 133, 80, 42, 180, 0, 36, 16, 9, 42, 180, 0, 39, 4, 46, 133, 80, 42, 180, 0, 36]
abbrev dktX4_sumOf_7 : List UInt8 := dkwX4_sumOf_7 ++ dktX4_sumOf_8
def dkwX4_sumOf_6 : List UInt8 := [16, 7, 42, 182, 1, 79, 133, 80, 42, 180, 0, 36, 16, 8, 42, 180, 0, 39, 16, 14, 7, 27, 104, 96]
abbrev dktX4_sumOf_6 : List UInt8 := dkwX4_sumOf_6 ++ dktX4_sumOf_7
def dkwX4_sumOf_5 : List UInt8 := [184, 1, 76, 133, 80, 42, 180, 0, 36, 16, 6, 42, 182, 1, 73, 184, 1, 76, 133, 80, 42, 180, 0, 36]
abbrev dktX4_sumOf_5 : List UInt8 := dkwX4_sumOf_5 ++ dktX4_sumOf_6
def dkwX4_sumOf_4 : List UInt8 := [182, 1, 50, 133, 80, 42, 180, 0, 36, 8, 42, 180, 0, 39, 16, 38, 27, 96, 46, 42, 182, 1, 73, 126]
abbrev dktX4_sumOf_4 : List UInt8 := dkwX4_sumOf_4 ++ dktX4_sumOf_5
def dkwX4_sumOf_3 : List UInt8 := [10, 167, 0, 4, 9, 80, 42, 180, 0, 36, 7, 42, 42, 180, 0, 39, 16, 11, 46, 27, 4, 96]
abbrev dktX4_sumOf_3 : List UInt8 := dkwX4_sumOf_3 ++ dktX4_sumOf_4
def dkwX4_sumOf_2 : List UInt8 := [180, 0, 36, 5, 42, 27, 182, 1, 41, 133, 80, 42, 180, 0, 36, 6, 42, 27, 182, 1, 38, 158, 0, 7]
abbrev dktX4_sumOf_2 : List UInt8 := dkwX4_sumOf_2 ++ dktX4_sumOf_3
def dkwX4_sumOf_1 : List UInt8 := [9, 173, 42, 180, 0, 36, 3, 27, 133, 80, 42, 180, 0, 36, 4, 42, 27, 182, 1, 70, 133, 80, 42]
abbrev dktX4_sumOf_1 : List UInt8 := dkwX4_sumOf_1 ++ dktX4_sumOf_2
def dkwX4_sumOf_0 : List UInt8 := [42, 180, 0, 42, 156, 0, 22, 42, 27, 182, 1, 38, 158, 0, 12, 42, 27, 182, 1, 70, 133, 167, 0, 4]
abbrev dktX4_sumOf_0 : List UInt8 := dkwX4_sumOf_0 ++ dktX4_sumOf_1
theorem dksX4_sumOf_0 : cX4_sumOf.data.toList.drop 0 = dktX4_sumOf_0 := by decide +kernel
theorem dksX4_sumOf_1 : cX4_sumOf.data.toList.drop 24 = dktX4_sumOf_1 := dk_seg dksX4_sumOf_0 24 rfl rfl
theorem dksX4_sumOf_2 : cX4_sumOf.data.toList.drop 47 = dktX4_sumOf_2 := dk_seg dksX4_sumOf_1 23 rfl rfl
theorem dksX4_sumOf_3 : cX4_sumOf.data.toList.drop 71 = dktX4_sumOf_3 := dk_seg dksX4_sumOf_2 24 rfl rfl
theorem dksX4_sumOf_4 : cX4_sumOf.data.toList.drop 93 = dktX4_sumOf_4 := dk_seg dksX4_sumOf_3 22 rfl rfl
theorem dksX4_sumOf_5 : cX4_sumOf.data.toList.drop 117 = dktX4_sumOf_5 := dk_seg dksX4_sumOf_4 24 rfl rfl
theorem dksX4_sumOf_6 : cX4_sumOf.data.toList.drop 141 = dktX4_sumOf_6 := dk_seg dksX4_sumOf_5 24 rfl rfl
theorem dksX4_sumOf_7 : cX4_sumOf.data.toList.drop 165 = dktX4_sumOf_7 := dk_seg dksX4_sumOf_6 24 rfl rfl
theorem dksX4_sumOf_8 : cX4_sumOf.data.toList.drop 188 = dktX4_sumOf_8 := dk_seg dksX4_sumOf_7 23 rfl rfl
theorem dX4_sumOf_0 : decode cX4_sumOf 0 = .ok (.aload_n 0, 1) := dk_42 (dk_at dksX4_sumOf_0 0 rfl rfl)
theorem dX4_sumOf_1 : decode cX4_sumOf 1 = .ok (.getfield 42, 3) := dk_180 0 42 (dk_at dksX4_sumOf_0 1 rfl rfl)
theorem dX4_sumOf_4 : decode cX4_sumOf 4 = .ok (.ifCond .ge 22, 3) := dk_156 0 22 (dk_at dksX4_sumOf_0 4 rfl rfl)
theorem dX4_sumOf_7 : decode cX4_sumOf 7 = .ok (.aload_n 0, 1) := dk_42 (dk_at dksX4_sumOf_0 7 rfl rfl)
theorem dX4_sumOf_8 : decode cX4_sumOf 8 = .ok (.iload_n 1, 1) := dk_27 (dk_at dksX4_sumOf_0 8 rfl rfl)
theorem dX4_sumOf_9 : decode cX4_sumOf 9 = .ok (.invokevirtual 294, 3) := dk_182 1 38 (dk_at dksX4_sumOf_0 9 rfl rfl)
theorem dX4_sumOf_12 : decode cX4_sumOf 12 = .ok (.ifCond .le 12, 3) := dk_158 0 12 (dk_at dksX4_sumOf_0 12 rfl rfl)
theorem dX4_sumOf_15 : decode cX4_sumOf 15 = .ok (.aload_n 0, 1) := dk_42 (dk_at dksX4_sumOf_0 15 rfl rfl)
theorem dX4_sumOf_16 : decode cX4_sumOf 16 = .ok (.iload_n 1, 1) := dk_27 (dk_at dksX4_sumOf_0 16 rfl rfl)
theorem dX4_sumOf_17 : decode cX4_sumOf 17 = .ok (.invokevirtual 326, 3) := dk_182 1 70 (dk_at dksX4_sumOf_0 17 rfl rfl)
theorem dX4_sumOf_20 : decode cX4_sumOf 20 = .ok (.i2l, 1) := dk_133 (dk_at dksX4_sumOf_0 20 rfl rfl)
theorem dX4_sumOf_21 : decode cX4_sumOf 21 = .ok (.goto 4, 3) := dk_167 0 4 (dk_at dksX4_sumOf_0 21 rfl rfl)
theorem dX4_sumOf_24 : decode cX4_sumOf 24 = .ok (.lconst 0, 1) := dk_9 (dk_at dksX4_sumOf_1 0 rfl rfl)
theorem dX4_sumOf_25 : decode cX4_sumOf 25 = .ok (.lreturn, 1) := dk_173 (dk_at dksX4_sumOf_1 1 rfl rfl)
theorem dX4_sumOf_26 : decode cX4_sumOf 26 = .ok (.aload_n 0, 1) := dk_42 (dk_at dksX4_sumOf_1 2 rfl rfl)
theorem dX4_sumOf_27 : decode cX4_sumOf 27 = .ok (.getfield 36, 3) := dk_180 0 36 (dk_at dksX4_sumOf_1 3 rfl rfl)
theorem dX4_sumOf_30 : decode cX4_sumOf 30 = .ok (.iconst 0, 1) := dk_3 (dk_at dksX4_sumOf_1 6 rfl rfl)
theorem dX4_sumOf_31 : decode cX4_sumOf 31 = .ok (.iload_n 1, 1) := dk_27 (dk_at dksX4_sumOf_1 7 rfl rfl)
theorem dX4_sumOf_32 : decode cX4_sumOf 32 = .ok (.i2l, 1) := dk_133 (dk_at dksX4_sumOf_1 8 rfl rfl)
theorem dX4_sumOf_33 : decode cX4_sumOf 33 = .ok (.lastore, 1) := dk_80 (dk_at dksX4_sumOf_1 9 rfl rfl)
theorem dX4_sumOf_34 : decode cX4_sumOf 34 = .ok (.aload_n 0, 1) := dk_42 (dk_at dksX4_sumOf_1 10 rfl rfl)
theorem dX4_sumOf_35 : decode cX4_sumOf 35 = .ok (.getfield 36, 3) := dk_180 0 36 (dk_at dksX4_sumOf_1 11 rfl rfl)
theorem dX4_sumOf_38 : decode cX4_sumOf 38 = .ok (.iconst 1, 1) := dk_4 (dk_at dksX4_sumOf_1 14 rfl rfl)
theorem dX4_sumOf_39 : decode cX4_sumOf 39 = .ok (.aload_n 0, 1) := dk_42 (dk_at dksX4_sumOf_1 15 rfl rfl)
theorem dX4_sumOf_40 : decode cX4_sumOf 40 = .ok (.iload_n 1, 1) := dk_27 (dk_at dksX4_sumOf_1 16 rfl rfl)
theorem dX4_sumOf_41 : decode cX4_sumOf 41 = .ok (.invokevirtual 326, 3) := dk_182 1 70 (dk_at dksX4_sumOf_1 17 rfl rfl)
theorem dX4_sumOf_44 : decode cX4_sumOf 44 = .ok (.i2l, 1) := dk_133 (dk_at dksX4_sumOf_1 20 rfl rfl)
theorem dX4_sumOf_45 : decode cX4_sumOf 45 = .ok (.lastore, 1) := dk_80 (dk_at dksX4_sumOf_1 21 rfl rfl)
theorem dX4_sumOf_46 : decode cX4_sumOf 46 = .ok (.aload_n 0, 1) := dk_42 (dk_at dksX4_sumOf_1 22 rfl rfl)
theorem dX4_sumOf_47 : decode cX4_sumOf 47 = .ok (.getfield 36, 3) := dk_180 0 36 (dk_at dksX4_sumOf_2 0 rfl rfl)
theorem dX4_sumOf_50 : decode cX4_sumOf 50 = .ok (.iconst 2, 1) := dk_5 (dk_at dksX4_sumOf_2 3 rfl rfl)
theorem dX4_sumOf_51 : decode cX4_sumOf 51 = .ok (.aload_n 0, 1) := dk_42 (dk_at dksX4_sumOf_2 4 rfl rfl)
theorem dX4_sumOf_52 : decode cX4_sumOf 52 = .ok (.iload_n 1, 1) := dk_27 (dk_at dksX4_sumOf_2 5 rfl rfl)
theorem dX4_sumOf_53 : decode cX4_sumOf 53 = .ok (.invokevirtual 297, 3) := dk_182 1 41 (dk_at dksX4_sumOf_2 6 rfl rfl)
theorem dX4_sumOf_56 : decode cX4_sumOf 56 = .ok (.i2l, 1) := dk_133 (dk_at dksX4_sumOf_2 9 rfl rfl)
theorem dX4_sumOf_57 : decode cX4_sumOf 57 = .ok (.lastore, 1) := dk_80 (dk_at dksX4_sumOf_2 10 rfl rfl)
theorem dX4_sumOf_58 : decode cX4_sumOf 58 = .ok (.aload_n 0, 1) := dk_42 (dk_at dksX4_sumOf_2 11 rfl rfl)
theorem dX4_sumOf_59 : decode cX4_sumOf 59 = .ok (.getfield 36, 3) := dk_180 0 36 (dk_at dksX4_sumOf_2 12 rfl rfl)
theorem dX4_sumOf_62 : decode cX4_sumOf 62 = .ok (.iconst 3, 1) := dk_6 (dk_at dksX4_sumOf_2 15 rfl rfl)
theorem dX4_sumOf_63 : decode cX4_sumOf 63 = .ok (.aload_n 0, 1) := dk_42 (dk_at dksX4_sumOf_2 16 rfl rfl)
theorem dX4_sumOf_64 : decode cX4_sumOf 64 = .ok (.iload_n 1, 1) := dk_27 (dk_at dksX4_sumOf_2 17 rfl rfl)
theorem dX4_sumOf_65 : decode cX4_sumOf 65 = .ok (.invokevirtual 294, 3) := dk_182 1 38 (dk_at dksX4_sumOf_2 18 rfl rfl)
theorem dX4_sumOf_68 : decode cX4_sumOf 68 = .ok (.ifCond .le 7, 3) := dk_158 0 7 (dk_at dksX4_sumOf_2 21 rfl rfl)
theorem dX4_sumOf_71 : decode cX4_sumOf 71 = .ok (.lconst 1, 1) := dk_10 (dk_at dksX4_sumOf_3 0 rfl rfl)
theorem dX4_sumOf_72 : decode cX4_sumOf 72 = .ok (.goto 4, 3) := dk_167 0 4 (dk_at dksX4_sumOf_3 1 rfl rfl)
theorem dX4_sumOf_75 : decode cX4_sumOf 75 = .ok (.lconst 0, 1) := dk_9 (dk_at dksX4_sumOf_3 4 rfl rfl)
theorem dX4_sumOf_76 : decode cX4_sumOf 76 = .ok (.lastore, 1) := dk_80 (dk_at dksX4_sumOf_3 5 rfl rfl)
theorem dX4_sumOf_77 : decode cX4_sumOf 77 = .ok (.aload_n 0, 1) := dk_42 (dk_at dksX4_sumOf_3 6 rfl rfl)
theorem dX4_sumOf_78 : decode cX4_sumOf 78 = .ok (.getfield 36, 3) := dk_180 0 36 (dk_at dksX4_sumOf_3 7 rfl rfl)
theorem dX4_sumOf_81 : decode cX4_sumOf 81 = .ok (.iconst 4, 1) := dk_7 (dk_at dksX4_sumOf_3 10 rfl rfl)
theorem dX4_sumOf_82 : decode cX4_sumOf 82 = .ok (.aload_n 0, 1) := dk_42 (dk_at dksX4_sumOf_3 11 rfl rfl)
theorem dX4_sumOf_83 : decode cX4_sumOf 83 = .ok (.aload_n 0, 1) := dk_42 (dk_at dksX4_sumOf_3 12 rfl rfl)
theorem dX4_sumOf_84 : decode cX4_sumOf 84 = .ok (.getfield 39, 3) := dk_180 0 39 (dk_at dksX4_sumOf_3 13 rfl rfl)
theorem dX4_sumOf_87 : decode cX4_sumOf 87 = .ok (.bipush 11, 2) := dk_16 11 (dk_at dksX4_sumOf_3 16 rfl rfl)
theorem dX4_sumOf_89 : decode cX4_sumOf 89 = .ok (.iaload, 1) := dk_46 (dk_at dksX4_sumOf_3 18 rfl rfl)
theorem dX4_sumOf_90 : decode cX4_sumOf 90 = .ok (.iload_n 1, 1) := dk_27 (dk_at dksX4_sumOf_3 19 rfl rfl)
theorem dX4_sumOf_91 : decode cX4_sumOf 91 = .ok (.iconst 1, 1) := dk_4 (dk_at dksX4_sumOf_3 20 rfl rfl)
theorem dX4_sumOf_92 : decode cX4_sumOf 92 = .ok (.iadd, 1) := dk_96 (dk_at dksX4_sumOf_3 21 rfl rfl)
theorem dX4_sumOf_93 : decode cX4_sumOf 93 = .ok (.invokevirtual 306, 3) := dk_182 1 50 (dk_at dksX4_sumOf_4 0 rfl rfl)
theorem dX4_sumOf_96 : decode cX4_sumOf 96 = .ok (.i2l, 1) := dk_133 (dk_at dksX4_sumOf_4 3 rfl rfl)
theorem dX4_sumOf_97 : decode cX4_sumOf 97 = .ok (.lastore, 1) := dk_80 (dk_at dksX4_sumOf_4 4 rfl rfl)
theorem dX4_sumOf_98 : decode cX4_sumOf 98 = .ok (.aload_n 0, 1) := dk_42 (dk_at dksX4_sumOf_4 5 rfl rfl)
theorem dX4_sumOf_99 : decode cX4_sumOf 99 = .ok (.getfield 36, 3) := dk_180 0 36 (dk_at dksX4_sumOf_4 6 rfl rfl)
theorem dX4_sumOf_102 : decode cX4_sumOf 102 = .ok (.iconst 5, 1) := dk_8 (dk_at dksX4_sumOf_4 9 rfl rfl)
theorem dX4_sumOf_103 : decode cX4_sumOf 103 = .ok (.aload_n 0, 1) := dk_42 (dk_at dksX4_sumOf_4 10 rfl rfl)
theorem dX4_sumOf_104 : decode cX4_sumOf 104 = .ok (.getfield 39, 3) := dk_180 0 39 (dk_at dksX4_sumOf_4 11 rfl rfl)
theorem dX4_sumOf_107 : decode cX4_sumOf 107 = .ok (.bipush 38, 2) := dk_16 38 (dk_at dksX4_sumOf_4 14 rfl rfl)
theorem dX4_sumOf_109 : decode cX4_sumOf 109 = .ok (.iload_n 1, 1) := dk_27 (dk_at dksX4_sumOf_4 16 rfl rfl)
theorem dX4_sumOf_110 : decode cX4_sumOf 110 = .ok (.iadd, 1) := dk_96 (dk_at dksX4_sumOf_4 17 rfl rfl)
theorem dX4_sumOf_111 : decode cX4_sumOf 111 = .ok (.iaload, 1) := dk_46 (dk_at dksX4_sumOf_4 18 rfl rfl)
theorem dX4_sumOf_112 : decode cX4_sumOf 112 = .ok (.aload_n 0, 1) := dk_42 (dk_at dksX4_sumOf_4 19 rfl rfl)
theorem dX4_sumOf_113 : decode cX4_sumOf 113 = .ok (.invokevirtual 329, 3) := dk_182 1 73 (dk_at dksX4_sumOf_4 20 rfl rfl)
theorem dX4_sumOf_116 : decode cX4_sumOf 116 = .ok (.iand, 1) := dk_126 (dk_at dksX4_sumOf_4 23 rfl rfl)
theorem dX4_sumOf_117 : decode cX4_sumOf 117 = .ok (.invokestatic 332, 3) := dk_184 1 76 (dk_at dksX4_sumOf_5 0 rfl rfl)
theorem dX4_sumOf_120 : decode cX4_sumOf 120 = .ok (.i2l, 1) := dk_133 (dk_at dksX4_sumOf_5 3 rfl rfl)
theorem dX4_sumOf_121 : decode cX4_sumOf 121 = .ok (.lastore, 1) := dk_80 (dk_at dksX4_sumOf_5 4 rfl rfl)
theorem dX4_sumOf_122 : decode cX4_sumOf 122 = .ok (.aload_n 0, 1) := dk_42 (dk_at dksX4_sumOf_5 5 rfl rfl)
theorem dX4_sumOf_123 : decode cX4_sumOf 123 = .ok (.getfield 36, 3) := dk_180 0 36 (dk_at dksX4_sumOf_5 6 rfl rfl)
theorem dX4_sumOf_126 : decode cX4_sumOf 126 = .ok (.bipush 6, 2) := dk_16 6 (dk_at dksX4_sumOf_5 9 rfl rfl)
theorem dX4_sumOf_128 : decode cX4_sumOf 128 = .ok (.aload_n 0, 1) := dk_42 (dk_at dksX4_sumOf_5 11 rfl rfl)
theorem dX4_sumOf_129 : decode cX4_sumOf 129 = .ok (.invokevirtual 329, 3) := dk_182 1 73 (dk_at dksX4_sumOf_5 12 rfl rfl)
theorem dX4_sumOf_132 : decode cX4_sumOf 132 = .ok (.invokestatic 332, 3) := dk_184 1 76 (dk_at dksX4_sumOf_5 15 rfl rfl)
theorem dX4_sumOf_135 : decode cX4_sumOf 135 = .ok (.i2l, 1) := dk_133 (dk_at dksX4_sumOf_5 18 rfl rfl)
theorem dX4_sumOf_136 : decode cX4_sumOf 136 = .ok (.lastore, 1) := dk_80 (dk_at dksX4_sumOf_5 19 rfl rfl)
theorem dX4_sumOf_137 : decode cX4_sumOf 137 = .ok (.aload_n 0, 1) := dk_42 (dk_at dksX4_sumOf_5 20 rfl rfl)
theorem dX4_sumOf_138 : decode cX4_sumOf 138 = .ok (.getfield 36, 3) := dk_180 0 36 (dk_at dksX4_sumOf_5 21 rfl rfl)
theorem dX4_sumOf_141 : decode cX4_sumOf 141 = .ok (.bipush 7, 2) := dk_16 7 (dk_at dksX4_sumOf_6 0 rfl rfl)
theorem dX4_sumOf_143 : decode cX4_sumOf 143 = .ok (.aload_n 0, 1) := dk_42 (dk_at dksX4_sumOf_6 2 rfl rfl)
theorem dX4_sumOf_144 : decode cX4_sumOf 144 = .ok (.invokevirtual 335, 3) := dk_182 1 79 (dk_at dksX4_sumOf_6 3 rfl rfl)
theorem dX4_sumOf_147 : decode cX4_sumOf 147 = .ok (.i2l, 1) := dk_133 (dk_at dksX4_sumOf_6 6 rfl rfl)
theorem dX4_sumOf_148 : decode cX4_sumOf 148 = .ok (.lastore, 1) := dk_80 (dk_at dksX4_sumOf_6 7 rfl rfl)
theorem dX4_sumOf_149 : decode cX4_sumOf 149 = .ok (.aload_n 0, 1) := dk_42 (dk_at dksX4_sumOf_6 8 rfl rfl)
theorem dX4_sumOf_150 : decode cX4_sumOf 150 = .ok (.getfield 36, 3) := dk_180 0 36 (dk_at dksX4_sumOf_6 9 rfl rfl)
theorem dX4_sumOf_153 : decode cX4_sumOf 153 = .ok (.bipush 8, 2) := dk_16 8 (dk_at dksX4_sumOf_6 12 rfl rfl)
theorem dX4_sumOf_155 : decode cX4_sumOf 155 = .ok (.aload_n 0, 1) := dk_42 (dk_at dksX4_sumOf_6 14 rfl rfl)
theorem dX4_sumOf_156 : decode cX4_sumOf 156 = .ok (.getfield 39, 3) := dk_180 0 39 (dk_at dksX4_sumOf_6 15 rfl rfl)
theorem dX4_sumOf_159 : decode cX4_sumOf 159 = .ok (.bipush 14, 2) := dk_16 14 (dk_at dksX4_sumOf_6 18 rfl rfl)
theorem dX4_sumOf_161 : decode cX4_sumOf 161 = .ok (.iconst 4, 1) := dk_7 (dk_at dksX4_sumOf_6 20 rfl rfl)
theorem dX4_sumOf_162 : decode cX4_sumOf 162 = .ok (.iload_n 1, 1) := dk_27 (dk_at dksX4_sumOf_6 21 rfl rfl)
theorem dX4_sumOf_163 : decode cX4_sumOf 163 = .ok (.imul, 1) := dk_104 (dk_at dksX4_sumOf_6 22 rfl rfl)
theorem dX4_sumOf_164 : decode cX4_sumOf 164 = .ok (.iadd, 1) := dk_96 (dk_at dksX4_sumOf_6 23 rfl rfl)
theorem dX4_sumOf_165 : decode cX4_sumOf 165 = .ok (.iconst 3, 1) := dk_6 (dk_at dksX4_sumOf_7 0 rfl rfl)
theorem dX4_sumOf_166 : decode cX4_sumOf 166 = .ok (.iadd, 1) := dk_96 (dk_at dksX4_sumOf_7 1 rfl rfl)
theorem dX4_sumOf_167 : decode cX4_sumOf 167 = .ok (.iaload, 1) := dk_46 (dk_at dksX4_sumOf_7 2 rfl rfl)
theorem dX4_sumOf_168 : decode cX4_sumOf 168 = .ok (.i2l, 1) := dk_133 (dk_at dksX4_sumOf_7 3 rfl rfl)
theorem dX4_sumOf_169 : decode cX4_sumOf 169 = .ok (.lastore, 1) := dk_80 (dk_at dksX4_sumOf_7 4 rfl rfl)
theorem dX4_sumOf_170 : decode cX4_sumOf 170 = .ok (.aload_n 0, 1) := dk_42 (dk_at dksX4_sumOf_7 5 rfl rfl)
theorem dX4_sumOf_171 : decode cX4_sumOf 171 = .ok (.getfield 36, 3) := dk_180 0 36 (dk_at dksX4_sumOf_7 6 rfl rfl)
theorem dX4_sumOf_174 : decode cX4_sumOf 174 = .ok (.bipush 9, 2) := dk_16 9 (dk_at dksX4_sumOf_7 9 rfl rfl)
theorem dX4_sumOf_176 : decode cX4_sumOf 176 = .ok (.aload_n 0, 1) := dk_42 (dk_at dksX4_sumOf_7 11 rfl rfl)
theorem dX4_sumOf_177 : decode cX4_sumOf 177 = .ok (.getfield 39, 3) := dk_180 0 39 (dk_at dksX4_sumOf_7 12 rfl rfl)
theorem dX4_sumOf_180 : decode cX4_sumOf 180 = .ok (.iconst 1, 1) := dk_4 (dk_at dksX4_sumOf_7 15 rfl rfl)
theorem dX4_sumOf_181 : decode cX4_sumOf 181 = .ok (.iaload, 1) := dk_46 (dk_at dksX4_sumOf_7 16 rfl rfl)
theorem dX4_sumOf_182 : decode cX4_sumOf 182 = .ok (.i2l, 1) := dk_133 (dk_at dksX4_sumOf_7 17 rfl rfl)
theorem dX4_sumOf_183 : decode cX4_sumOf 183 = .ok (.lastore, 1) := dk_80 (dk_at dksX4_sumOf_7 18 rfl rfl)
theorem dX4_sumOf_184 : decode cX4_sumOf 184 = .ok (.aload_n 0, 1) := dk_42 (dk_at dksX4_sumOf_7 19 rfl rfl)
theorem dX4_sumOf_185 : decode cX4_sumOf 185 = .ok (.getfield 36, 3) := dk_180 0 36 (dk_at dksX4_sumOf_7 20 rfl rfl)
theorem dX4_sumOf_188 : decode cX4_sumOf 188 = .ok (.bipush 10, 2) := dk_16 10 (dk_at dksX4_sumOf_8 0 rfl rfl)
theorem dX4_sumOf_190 : decode cX4_sumOf 190 = .ok (.aload_n 0, 1) := dk_42 (dk_at dksX4_sumOf_8 2 rfl rfl)
theorem dX4_sumOf_191 : decode cX4_sumOf 191 = .ok (.getfield 39, 3) := dk_180 0 39 (dk_at dksX4_sumOf_8 3 rfl rfl)
theorem dX4_sumOf_194 : decode cX4_sumOf 194 = .ok (.bipush 10, 2) := dk_16 10 (dk_at dksX4_sumOf_8 6 rfl rfl)
theorem dX4_sumOf_196 : decode cX4_sumOf 196 = .ok (.iaload, 1) := dk_46 (dk_at dksX4_sumOf_8 8 rfl rfl)
theorem dX4_sumOf_197 : decode cX4_sumOf 197 = .ok (.i2l, 1) := dk_133 (dk_at dksX4_sumOf_8 9 rfl rfl)
theorem dX4_sumOf_198 : decode cX4_sumOf 198 = .ok (.lastore, 1) := dk_80 (dk_at dksX4_sumOf_8 10 rfl rfl)
theorem dX4_sumOf_199 : decode cX4_sumOf 199 = .ok (.aload_n 0, 1) := dk_42 (dk_at dksX4_sumOf_8 11 rfl rfl)
theorem dX4_sumOf_200 : decode cX4_sumOf 200 = .ok (.aload_n 0, 1) := dk_42 (dk_at dksX4_sumOf_8 12 rfl rfl)
theorem dX4_sumOf_201 : decode cX4_sumOf 201 = .ok (.getfield 42, 3) := dk_180 0 42 (dk_at dksX4_sumOf_8 13 rfl rfl)
theorem dX4_sumOf_204 : decode cX4_sumOf 204 = .ok (.invokevirtual 338, 3) := dk_182 1 82 (dk_at dksX4_sumOf_8 16 rfl rfl)
theorem dX4_sumOf_207 : decode cX4_sumOf 207 = .ok (.lreturn, 1) := dk_173 (dk_at dksX4_sumOf_8 19 rfl rfl)
abbrev cX4_saysOf : ByteArray := prog_19_method_52_code
def yX4_saysOf : MethodName := ⟨RX4, "saysOf", "(I)I"⟩
def dkwX4_saysOf_0 : List UInt8 := [42, 180, 0, 39, 16, 14, 7, 27, 104, 96, 5, 96, 46, 172]
abbrev dktX4_saysOf_0 : List UInt8 := dkwX4_saysOf_0 ++ []
theorem dksX4_saysOf_0 : cX4_saysOf.data.toList.drop 0 = dktX4_saysOf_0 := by decide +kernel
theorem dX4_saysOf_0 : decode cX4_saysOf 0 = .ok (.aload_n 0, 1) := dk_42 (dk_at dksX4_saysOf_0 0 rfl rfl)
theorem dX4_saysOf_1 : decode cX4_saysOf 1 = .ok (.getfield 39, 3) := dk_180 0 39 (dk_at dksX4_saysOf_0 1 rfl rfl)
theorem dX4_saysOf_4 : decode cX4_saysOf 4 = .ok (.bipush 14, 2) := dk_16 14 (dk_at dksX4_saysOf_0 4 rfl rfl)
theorem dX4_saysOf_6 : decode cX4_saysOf 6 = .ok (.iconst 4, 1) := dk_7 (dk_at dksX4_saysOf_0 6 rfl rfl)
theorem dX4_saysOf_7 : decode cX4_saysOf 7 = .ok (.iload_n 1, 1) := dk_27 (dk_at dksX4_saysOf_0 7 rfl rfl)
theorem dX4_saysOf_8 : decode cX4_saysOf 8 = .ok (.imul, 1) := dk_104 (dk_at dksX4_saysOf_0 8 rfl rfl)
theorem dX4_saysOf_9 : decode cX4_saysOf 9 = .ok (.iadd, 1) := dk_96 (dk_at dksX4_saysOf_0 9 rfl rfl)
theorem dX4_saysOf_10 : decode cX4_saysOf 10 = .ok (.iconst 2, 1) := dk_5 (dk_at dksX4_saysOf_0 10 rfl rfl)
theorem dX4_saysOf_11 : decode cX4_saysOf 11 = .ok (.iadd, 1) := dk_96 (dk_at dksX4_saysOf_0 11 rfl rfl)
theorem dX4_saysOf_12 : decode cX4_saysOf 12 = .ok (.iaload, 1) := dk_46 (dk_at dksX4_saysOf_0 12 rfl rfl)
theorem dX4_saysOf_13 : decode cX4_saysOf 13 = .ok (.ireturn, 1) := dk_172 (dk_at dksX4_saysOf_0 13 rfl rfl)
abbrev cX4_fires : ByteArray := prog_19_method_54_code
def yX4_fires : MethodName := ⟨RX4, "fires", "()I"⟩
def dkwX4_fires_1 : List UInt8 := [28, 120, 167, 0, 4, 3, 128, 60, 132, 2, 1, 167, 255, 225, 27, 172]
abbrev dktX4_fires_1 : List UInt8 := dkwX4_fires_1 ++ []
def dkwX4_fires_0 : List UInt8 := [3, 60, 3, 61, 28, 42, 180, 0, 39, 6, 46, 162, 0, 27, 27, 42, 28, 182, 1, 38, 158, 0, 9, 4]
abbrev dktX4_fires_0 : List UInt8 := dkwX4_fires_0 ++ dktX4_fires_1
theorem dksX4_fires_0 : cX4_fires.data.toList.drop 0 = dktX4_fires_0 := by decide +kernel
theorem dksX4_fires_1 : cX4_fires.data.toList.drop 24 = dktX4_fires_1 := dk_seg dksX4_fires_0 24 rfl rfl
theorem dX4_fires_0 : decode cX4_fires 0 = .ok (.iconst 0, 1) := dk_3 (dk_at dksX4_fires_0 0 rfl rfl)
theorem dX4_fires_1 : decode cX4_fires 1 = .ok (.istore_n 1, 1) := dk_60 (dk_at dksX4_fires_0 1 rfl rfl)
theorem dX4_fires_2 : decode cX4_fires 2 = .ok (.iconst 0, 1) := dk_3 (dk_at dksX4_fires_0 2 rfl rfl)
theorem dX4_fires_3 : decode cX4_fires 3 = .ok (.istore_n 2, 1) := dk_61 (dk_at dksX4_fires_0 3 rfl rfl)
theorem dX4_fires_4 : decode cX4_fires 4 = .ok (.iload_n 2, 1) := dk_28 (dk_at dksX4_fires_0 4 rfl rfl)
theorem dX4_fires_5 : decode cX4_fires 5 = .ok (.aload_n 0, 1) := dk_42 (dk_at dksX4_fires_0 5 rfl rfl)
theorem dX4_fires_6 : decode cX4_fires 6 = .ok (.getfield 39, 3) := dk_180 0 39 (dk_at dksX4_fires_0 6 rfl rfl)
theorem dX4_fires_9 : decode cX4_fires 9 = .ok (.iconst 3, 1) := dk_6 (dk_at dksX4_fires_0 9 rfl rfl)
theorem dX4_fires_10 : decode cX4_fires 10 = .ok (.iaload, 1) := dk_46 (dk_at dksX4_fires_0 10 rfl rfl)
theorem dX4_fires_11 : decode cX4_fires 11 = .ok (.if_icmp .ge 27, 3) := dk_162 0 27 (dk_at dksX4_fires_0 11 rfl rfl)
theorem dX4_fires_14 : decode cX4_fires 14 = .ok (.iload_n 1, 1) := dk_27 (dk_at dksX4_fires_0 14 rfl rfl)
theorem dX4_fires_15 : decode cX4_fires 15 = .ok (.aload_n 0, 1) := dk_42 (dk_at dksX4_fires_0 15 rfl rfl)
theorem dX4_fires_16 : decode cX4_fires 16 = .ok (.iload_n 2, 1) := dk_28 (dk_at dksX4_fires_0 16 rfl rfl)
theorem dX4_fires_17 : decode cX4_fires 17 = .ok (.invokevirtual 294, 3) := dk_182 1 38 (dk_at dksX4_fires_0 17 rfl rfl)
theorem dX4_fires_20 : decode cX4_fires 20 = .ok (.ifCond .le 9, 3) := dk_158 0 9 (dk_at dksX4_fires_0 20 rfl rfl)
theorem dX4_fires_23 : decode cX4_fires 23 = .ok (.iconst 1, 1) := dk_4 (dk_at dksX4_fires_0 23 rfl rfl)
theorem dX4_fires_24 : decode cX4_fires 24 = .ok (.iload_n 2, 1) := dk_28 (dk_at dksX4_fires_1 0 rfl rfl)
theorem dX4_fires_25 : decode cX4_fires 25 = .ok (.ishl, 1) := dk_120 (dk_at dksX4_fires_1 1 rfl rfl)
theorem dX4_fires_26 : decode cX4_fires 26 = .ok (.goto 4, 3) := dk_167 0 4 (dk_at dksX4_fires_1 2 rfl rfl)
theorem dX4_fires_29 : decode cX4_fires 29 = .ok (.iconst 0, 1) := dk_3 (dk_at dksX4_fires_1 5 rfl rfl)
theorem dX4_fires_30 : decode cX4_fires 30 = .ok (.ior, 1) := dk_128 (dk_at dksX4_fires_1 6 rfl rfl)
theorem dX4_fires_31 : decode cX4_fires 31 = .ok (.istore_n 1, 1) := dk_60 (dk_at dksX4_fires_1 7 rfl rfl)
theorem dX4_fires_32 : decode cX4_fires 32 = .ok (.iinc 2 1, 3) := dk_132 2 1 (dk_at dksX4_fires_1 8 rfl rfl)
theorem dX4_fires_35 : decode cX4_fires 35 = .ok (.goto (-31), 3) := dk_167 255 225 (dk_at dksX4_fires_1 11 rfl rfl)
theorem dX4_fires_38 : decode cX4_fires 38 = .ok (.iload_n 1, 1) := dk_27 (dk_at dksX4_fires_1 14 rfl rfl)
theorem dX4_fires_39 : decode cX4_fires 39 = .ok (.ireturn, 1) := dk_172 (dk_at dksX4_fires_1 15 rfl rfl)
abbrev cX4_bits : ByteArray := prog_19_method_4_code
def yX4_bits : MethodName := ⟨RX4, "bits", "(I)I"⟩
def dkwX4_bits_0 : List UInt8 := [3, 60, 26, 61, 28, 153, 0, 15, 132, 1, 1, 28, 28, 4, 100, 126, 61, 167, 255, 243, 27, 172]
abbrev dktX4_bits_0 : List UInt8 := dkwX4_bits_0 ++ []
theorem dksX4_bits_0 : cX4_bits.data.toList.drop 0 = dktX4_bits_0 := by decide +kernel
theorem dX4_bits_0 : decode cX4_bits 0 = .ok (.iconst 0, 1) := dk_3 (dk_at dksX4_bits_0 0 rfl rfl)
theorem dX4_bits_1 : decode cX4_bits 1 = .ok (.istore_n 1, 1) := dk_60 (dk_at dksX4_bits_0 1 rfl rfl)
theorem dX4_bits_2 : decode cX4_bits 2 = .ok (.iload_n 0, 1) := dk_26 (dk_at dksX4_bits_0 2 rfl rfl)
theorem dX4_bits_3 : decode cX4_bits 3 = .ok (.istore_n 2, 1) := dk_61 (dk_at dksX4_bits_0 3 rfl rfl)
theorem dX4_bits_4 : decode cX4_bits 4 = .ok (.iload_n 2, 1) := dk_28 (dk_at dksX4_bits_0 4 rfl rfl)
theorem dX4_bits_5 : decode cX4_bits 5 = .ok (.ifCond .eq 15, 3) := dk_153 0 15 (dk_at dksX4_bits_0 5 rfl rfl)
theorem dX4_bits_8 : decode cX4_bits 8 = .ok (.iinc 1 1, 3) := dk_132 1 1 (dk_at dksX4_bits_0 8 rfl rfl)
theorem dX4_bits_11 : decode cX4_bits 11 = .ok (.iload_n 2, 1) := dk_28 (dk_at dksX4_bits_0 11 rfl rfl)
theorem dX4_bits_12 : decode cX4_bits 12 = .ok (.iload_n 2, 1) := dk_28 (dk_at dksX4_bits_0 12 rfl rfl)
theorem dX4_bits_13 : decode cX4_bits 13 = .ok (.iconst 1, 1) := dk_4 (dk_at dksX4_bits_0 13 rfl rfl)
theorem dX4_bits_14 : decode cX4_bits 14 = .ok (.isub, 1) := dk_100 (dk_at dksX4_bits_0 14 rfl rfl)
theorem dX4_bits_15 : decode cX4_bits 15 = .ok (.iand, 1) := dk_126 (dk_at dksX4_bits_0 15 rfl rfl)
theorem dX4_bits_16 : decode cX4_bits 16 = .ok (.istore_n 2, 1) := dk_61 (dk_at dksX4_bits_0 16 rfl rfl)
theorem dX4_bits_17 : decode cX4_bits 17 = .ok (.goto (-13), 3) := dk_167 255 243 (dk_at dksX4_bits_0 17 rfl rfl)
theorem dX4_bits_20 : decode cX4_bits 20 = .ok (.iload_n 1, 1) := dk_27 (dk_at dksX4_bits_0 20 rfl rfl)
theorem dX4_bits_21 : decode cX4_bits 21 = .ok (.ireturn, 1) := dk_172 (dk_at dksX4_bits_0 21 rfl rfl)
abbrev cX4_lostAll : ByteArray := prog_19_method_57_code
def yX4_lostAll : MethodName := ⟨RX4, "lostAll", "()I"⟩
def dkwX4_lostAll_1 : List UInt8 := [132, 2, 1, 167, 255, 235, 27, 42, 180, 1, 47, 100, 172]
abbrev dktX4_lostAll_1 : List UInt8 := dkwX4_lostAll_1 ++ []
def dkwX4_lostAll_0 : List UInt8 := [3, 60, 3, 61, 28, 42, 180, 0, 39, 6, 46, 162, 0, 17, 27, 42, 28, 182, 1, 44, 96, 60]
abbrev dktX4_lostAll_0 : List UInt8 := dkwX4_lostAll_0 ++ dktX4_lostAll_1
theorem dksX4_lostAll_0 : cX4_lostAll.data.toList.drop 0 = dktX4_lostAll_0 := by decide +kernel
theorem dksX4_lostAll_1 : cX4_lostAll.data.toList.drop 22 = dktX4_lostAll_1 := dk_seg dksX4_lostAll_0 22 rfl rfl
theorem dX4_lostAll_0 : decode cX4_lostAll 0 = .ok (.iconst 0, 1) := dk_3 (dk_at dksX4_lostAll_0 0 rfl rfl)
theorem dX4_lostAll_1 : decode cX4_lostAll 1 = .ok (.istore_n 1, 1) := dk_60 (dk_at dksX4_lostAll_0 1 rfl rfl)
theorem dX4_lostAll_2 : decode cX4_lostAll 2 = .ok (.iconst 0, 1) := dk_3 (dk_at dksX4_lostAll_0 2 rfl rfl)
theorem dX4_lostAll_3 : decode cX4_lostAll 3 = .ok (.istore_n 2, 1) := dk_61 (dk_at dksX4_lostAll_0 3 rfl rfl)
theorem dX4_lostAll_4 : decode cX4_lostAll 4 = .ok (.iload_n 2, 1) := dk_28 (dk_at dksX4_lostAll_0 4 rfl rfl)
theorem dX4_lostAll_5 : decode cX4_lostAll 5 = .ok (.aload_n 0, 1) := dk_42 (dk_at dksX4_lostAll_0 5 rfl rfl)
theorem dX4_lostAll_6 : decode cX4_lostAll 6 = .ok (.getfield 39, 3) := dk_180 0 39 (dk_at dksX4_lostAll_0 6 rfl rfl)
theorem dX4_lostAll_9 : decode cX4_lostAll 9 = .ok (.iconst 3, 1) := dk_6 (dk_at dksX4_lostAll_0 9 rfl rfl)
theorem dX4_lostAll_10 : decode cX4_lostAll 10 = .ok (.iaload, 1) := dk_46 (dk_at dksX4_lostAll_0 10 rfl rfl)
theorem dX4_lostAll_11 : decode cX4_lostAll 11 = .ok (.if_icmp .ge 17, 3) := dk_162 0 17 (dk_at dksX4_lostAll_0 11 rfl rfl)
theorem dX4_lostAll_14 : decode cX4_lostAll 14 = .ok (.iload_n 1, 1) := dk_27 (dk_at dksX4_lostAll_0 14 rfl rfl)
theorem dX4_lostAll_15 : decode cX4_lostAll 15 = .ok (.aload_n 0, 1) := dk_42 (dk_at dksX4_lostAll_0 15 rfl rfl)
theorem dX4_lostAll_16 : decode cX4_lostAll 16 = .ok (.iload_n 2, 1) := dk_28 (dk_at dksX4_lostAll_0 16 rfl rfl)
theorem dX4_lostAll_17 : decode cX4_lostAll 17 = .ok (.invokevirtual 300, 3) := dk_182 1 44 (dk_at dksX4_lostAll_0 17 rfl rfl)
theorem dX4_lostAll_20 : decode cX4_lostAll 20 = .ok (.iadd, 1) := dk_96 (dk_at dksX4_lostAll_0 20 rfl rfl)
theorem dX4_lostAll_21 : decode cX4_lostAll 21 = .ok (.istore_n 1, 1) := dk_60 (dk_at dksX4_lostAll_0 21 rfl rfl)
theorem dX4_lostAll_22 : decode cX4_lostAll 22 = .ok (.iinc 2 1, 3) := dk_132 2 1 (dk_at dksX4_lostAll_1 0 rfl rfl)
theorem dX4_lostAll_25 : decode cX4_lostAll 25 = .ok (.goto (-21), 3) := dk_167 255 235 (dk_at dksX4_lostAll_1 3 rfl rfl)
theorem dX4_lostAll_28 : decode cX4_lostAll 28 = .ok (.iload_n 1, 1) := dk_27 (dk_at dksX4_lostAll_1 6 rfl rfl)
theorem dX4_lostAll_29 : decode cX4_lostAll 29 = .ok (.aload_n 0, 1) := dk_42 (dk_at dksX4_lostAll_1 7 rfl rfl)
theorem dX4_lostAll_30 : decode cX4_lostAll 30 = .ok (.getfield 303, 3) := dk_180 1 47 (dk_at dksX4_lostAll_1 8 rfl rfl)
theorem dX4_lostAll_33 : decode cX4_lostAll 33 = .ok (.isub, 1) := dk_100 (dk_at dksX4_lostAll_1 11 rfl rfl)
theorem dX4_lostAll_34 : decode cX4_lostAll 34 = .ok (.ireturn, 1) := dk_172 (dk_at dksX4_lostAll_1 12 rfl rfl)
abbrev cX4_lostOf : ByteArray := prog_19_method_56_code
def yX4_lostOf : MethodName := ⟨RX4, "lostOf", "(I)I"⟩
def dkwX4_lostOf_0 : List UInt8 := [42, 180, 0, 39, 16, 93, 6, 27, 104, 96, 46, 42, 27, 182, 1, 41, 100, 172]
abbrev dktX4_lostOf_0 : List UInt8 := dkwX4_lostOf_0 ++ []
theorem dksX4_lostOf_0 : cX4_lostOf.data.toList.drop 0 = dktX4_lostOf_0 := by decide +kernel
theorem dX4_lostOf_0 : decode cX4_lostOf 0 = .ok (.aload_n 0, 1) := dk_42 (dk_at dksX4_lostOf_0 0 rfl rfl)
theorem dX4_lostOf_1 : decode cX4_lostOf 1 = .ok (.getfield 39, 3) := dk_180 0 39 (dk_at dksX4_lostOf_0 1 rfl rfl)
theorem dX4_lostOf_4 : decode cX4_lostOf 4 = .ok (.bipush 93, 2) := dk_16 93 (dk_at dksX4_lostOf_0 4 rfl rfl)
theorem dX4_lostOf_6 : decode cX4_lostOf 6 = .ok (.iconst 3, 1) := dk_6 (dk_at dksX4_lostOf_0 6 rfl rfl)
theorem dX4_lostOf_7 : decode cX4_lostOf 7 = .ok (.iload_n 1, 1) := dk_27 (dk_at dksX4_lostOf_0 7 rfl rfl)
theorem dX4_lostOf_8 : decode cX4_lostOf 8 = .ok (.imul, 1) := dk_104 (dk_at dksX4_lostOf_0 8 rfl rfl)
theorem dX4_lostOf_9 : decode cX4_lostOf 9 = .ok (.iadd, 1) := dk_96 (dk_at dksX4_lostOf_0 9 rfl rfl)
theorem dX4_lostOf_10 : decode cX4_lostOf 10 = .ok (.iaload, 1) := dk_46 (dk_at dksX4_lostOf_0 10 rfl rfl)
theorem dX4_lostOf_11 : decode cX4_lostOf 11 = .ok (.aload_n 0, 1) := dk_42 (dk_at dksX4_lostOf_0 11 rfl rfl)
theorem dX4_lostOf_12 : decode cX4_lostOf 12 = .ok (.iload_n 1, 1) := dk_27 (dk_at dksX4_lostOf_0 12 rfl rfl)
theorem dX4_lostOf_13 : decode cX4_lostOf 13 = .ok (.invokevirtual 297, 3) := dk_182 1 41 (dk_at dksX4_lostOf_0 13 rfl rfl)
theorem dX4_lostOf_16 : decode cX4_lostOf 16 = .ok (.isub, 1) := dk_100 (dk_at dksX4_lostOf_0 16 rfl rfl)
theorem dX4_lostOf_17 : decode cX4_lostOf 17 = .ok (.ireturn, 1) := dk_172 (dk_at dksX4_lostOf_0 17 rfl rfl)
abbrev cX4_summedBy : ByteArray := prog_19_method_64_code
def yX4_summedBy : MethodName := ⟨RX4, "summedBy", "(I)J"⟩
def dkwX4_summedBy_3 : List UInt8 := [29, 4, 96, 46, 182, 1, 66, 173, 132, 2, 1, 167, 255, 177, 9, 173]
abbrev dktX4_summedBy_3 : List UInt8 := dkwX4_summedBy_3 ++ []
def dkwX4_summedBy_2 : List UInt8 := [29, 6, 96, 46, 182, 1, 66, 10, 148, 154, 0, 23, 42, 27, 42, 180, 0, 20, 29, 46, 42, 180, 0, 20]
abbrev dktX4_summedBy_2 : List UInt8 := dkwX4_summedBy_2 ++ dktX4_summedBy_3
def dkwX4_summedBy_1 : List UInt8 := [180, 0, 20, 29, 5, 96, 46, 155, 0, 29, 42, 27, 42, 180, 0, 20, 29, 5, 96, 46, 42, 180, 0, 20]
abbrev dktX4_summedBy_1 : List UInt8 := dkwX4_summedBy_1 ++ dktX4_summedBy_2
def dkwX4_summedBy_0 : List UInt8 := [3, 61, 28, 42, 180, 0, 23, 27, 46, 162, 0, 75, 16, 48, 27, 104, 7, 28, 104, 96, 62, 42]
abbrev dktX4_summedBy_0 : List UInt8 := dkwX4_summedBy_0 ++ dktX4_summedBy_1
theorem dksX4_summedBy_0 : cX4_summedBy.data.toList.drop 0 = dktX4_summedBy_0 := by decide +kernel
theorem dksX4_summedBy_1 : cX4_summedBy.data.toList.drop 22 = dktX4_summedBy_1 := dk_seg dksX4_summedBy_0 22 rfl rfl
theorem dksX4_summedBy_2 : cX4_summedBy.data.toList.drop 46 = dktX4_summedBy_2 := dk_seg dksX4_summedBy_1 24 rfl rfl
theorem dksX4_summedBy_3 : cX4_summedBy.data.toList.drop 70 = dktX4_summedBy_3 := dk_seg dksX4_summedBy_2 24 rfl rfl
theorem dX4_summedBy_0 : decode cX4_summedBy 0 = .ok (.iconst 0, 1) := dk_3 (dk_at dksX4_summedBy_0 0 rfl rfl)
theorem dX4_summedBy_1 : decode cX4_summedBy 1 = .ok (.istore_n 2, 1) := dk_61 (dk_at dksX4_summedBy_0 1 rfl rfl)
theorem dX4_summedBy_2 : decode cX4_summedBy 2 = .ok (.iload_n 2, 1) := dk_28 (dk_at dksX4_summedBy_0 2 rfl rfl)
theorem dX4_summedBy_3 : decode cX4_summedBy 3 = .ok (.aload_n 0, 1) := dk_42 (dk_at dksX4_summedBy_0 3 rfl rfl)
theorem dX4_summedBy_4 : decode cX4_summedBy 4 = .ok (.getfield 23, 3) := dk_180 0 23 (dk_at dksX4_summedBy_0 4 rfl rfl)
theorem dX4_summedBy_7 : decode cX4_summedBy 7 = .ok (.iload_n 1, 1) := dk_27 (dk_at dksX4_summedBy_0 7 rfl rfl)
theorem dX4_summedBy_8 : decode cX4_summedBy 8 = .ok (.iaload, 1) := dk_46 (dk_at dksX4_summedBy_0 8 rfl rfl)
theorem dX4_summedBy_9 : decode cX4_summedBy 9 = .ok (.if_icmp .ge 75, 3) := dk_162 0 75 (dk_at dksX4_summedBy_0 9 rfl rfl)
theorem dX4_summedBy_12 : decode cX4_summedBy 12 = .ok (.bipush 48, 2) := dk_16 48 (dk_at dksX4_summedBy_0 12 rfl rfl)
theorem dX4_summedBy_14 : decode cX4_summedBy 14 = .ok (.iload_n 1, 1) := dk_27 (dk_at dksX4_summedBy_0 14 rfl rfl)
theorem dX4_summedBy_15 : decode cX4_summedBy 15 = .ok (.imul, 1) := dk_104 (dk_at dksX4_summedBy_0 15 rfl rfl)
theorem dX4_summedBy_16 : decode cX4_summedBy 16 = .ok (.iconst 4, 1) := dk_7 (dk_at dksX4_summedBy_0 16 rfl rfl)
theorem dX4_summedBy_17 : decode cX4_summedBy 17 = .ok (.iload_n 2, 1) := dk_28 (dk_at dksX4_summedBy_0 17 rfl rfl)
theorem dX4_summedBy_18 : decode cX4_summedBy 18 = .ok (.imul, 1) := dk_104 (dk_at dksX4_summedBy_0 18 rfl rfl)
theorem dX4_summedBy_19 : decode cX4_summedBy 19 = .ok (.iadd, 1) := dk_96 (dk_at dksX4_summedBy_0 19 rfl rfl)
theorem dX4_summedBy_20 : decode cX4_summedBy 20 = .ok (.istore_n 3, 1) := dk_62 (dk_at dksX4_summedBy_0 20 rfl rfl)
theorem dX4_summedBy_21 : decode cX4_summedBy 21 = .ok (.aload_n 0, 1) := dk_42 (dk_at dksX4_summedBy_0 21 rfl rfl)
theorem dX4_summedBy_22 : decode cX4_summedBy 22 = .ok (.getfield 20, 3) := dk_180 0 20 (dk_at dksX4_summedBy_1 0 rfl rfl)
theorem dX4_summedBy_25 : decode cX4_summedBy 25 = .ok (.iload_n 3, 1) := dk_29 (dk_at dksX4_summedBy_1 3 rfl rfl)
theorem dX4_summedBy_26 : decode cX4_summedBy 26 = .ok (.iconst 2, 1) := dk_5 (dk_at dksX4_summedBy_1 4 rfl rfl)
theorem dX4_summedBy_27 : decode cX4_summedBy 27 = .ok (.iadd, 1) := dk_96 (dk_at dksX4_summedBy_1 5 rfl rfl)
theorem dX4_summedBy_28 : decode cX4_summedBy 28 = .ok (.iaload, 1) := dk_46 (dk_at dksX4_summedBy_1 6 rfl rfl)
theorem dX4_summedBy_29 : decode cX4_summedBy 29 = .ok (.ifCond .lt 29, 3) := dk_155 0 29 (dk_at dksX4_summedBy_1 7 rfl rfl)
theorem dX4_summedBy_32 : decode cX4_summedBy 32 = .ok (.aload_n 0, 1) := dk_42 (dk_at dksX4_summedBy_1 10 rfl rfl)
theorem dX4_summedBy_33 : decode cX4_summedBy 33 = .ok (.iload_n 1, 1) := dk_27 (dk_at dksX4_summedBy_1 11 rfl rfl)
theorem dX4_summedBy_34 : decode cX4_summedBy 34 = .ok (.aload_n 0, 1) := dk_42 (dk_at dksX4_summedBy_1 12 rfl rfl)
theorem dX4_summedBy_35 : decode cX4_summedBy 35 = .ok (.getfield 20, 3) := dk_180 0 20 (dk_at dksX4_summedBy_1 13 rfl rfl)
theorem dX4_summedBy_38 : decode cX4_summedBy 38 = .ok (.iload_n 3, 1) := dk_29 (dk_at dksX4_summedBy_1 16 rfl rfl)
theorem dX4_summedBy_39 : decode cX4_summedBy 39 = .ok (.iconst 2, 1) := dk_5 (dk_at dksX4_summedBy_1 17 rfl rfl)
theorem dX4_summedBy_40 : decode cX4_summedBy 40 = .ok (.iadd, 1) := dk_96 (dk_at dksX4_summedBy_1 18 rfl rfl)
theorem dX4_summedBy_41 : decode cX4_summedBy 41 = .ok (.iaload, 1) := dk_46 (dk_at dksX4_summedBy_1 19 rfl rfl)
theorem dX4_summedBy_42 : decode cX4_summedBy 42 = .ok (.aload_n 0, 1) := dk_42 (dk_at dksX4_summedBy_1 20 rfl rfl)
theorem dX4_summedBy_43 : decode cX4_summedBy 43 = .ok (.getfield 20, 3) := dk_180 0 20 (dk_at dksX4_summedBy_1 21 rfl rfl)
theorem dX4_summedBy_46 : decode cX4_summedBy 46 = .ok (.iload_n 3, 1) := dk_29 (dk_at dksX4_summedBy_2 0 rfl rfl)
theorem dX4_summedBy_47 : decode cX4_summedBy 47 = .ok (.iconst 3, 1) := dk_6 (dk_at dksX4_summedBy_2 1 rfl rfl)
theorem dX4_summedBy_48 : decode cX4_summedBy 48 = .ok (.iadd, 1) := dk_96 (dk_at dksX4_summedBy_2 2 rfl rfl)
theorem dX4_summedBy_49 : decode cX4_summedBy 49 = .ok (.iaload, 1) := dk_46 (dk_at dksX4_summedBy_2 3 rfl rfl)
theorem dX4_summedBy_50 : decode cX4_summedBy 50 = .ok (.invokevirtual 322, 3) := dk_182 1 66 (dk_at dksX4_summedBy_2 4 rfl rfl)
theorem dX4_summedBy_53 : decode cX4_summedBy 53 = .ok (.lconst 1, 1) := dk_10 (dk_at dksX4_summedBy_2 7 rfl rfl)
theorem dX4_summedBy_54 : decode cX4_summedBy 54 = .ok (.lcmp, 1) := dk_148 (dk_at dksX4_summedBy_2 8 rfl rfl)
theorem dX4_summedBy_55 : decode cX4_summedBy 55 = .ok (.ifCond .ne 23, 3) := dk_154 0 23 (dk_at dksX4_summedBy_2 9 rfl rfl)
theorem dX4_summedBy_58 : decode cX4_summedBy 58 = .ok (.aload_n 0, 1) := dk_42 (dk_at dksX4_summedBy_2 12 rfl rfl)
theorem dX4_summedBy_59 : decode cX4_summedBy 59 = .ok (.iload_n 1, 1) := dk_27 (dk_at dksX4_summedBy_2 13 rfl rfl)
theorem dX4_summedBy_60 : decode cX4_summedBy 60 = .ok (.aload_n 0, 1) := dk_42 (dk_at dksX4_summedBy_2 14 rfl rfl)
theorem dX4_summedBy_61 : decode cX4_summedBy 61 = .ok (.getfield 20, 3) := dk_180 0 20 (dk_at dksX4_summedBy_2 15 rfl rfl)
theorem dX4_summedBy_64 : decode cX4_summedBy 64 = .ok (.iload_n 3, 1) := dk_29 (dk_at dksX4_summedBy_2 18 rfl rfl)
theorem dX4_summedBy_65 : decode cX4_summedBy 65 = .ok (.iaload, 1) := dk_46 (dk_at dksX4_summedBy_2 19 rfl rfl)
theorem dX4_summedBy_66 : decode cX4_summedBy 66 = .ok (.aload_n 0, 1) := dk_42 (dk_at dksX4_summedBy_2 20 rfl rfl)
theorem dX4_summedBy_67 : decode cX4_summedBy 67 = .ok (.getfield 20, 3) := dk_180 0 20 (dk_at dksX4_summedBy_2 21 rfl rfl)
theorem dX4_summedBy_70 : decode cX4_summedBy 70 = .ok (.iload_n 3, 1) := dk_29 (dk_at dksX4_summedBy_3 0 rfl rfl)
theorem dX4_summedBy_71 : decode cX4_summedBy 71 = .ok (.iconst 1, 1) := dk_4 (dk_at dksX4_summedBy_3 1 rfl rfl)
theorem dX4_summedBy_72 : decode cX4_summedBy 72 = .ok (.iadd, 1) := dk_96 (dk_at dksX4_summedBy_3 2 rfl rfl)
theorem dX4_summedBy_73 : decode cX4_summedBy 73 = .ok (.iaload, 1) := dk_46 (dk_at dksX4_summedBy_3 3 rfl rfl)
theorem dX4_summedBy_74 : decode cX4_summedBy 74 = .ok (.invokevirtual 322, 3) := dk_182 1 66 (dk_at dksX4_summedBy_3 4 rfl rfl)
theorem dX4_summedBy_77 : decode cX4_summedBy 77 = .ok (.lreturn, 1) := dk_173 (dk_at dksX4_summedBy_3 7 rfl rfl)
theorem dX4_summedBy_78 : decode cX4_summedBy 78 = .ok (.iinc 2 1, 3) := dk_132 2 1 (dk_at dksX4_summedBy_3 8 rfl rfl)
theorem dX4_summedBy_81 : decode cX4_summedBy 81 = .ok (.goto (-79), 3) := dk_167 255 177 (dk_at dksX4_summedBy_3 11 rfl rfl)
theorem dX4_summedBy_84 : decode cX4_summedBy 84 = .ok (.lconst 0, 1) := dk_9 (dk_at dksX4_summedBy_3 14 rfl rfl)
theorem dX4_summedBy_85 : decode cX4_summedBy 85 = .ok (.lreturn, 1) := dk_173 (dk_at dksX4_summedBy_3 15 rfl rfl)
abbrev cX4_reckons : ByteArray := prog_19_method_47_code
def yX4_reckons : MethodName := ⟨RX4, "reckons", "(III)J"⟩
def dkwX4_reckons_5 : List UInt8 := [21, 5, 22, 9, 22, 7, 184, 1, 34, 182, 1, 26, 132, 4, 1, 167, 255, 132, 42, 182, 1, 30, 173]
abbrev dktX4_reckons_5 : List UInt8 := dkwX4_reckons_5 ++ []
def dkwX4_reckons_4 : List UInt8 := [182, 1, 30, 101, 182, 1, 26, 167, 0, 28, 42, 182, 1, 30, 55, 7, 42, 182, 1, 30, 55, 9, 42]
abbrev dktX4_reckons_4 : List UInt8 := dkwX4_reckons_4 ++ dktX4_reckons_5
def dkwX4_reckons_3 : List UInt8 := [42, 180, 0, 36, 21, 6, 47, 182, 1, 26, 167, 0, 48, 21, 5, 16, 11, 160, 0, 16, 42, 10, 42]
abbrev dktX4_reckons_3 : List UInt8 := dkwX4_reckons_3 ++ dktX4_reckons_4
def dkwX4_reckons_2 : List UInt8 := [54, 6, 21, 5, 154, 0, 13, 42, 21, 6, 133, 182, 1, 26, 167, 0, 68, 21, 5, 4, 160, 0, 17, 42]
abbrev dktX4_reckons_2 : List UInt8 := dkwX4_reckons_2 ++ dktX4_reckons_3
def dkwX4_reckons_1 : List UInt8 := [21, 4, 96, 46, 16, 15, 126, 54, 5, 42, 180, 0, 13, 17, 1, 144, 27, 104, 21, 4, 96, 46, 7, 122]
abbrev dktX4_reckons_1 : List UInt8 := dkwX4_reckons_1 ++ dktX4_reckons_2
def dkwX4_reckons_0 : List UInt8 := [42, 3, 181, 1, 23, 28, 54, 4, 21, 4, 29, 162, 0, 124, 42, 180, 0, 13, 17, 1, 144, 27, 104]
abbrev dktX4_reckons_0 : List UInt8 := dkwX4_reckons_0 ++ dktX4_reckons_1
theorem dksX4_reckons_0 : cX4_reckons.data.toList.drop 0 = dktX4_reckons_0 := by decide +kernel
theorem dksX4_reckons_1 : cX4_reckons.data.toList.drop 23 = dktX4_reckons_1 := dk_seg dksX4_reckons_0 23 rfl rfl
theorem dksX4_reckons_2 : cX4_reckons.data.toList.drop 47 = dktX4_reckons_2 := dk_seg dksX4_reckons_1 24 rfl rfl
theorem dksX4_reckons_3 : cX4_reckons.data.toList.drop 71 = dktX4_reckons_3 := dk_seg dksX4_reckons_2 24 rfl rfl
theorem dksX4_reckons_4 : cX4_reckons.data.toList.drop 94 = dktX4_reckons_4 := dk_seg dksX4_reckons_3 23 rfl rfl
theorem dksX4_reckons_5 : cX4_reckons.data.toList.drop 117 = dktX4_reckons_5 := dk_seg dksX4_reckons_4 23 rfl rfl
theorem dX4_reckons_0 : decode cX4_reckons 0 = .ok (.aload_n 0, 1) := dk_42 (dk_at dksX4_reckons_0 0 rfl rfl)
theorem dX4_reckons_1 : decode cX4_reckons 1 = .ok (.iconst 0, 1) := dk_3 (dk_at dksX4_reckons_0 1 rfl rfl)
theorem dX4_reckons_2 : decode cX4_reckons 2 = .ok (.putfield 279, 3) := dk_181 1 23 (dk_at dksX4_reckons_0 2 rfl rfl)
theorem dX4_reckons_5 : decode cX4_reckons 5 = .ok (.iload_n 2, 1) := dk_28 (dk_at dksX4_reckons_0 5 rfl rfl)
theorem dX4_reckons_6 : decode cX4_reckons 6 = .ok (.istore 4, 2) := dk_54 4 (dk_at dksX4_reckons_0 6 rfl rfl)
theorem dX4_reckons_8 : decode cX4_reckons 8 = .ok (.iload 4, 2) := dk_21 4 (dk_at dksX4_reckons_0 8 rfl rfl)
theorem dX4_reckons_10 : decode cX4_reckons 10 = .ok (.iload_n 3, 1) := dk_29 (dk_at dksX4_reckons_0 10 rfl rfl)
theorem dX4_reckons_11 : decode cX4_reckons 11 = .ok (.if_icmp .ge 124, 3) := dk_162 0 124 (dk_at dksX4_reckons_0 11 rfl rfl)
theorem dX4_reckons_14 : decode cX4_reckons 14 = .ok (.aload_n 0, 1) := dk_42 (dk_at dksX4_reckons_0 14 rfl rfl)
theorem dX4_reckons_15 : decode cX4_reckons 15 = .ok (.getfield 13, 3) := dk_180 0 13 (dk_at dksX4_reckons_0 15 rfl rfl)
theorem dX4_reckons_18 : decode cX4_reckons 18 = .ok (.sipush 400, 3) := dk_17 1 144 (dk_at dksX4_reckons_0 18 rfl rfl)
theorem dX4_reckons_21 : decode cX4_reckons 21 = .ok (.iload_n 1, 1) := dk_27 (dk_at dksX4_reckons_0 21 rfl rfl)
theorem dX4_reckons_22 : decode cX4_reckons 22 = .ok (.imul, 1) := dk_104 (dk_at dksX4_reckons_0 22 rfl rfl)
theorem dX4_reckons_23 : decode cX4_reckons 23 = .ok (.iload 4, 2) := dk_21 4 (dk_at dksX4_reckons_1 0 rfl rfl)
theorem dX4_reckons_25 : decode cX4_reckons 25 = .ok (.iadd, 1) := dk_96 (dk_at dksX4_reckons_1 2 rfl rfl)
theorem dX4_reckons_26 : decode cX4_reckons 26 = .ok (.iaload, 1) := dk_46 (dk_at dksX4_reckons_1 3 rfl rfl)
theorem dX4_reckons_27 : decode cX4_reckons 27 = .ok (.bipush 15, 2) := dk_16 15 (dk_at dksX4_reckons_1 4 rfl rfl)
theorem dX4_reckons_29 : decode cX4_reckons 29 = .ok (.iand, 1) := dk_126 (dk_at dksX4_reckons_1 6 rfl rfl)
theorem dX4_reckons_30 : decode cX4_reckons 30 = .ok (.istore 5, 2) := dk_54 5 (dk_at dksX4_reckons_1 7 rfl rfl)
theorem dX4_reckons_32 : decode cX4_reckons 32 = .ok (.aload_n 0, 1) := dk_42 (dk_at dksX4_reckons_1 9 rfl rfl)
theorem dX4_reckons_33 : decode cX4_reckons 33 = .ok (.getfield 13, 3) := dk_180 0 13 (dk_at dksX4_reckons_1 10 rfl rfl)
theorem dX4_reckons_36 : decode cX4_reckons 36 = .ok (.sipush 400, 3) := dk_17 1 144 (dk_at dksX4_reckons_1 13 rfl rfl)
theorem dX4_reckons_39 : decode cX4_reckons 39 = .ok (.iload_n 1, 1) := dk_27 (dk_at dksX4_reckons_1 16 rfl rfl)
theorem dX4_reckons_40 : decode cX4_reckons 40 = .ok (.imul, 1) := dk_104 (dk_at dksX4_reckons_1 17 rfl rfl)
theorem dX4_reckons_41 : decode cX4_reckons 41 = .ok (.iload 4, 2) := dk_21 4 (dk_at dksX4_reckons_1 18 rfl rfl)
theorem dX4_reckons_43 : decode cX4_reckons 43 = .ok (.iadd, 1) := dk_96 (dk_at dksX4_reckons_1 20 rfl rfl)
theorem dX4_reckons_44 : decode cX4_reckons 44 = .ok (.iaload, 1) := dk_46 (dk_at dksX4_reckons_1 21 rfl rfl)
theorem dX4_reckons_45 : decode cX4_reckons 45 = .ok (.iconst 4, 1) := dk_7 (dk_at dksX4_reckons_1 22 rfl rfl)
theorem dX4_reckons_46 : decode cX4_reckons 46 = .ok (.ishr, 1) := dk_122 (dk_at dksX4_reckons_1 23 rfl rfl)
theorem dX4_reckons_47 : decode cX4_reckons 47 = .ok (.istore 6, 2) := dk_54 6 (dk_at dksX4_reckons_2 0 rfl rfl)
theorem dX4_reckons_49 : decode cX4_reckons 49 = .ok (.iload 5, 2) := dk_21 5 (dk_at dksX4_reckons_2 2 rfl rfl)
theorem dX4_reckons_51 : decode cX4_reckons 51 = .ok (.ifCond .ne 13, 3) := dk_154 0 13 (dk_at dksX4_reckons_2 4 rfl rfl)
theorem dX4_reckons_54 : decode cX4_reckons 54 = .ok (.aload_n 0, 1) := dk_42 (dk_at dksX4_reckons_2 7 rfl rfl)
theorem dX4_reckons_55 : decode cX4_reckons 55 = .ok (.iload 6, 2) := dk_21 6 (dk_at dksX4_reckons_2 8 rfl rfl)
theorem dX4_reckons_57 : decode cX4_reckons 57 = .ok (.i2l, 1) := dk_133 (dk_at dksX4_reckons_2 10 rfl rfl)
theorem dX4_reckons_58 : decode cX4_reckons 58 = .ok (.invokevirtual 282, 3) := dk_182 1 26 (dk_at dksX4_reckons_2 11 rfl rfl)
theorem dX4_reckons_61 : decode cX4_reckons 61 = .ok (.goto 68, 3) := dk_167 0 68 (dk_at dksX4_reckons_2 14 rfl rfl)
theorem dX4_reckons_64 : decode cX4_reckons 64 = .ok (.iload 5, 2) := dk_21 5 (dk_at dksX4_reckons_2 17 rfl rfl)
theorem dX4_reckons_66 : decode cX4_reckons 66 = .ok (.iconst 1, 1) := dk_4 (dk_at dksX4_reckons_2 19 rfl rfl)
theorem dX4_reckons_67 : decode cX4_reckons 67 = .ok (.if_icmp .ne 17, 3) := dk_160 0 17 (dk_at dksX4_reckons_2 20 rfl rfl)
theorem dX4_reckons_70 : decode cX4_reckons 70 = .ok (.aload_n 0, 1) := dk_42 (dk_at dksX4_reckons_2 23 rfl rfl)
theorem dX4_reckons_71 : decode cX4_reckons 71 = .ok (.aload_n 0, 1) := dk_42 (dk_at dksX4_reckons_3 0 rfl rfl)
theorem dX4_reckons_72 : decode cX4_reckons 72 = .ok (.getfield 36, 3) := dk_180 0 36 (dk_at dksX4_reckons_3 1 rfl rfl)
theorem dX4_reckons_75 : decode cX4_reckons 75 = .ok (.iload 6, 2) := dk_21 6 (dk_at dksX4_reckons_3 4 rfl rfl)
theorem dX4_reckons_77 : decode cX4_reckons 77 = .ok (.laload, 1) := dk_47 (dk_at dksX4_reckons_3 6 rfl rfl)
theorem dX4_reckons_78 : decode cX4_reckons 78 = .ok (.invokevirtual 282, 3) := dk_182 1 26 (dk_at dksX4_reckons_3 7 rfl rfl)
theorem dX4_reckons_81 : decode cX4_reckons 81 = .ok (.goto 48, 3) := dk_167 0 48 (dk_at dksX4_reckons_3 10 rfl rfl)
theorem dX4_reckons_84 : decode cX4_reckons 84 = .ok (.iload 5, 2) := dk_21 5 (dk_at dksX4_reckons_3 13 rfl rfl)
theorem dX4_reckons_86 : decode cX4_reckons 86 = .ok (.bipush 11, 2) := dk_16 11 (dk_at dksX4_reckons_3 15 rfl rfl)
theorem dX4_reckons_88 : decode cX4_reckons 88 = .ok (.if_icmp .ne 16, 3) := dk_160 0 16 (dk_at dksX4_reckons_3 17 rfl rfl)
theorem dX4_reckons_91 : decode cX4_reckons 91 = .ok (.aload_n 0, 1) := dk_42 (dk_at dksX4_reckons_3 20 rfl rfl)
theorem dX4_reckons_92 : decode cX4_reckons 92 = .ok (.lconst 1, 1) := dk_10 (dk_at dksX4_reckons_3 21 rfl rfl)
theorem dX4_reckons_93 : decode cX4_reckons 93 = .ok (.aload_n 0, 1) := dk_42 (dk_at dksX4_reckons_3 22 rfl rfl)
theorem dX4_reckons_94 : decode cX4_reckons 94 = .ok (.invokevirtual 286, 3) := dk_182 1 30 (dk_at dksX4_reckons_4 0 rfl rfl)
theorem dX4_reckons_97 : decode cX4_reckons 97 = .ok (.lsub, 1) := dk_101 (dk_at dksX4_reckons_4 3 rfl rfl)
theorem dX4_reckons_98 : decode cX4_reckons 98 = .ok (.invokevirtual 282, 3) := dk_182 1 26 (dk_at dksX4_reckons_4 4 rfl rfl)
theorem dX4_reckons_101 : decode cX4_reckons 101 = .ok (.goto 28, 3) := dk_167 0 28 (dk_at dksX4_reckons_4 7 rfl rfl)
theorem dX4_reckons_104 : decode cX4_reckons 104 = .ok (.aload_n 0, 1) := dk_42 (dk_at dksX4_reckons_4 10 rfl rfl)
theorem dX4_reckons_105 : decode cX4_reckons 105 = .ok (.invokevirtual 286, 3) := dk_182 1 30 (dk_at dksX4_reckons_4 11 rfl rfl)
theorem dX4_reckons_108 : decode cX4_reckons 108 = .ok (.lstore 7, 2) := dk_55 7 (dk_at dksX4_reckons_4 14 rfl rfl)
theorem dX4_reckons_110 : decode cX4_reckons 110 = .ok (.aload_n 0, 1) := dk_42 (dk_at dksX4_reckons_4 16 rfl rfl)
theorem dX4_reckons_111 : decode cX4_reckons 111 = .ok (.invokevirtual 286, 3) := dk_182 1 30 (dk_at dksX4_reckons_4 17 rfl rfl)
theorem dX4_reckons_114 : decode cX4_reckons 114 = .ok (.lstore 9, 2) := dk_55 9 (dk_at dksX4_reckons_4 20 rfl rfl)
theorem dX4_reckons_116 : decode cX4_reckons 116 = .ok (.aload_n 0, 1) := dk_42 (dk_at dksX4_reckons_4 22 rfl rfl)
theorem dX4_reckons_117 : decode cX4_reckons 117 = .ok (.iload 5, 2) := dk_21 5 (dk_at dksX4_reckons_5 0 rfl rfl)
theorem dX4_reckons_119 : decode cX4_reckons 119 = .ok (.lload 9, 2) := dk_22 9 (dk_at dksX4_reckons_5 2 rfl rfl)
theorem dX4_reckons_121 : decode cX4_reckons 121 = .ok (.lload 7, 2) := dk_22 7 (dk_at dksX4_reckons_5 4 rfl rfl)
theorem dX4_reckons_123 : decode cX4_reckons 123 = .ok (.invokestatic 290, 3) := dk_184 1 34 (dk_at dksX4_reckons_5 6 rfl rfl)
theorem dX4_reckons_126 : decode cX4_reckons 126 = .ok (.invokevirtual 282, 3) := dk_182 1 26 (dk_at dksX4_reckons_5 9 rfl rfl)
theorem dX4_reckons_129 : decode cX4_reckons 129 = .ok (.iinc 4 1, 3) := dk_132 4 1 (dk_at dksX4_reckons_5 12 rfl rfl)
theorem dX4_reckons_132 : decode cX4_reckons 132 = .ok (.goto (-124), 3) := dk_167 255 132 (dk_at dksX4_reckons_5 15 rfl rfl)
theorem dX4_reckons_135 : decode cX4_reckons 135 = .ok (.aload_n 0, 1) := dk_42 (dk_at dksX4_reckons_5 18 rfl rfl)
theorem dX4_reckons_136 : decode cX4_reckons 136 = .ok (.invokevirtual 286, 3) := dk_182 1 30 (dk_at dksX4_reckons_5 19 rfl rfl)
theorem dX4_reckons_139 : decode cX4_reckons 139 = .ok (.lreturn, 1) := dk_173 (dk_at dksX4_reckons_5 22 rfl rfl)
abbrev cX4_push : ByteArray := prog_19_method_44_code
def yX4_push : MethodName := ⟨RX4, "push", "(J)V"⟩
def dkwX4_push_0 : List UInt8 := [42, 180, 0, 32, 42, 180, 1, 23, 31, 80, 42, 89, 180, 1, 23, 4, 96, 181, 1, 23, 177]
abbrev dktX4_push_0 : List UInt8 := dkwX4_push_0 ++ []
theorem dksX4_push_0 : cX4_push.data.toList.drop 0 = dktX4_push_0 := by decide +kernel
theorem dX4_push_0 : decode cX4_push 0 = .ok (.aload_n 0, 1) := dk_42 (dk_at dksX4_push_0 0 rfl rfl)
theorem dX4_push_1 : decode cX4_push 1 = .ok (.getfield 32, 3) := dk_180 0 32 (dk_at dksX4_push_0 1 rfl rfl)
theorem dX4_push_4 : decode cX4_push 4 = .ok (.aload_n 0, 1) := dk_42 (dk_at dksX4_push_0 4 rfl rfl)
theorem dX4_push_5 : decode cX4_push 5 = .ok (.getfield 279, 3) := dk_180 1 23 (dk_at dksX4_push_0 5 rfl rfl)
theorem dX4_push_8 : decode cX4_push 8 = .ok (.lload_n 1, 1) := dk_31 (dk_at dksX4_push_0 8 rfl rfl)
theorem dX4_push_9 : decode cX4_push 9 = .ok (.lastore, 1) := dk_80 (dk_at dksX4_push_0 9 rfl rfl)
theorem dX4_push_10 : decode cX4_push 10 = .ok (.aload_n 0, 1) := dk_42 (dk_at dksX4_push_0 10 rfl rfl)
theorem dX4_push_11 : decode cX4_push 11 = .ok (.dup, 1) := dk_89 (dk_at dksX4_push_0 11 rfl rfl)
theorem dX4_push_12 : decode cX4_push 12 = .ok (.getfield 279, 3) := dk_180 1 23 (dk_at dksX4_push_0 12 rfl rfl)
theorem dX4_push_15 : decode cX4_push 15 = .ok (.iconst 1, 1) := dk_4 (dk_at dksX4_push_0 15 rfl rfl)
theorem dX4_push_16 : decode cX4_push 16 = .ok (.iadd, 1) := dk_96 (dk_at dksX4_push_0 16 rfl rfl)
theorem dX4_push_17 : decode cX4_push 17 = .ok (.putfield 279, 3) := dk_181 1 23 (dk_at dksX4_push_0 17 rfl rfl)
theorem dX4_push_20 : decode cX4_push 20 = .ok (.return_, 1) := dk_177 (dk_at dksX4_push_0 20 rfl rfl)
abbrev cX4_pop : ByteArray := prog_19_method_45_code
def yX4_pop : MethodName := ⟨RX4, "pop", "()J"⟩
def dkwX4_pop_0 : List UInt8 := [42, 89, 180, 1, 23, 4, 100, 181, 1, 23, 42, 180, 0, 32, 42, 180, 1, 23, 47, 173]
abbrev dktX4_pop_0 : List UInt8 := dkwX4_pop_0 ++ []
theorem dksX4_pop_0 : cX4_pop.data.toList.drop 0 = dktX4_pop_0 := by decide +kernel
theorem dX4_pop_0 : decode cX4_pop 0 = .ok (.aload_n 0, 1) := dk_42 (dk_at dksX4_pop_0 0 rfl rfl)
theorem dX4_pop_1 : decode cX4_pop 1 = .ok (.dup, 1) := dk_89 (dk_at dksX4_pop_0 1 rfl rfl)
theorem dX4_pop_2 : decode cX4_pop 2 = .ok (.getfield 279, 3) := dk_180 1 23 (dk_at dksX4_pop_0 2 rfl rfl)
theorem dX4_pop_5 : decode cX4_pop 5 = .ok (.iconst 1, 1) := dk_4 (dk_at dksX4_pop_0 5 rfl rfl)
theorem dX4_pop_6 : decode cX4_pop 6 = .ok (.isub, 1) := dk_100 (dk_at dksX4_pop_0 6 rfl rfl)
theorem dX4_pop_7 : decode cX4_pop 7 = .ok (.putfield 279, 3) := dk_181 1 23 (dk_at dksX4_pop_0 7 rfl rfl)
theorem dX4_pop_10 : decode cX4_pop 10 = .ok (.aload_n 0, 1) := dk_42 (dk_at dksX4_pop_0 10 rfl rfl)
theorem dX4_pop_11 : decode cX4_pop 11 = .ok (.getfield 32, 3) := dk_180 0 32 (dk_at dksX4_pop_0 11 rfl rfl)
theorem dX4_pop_14 : decode cX4_pop 14 = .ok (.aload_n 0, 1) := dk_42 (dk_at dksX4_pop_0 14 rfl rfl)
theorem dX4_pop_15 : decode cX4_pop 15 = .ok (.getfield 279, 3) := dk_180 1 23 (dk_at dksX4_pop_0 15 rfl rfl)
theorem dX4_pop_18 : decode cX4_pop 18 = .ok (.laload, 1) := dk_47 (dk_at dksX4_pop_0 18 rfl rfl)
theorem dX4_pop_19 : decode cX4_pop 19 = .ok (.lreturn, 1) := dk_173 (dk_at dksX4_pop_0 19 rfl rfl)
abbrev cX4_one : ByteArray := prog_19_method_46_code
def yX4_one : MethodName := ⟨RX4, "one", "(IJJ)J"⟩
def dkwX4_one_6 : List UInt8 := [167, 0, 4, 9, 173, 31, 33, 127, 173, 31, 33, 129, 173]
abbrev dktX4_one_6 : List UInt8 := dkwX4_one_6 ++ []
def dkwX4_one_5 : List UInt8 := [167, 0, 4, 9, 173, 31, 33, 148, 155, 0, 7, 10, 167, 0, 4, 9, 173, 31, 33, 148, 158, 0, 7, 10]
abbrev dktX4_one_5 : List UInt8 := dkwX4_one_5 ++ dktX4_one_6
def dkwX4_one_4 : List UInt8 := [167, 0, 4, 9, 173, 31, 33, 148, 157, 0, 7, 10, 167, 0, 4, 9, 173, 31, 33, 148, 154, 0, 7, 10]
abbrev dktX4_one_4 : List UInt8 := dkwX4_one_4 ++ dktX4_one_5
def dkwX4_one_3 : List UInt8 := [109, 173, 33, 9, 148, 154, 0, 7, 9, 167, 0, 6, 31, 33, 113, 173, 31, 33, 148, 156, 0, 7, 10]
abbrev dktX4_one_3 : List UInt8 := dkwX4_one_3 ++ dktX4_one_4
def dkwX4_one_2 : List UInt8 := [31, 33, 97, 173, 31, 33, 101, 173, 31, 33, 105, 173, 33, 9, 148, 154, 0, 7, 9, 167, 0, 6, 31, 33]
abbrev dktX4_one_2 : List UInt8 := dkwX4_one_2 ++ dktX4_one_3
def dkwX4_one_1 : List UInt8 := [170, 0, 0, 0, 0, 0, 171, 0, 0, 0, 2, 0, 0, 0, 14, 0, 0, 0, 67, 0, 0, 0, 71, 0, 0, 0, 75, 0, 0, 0, 79, 0, 0, 0, 107, 0, 0, 0, 119, 0, 0, 0, 131, 0, 0, 0, 143, 0, 0, 0, 155, 0, 0, 0, 171, 0, 0, 0, 167, 0, 0, 0, 171, 0, 0, 0, 93]
abbrev dktX4_one_1 : List UInt8 := dkwX4_one_1 ++ dktX4_one_2
def dkwX4_one_0 : List UInt8 := [26]
abbrev dktX4_one_0 : List UInt8 := dkwX4_one_0 ++ dktX4_one_1
theorem dksX4_one_0 : cX4_one.data.toList.drop 0 = dktX4_one_0 := by decide +kernel
theorem dksX4_one_1 : cX4_one.data.toList.drop 1 = dktX4_one_1 := dk_seg dksX4_one_0 1 rfl rfl
theorem dksX4_one_2 : cX4_one.data.toList.drop 68 = dktX4_one_2 := dk_seg dksX4_one_1 67 rfl rfl
theorem dksX4_one_3 : cX4_one.data.toList.drop 92 = dktX4_one_3 := dk_seg dksX4_one_2 24 rfl rfl
theorem dksX4_one_4 : cX4_one.data.toList.drop 115 = dktX4_one_4 := dk_seg dksX4_one_3 23 rfl rfl
theorem dksX4_one_5 : cX4_one.data.toList.drop 139 = dktX4_one_5 := dk_seg dksX4_one_4 24 rfl rfl
theorem dksX4_one_6 : cX4_one.data.toList.drop 163 = dktX4_one_6 := dk_seg dksX4_one_5 24 rfl rfl
theorem dX4_one_0 : decode cX4_one 0 = .ok (.iload_n 0, 1) := dk_26 (dk_at dksX4_one_0 0 rfl rfl)
theorem dX4_one_1 : decode cX4_one 1 = .ok (.tableswitch 171 2 14 #[67, 71, 75, 79, 107, 119, 131, 143, 155, 171, 167, 171, 93], 67) := by decide +kernel
theorem dX4_one_68 : decode cX4_one 68 = .ok (.lload_n 1, 1) := dk_31 (dk_at dksX4_one_2 0 rfl rfl)
theorem dX4_one_69 : decode cX4_one 69 = .ok (.lload_n 3, 1) := dk_33 (dk_at dksX4_one_2 1 rfl rfl)
theorem dX4_one_70 : decode cX4_one 70 = .ok (.ladd, 1) := dk_97 (dk_at dksX4_one_2 2 rfl rfl)
theorem dX4_one_71 : decode cX4_one 71 = .ok (.lreturn, 1) := dk_173 (dk_at dksX4_one_2 3 rfl rfl)
theorem dX4_one_72 : decode cX4_one 72 = .ok (.lload_n 1, 1) := dk_31 (dk_at dksX4_one_2 4 rfl rfl)
theorem dX4_one_73 : decode cX4_one 73 = .ok (.lload_n 3, 1) := dk_33 (dk_at dksX4_one_2 5 rfl rfl)
theorem dX4_one_74 : decode cX4_one 74 = .ok (.lsub, 1) := dk_101 (dk_at dksX4_one_2 6 rfl rfl)
theorem dX4_one_75 : decode cX4_one 75 = .ok (.lreturn, 1) := dk_173 (dk_at dksX4_one_2 7 rfl rfl)
theorem dX4_one_76 : decode cX4_one 76 = .ok (.lload_n 1, 1) := dk_31 (dk_at dksX4_one_2 8 rfl rfl)
theorem dX4_one_77 : decode cX4_one 77 = .ok (.lload_n 3, 1) := dk_33 (dk_at dksX4_one_2 9 rfl rfl)
theorem dX4_one_78 : decode cX4_one 78 = .ok (.lmul, 1) := dk_105 (dk_at dksX4_one_2 10 rfl rfl)
theorem dX4_one_79 : decode cX4_one 79 = .ok (.lreturn, 1) := dk_173 (dk_at dksX4_one_2 11 rfl rfl)
theorem dX4_one_80 : decode cX4_one 80 = .ok (.lload_n 3, 1) := dk_33 (dk_at dksX4_one_2 12 rfl rfl)
theorem dX4_one_81 : decode cX4_one 81 = .ok (.lconst 0, 1) := dk_9 (dk_at dksX4_one_2 13 rfl rfl)
theorem dX4_one_82 : decode cX4_one 82 = .ok (.lcmp, 1) := dk_148 (dk_at dksX4_one_2 14 rfl rfl)
theorem dX4_one_83 : decode cX4_one 83 = .ok (.ifCond .ne 7, 3) := dk_154 0 7 (dk_at dksX4_one_2 15 rfl rfl)
theorem dX4_one_86 : decode cX4_one 86 = .ok (.lconst 0, 1) := dk_9 (dk_at dksX4_one_2 18 rfl rfl)
theorem dX4_one_87 : decode cX4_one 87 = .ok (.goto 6, 3) := dk_167 0 6 (dk_at dksX4_one_2 19 rfl rfl)
theorem dX4_one_90 : decode cX4_one 90 = .ok (.lload_n 1, 1) := dk_31 (dk_at dksX4_one_2 22 rfl rfl)
theorem dX4_one_91 : decode cX4_one 91 = .ok (.lload_n 3, 1) := dk_33 (dk_at dksX4_one_2 23 rfl rfl)
theorem dX4_one_92 : decode cX4_one 92 = .ok (.ldiv, 1) := dk_109 (dk_at dksX4_one_3 0 rfl rfl)
theorem dX4_one_93 : decode cX4_one 93 = .ok (.lreturn, 1) := dk_173 (dk_at dksX4_one_3 1 rfl rfl)
theorem dX4_one_94 : decode cX4_one 94 = .ok (.lload_n 3, 1) := dk_33 (dk_at dksX4_one_3 2 rfl rfl)
theorem dX4_one_95 : decode cX4_one 95 = .ok (.lconst 0, 1) := dk_9 (dk_at dksX4_one_3 3 rfl rfl)
theorem dX4_one_96 : decode cX4_one 96 = .ok (.lcmp, 1) := dk_148 (dk_at dksX4_one_3 4 rfl rfl)
theorem dX4_one_97 : decode cX4_one 97 = .ok (.ifCond .ne 7, 3) := dk_154 0 7 (dk_at dksX4_one_3 5 rfl rfl)
theorem dX4_one_100 : decode cX4_one 100 = .ok (.lconst 0, 1) := dk_9 (dk_at dksX4_one_3 8 rfl rfl)
theorem dX4_one_101 : decode cX4_one 101 = .ok (.goto 6, 3) := dk_167 0 6 (dk_at dksX4_one_3 9 rfl rfl)
theorem dX4_one_104 : decode cX4_one 104 = .ok (.lload_n 1, 1) := dk_31 (dk_at dksX4_one_3 12 rfl rfl)
theorem dX4_one_105 : decode cX4_one 105 = .ok (.lload_n 3, 1) := dk_33 (dk_at dksX4_one_3 13 rfl rfl)
theorem dX4_one_106 : decode cX4_one 106 = .ok (.lrem, 1) := dk_113 (dk_at dksX4_one_3 14 rfl rfl)
theorem dX4_one_107 : decode cX4_one 107 = .ok (.lreturn, 1) := dk_173 (dk_at dksX4_one_3 15 rfl rfl)
theorem dX4_one_108 : decode cX4_one 108 = .ok (.lload_n 1, 1) := dk_31 (dk_at dksX4_one_3 16 rfl rfl)
theorem dX4_one_109 : decode cX4_one 109 = .ok (.lload_n 3, 1) := dk_33 (dk_at dksX4_one_3 17 rfl rfl)
theorem dX4_one_110 : decode cX4_one 110 = .ok (.lcmp, 1) := dk_148 (dk_at dksX4_one_3 18 rfl rfl)
theorem dX4_one_111 : decode cX4_one 111 = .ok (.ifCond .ge 7, 3) := dk_156 0 7 (dk_at dksX4_one_3 19 rfl rfl)
theorem dX4_one_114 : decode cX4_one 114 = .ok (.lconst 1, 1) := dk_10 (dk_at dksX4_one_3 22 rfl rfl)
theorem dX4_one_115 : decode cX4_one 115 = .ok (.goto 4, 3) := dk_167 0 4 (dk_at dksX4_one_4 0 rfl rfl)
theorem dX4_one_118 : decode cX4_one 118 = .ok (.lconst 0, 1) := dk_9 (dk_at dksX4_one_4 3 rfl rfl)
theorem dX4_one_119 : decode cX4_one 119 = .ok (.lreturn, 1) := dk_173 (dk_at dksX4_one_4 4 rfl rfl)
theorem dX4_one_120 : decode cX4_one 120 = .ok (.lload_n 1, 1) := dk_31 (dk_at dksX4_one_4 5 rfl rfl)
theorem dX4_one_121 : decode cX4_one 121 = .ok (.lload_n 3, 1) := dk_33 (dk_at dksX4_one_4 6 rfl rfl)
theorem dX4_one_122 : decode cX4_one 122 = .ok (.lcmp, 1) := dk_148 (dk_at dksX4_one_4 7 rfl rfl)
theorem dX4_one_123 : decode cX4_one 123 = .ok (.ifCond .gt 7, 3) := dk_157 0 7 (dk_at dksX4_one_4 8 rfl rfl)
theorem dX4_one_126 : decode cX4_one 126 = .ok (.lconst 1, 1) := dk_10 (dk_at dksX4_one_4 11 rfl rfl)
theorem dX4_one_127 : decode cX4_one 127 = .ok (.goto 4, 3) := dk_167 0 4 (dk_at dksX4_one_4 12 rfl rfl)
theorem dX4_one_130 : decode cX4_one 130 = .ok (.lconst 0, 1) := dk_9 (dk_at dksX4_one_4 15 rfl rfl)
theorem dX4_one_131 : decode cX4_one 131 = .ok (.lreturn, 1) := dk_173 (dk_at dksX4_one_4 16 rfl rfl)
theorem dX4_one_132 : decode cX4_one 132 = .ok (.lload_n 1, 1) := dk_31 (dk_at dksX4_one_4 17 rfl rfl)
theorem dX4_one_133 : decode cX4_one 133 = .ok (.lload_n 3, 1) := dk_33 (dk_at dksX4_one_4 18 rfl rfl)
theorem dX4_one_134 : decode cX4_one 134 = .ok (.lcmp, 1) := dk_148 (dk_at dksX4_one_4 19 rfl rfl)
theorem dX4_one_135 : decode cX4_one 135 = .ok (.ifCond .ne 7, 3) := dk_154 0 7 (dk_at dksX4_one_4 20 rfl rfl)
theorem dX4_one_138 : decode cX4_one 138 = .ok (.lconst 1, 1) := dk_10 (dk_at dksX4_one_4 23 rfl rfl)
theorem dX4_one_139 : decode cX4_one 139 = .ok (.goto 4, 3) := dk_167 0 4 (dk_at dksX4_one_5 0 rfl rfl)
theorem dX4_one_142 : decode cX4_one 142 = .ok (.lconst 0, 1) := dk_9 (dk_at dksX4_one_5 3 rfl rfl)
theorem dX4_one_143 : decode cX4_one 143 = .ok (.lreturn, 1) := dk_173 (dk_at dksX4_one_5 4 rfl rfl)
theorem dX4_one_144 : decode cX4_one 144 = .ok (.lload_n 1, 1) := dk_31 (dk_at dksX4_one_5 5 rfl rfl)
theorem dX4_one_145 : decode cX4_one 145 = .ok (.lload_n 3, 1) := dk_33 (dk_at dksX4_one_5 6 rfl rfl)
theorem dX4_one_146 : decode cX4_one 146 = .ok (.lcmp, 1) := dk_148 (dk_at dksX4_one_5 7 rfl rfl)
theorem dX4_one_147 : decode cX4_one 147 = .ok (.ifCond .lt 7, 3) := dk_155 0 7 (dk_at dksX4_one_5 8 rfl rfl)
theorem dX4_one_150 : decode cX4_one 150 = .ok (.lconst 1, 1) := dk_10 (dk_at dksX4_one_5 11 rfl rfl)
theorem dX4_one_151 : decode cX4_one 151 = .ok (.goto 4, 3) := dk_167 0 4 (dk_at dksX4_one_5 12 rfl rfl)
theorem dX4_one_154 : decode cX4_one 154 = .ok (.lconst 0, 1) := dk_9 (dk_at dksX4_one_5 15 rfl rfl)
theorem dX4_one_155 : decode cX4_one 155 = .ok (.lreturn, 1) := dk_173 (dk_at dksX4_one_5 16 rfl rfl)
theorem dX4_one_156 : decode cX4_one 156 = .ok (.lload_n 1, 1) := dk_31 (dk_at dksX4_one_5 17 rfl rfl)
theorem dX4_one_157 : decode cX4_one 157 = .ok (.lload_n 3, 1) := dk_33 (dk_at dksX4_one_5 18 rfl rfl)
theorem dX4_one_158 : decode cX4_one 158 = .ok (.lcmp, 1) := dk_148 (dk_at dksX4_one_5 19 rfl rfl)
theorem dX4_one_159 : decode cX4_one 159 = .ok (.ifCond .le 7, 3) := dk_158 0 7 (dk_at dksX4_one_5 20 rfl rfl)
theorem dX4_one_162 : decode cX4_one 162 = .ok (.lconst 1, 1) := dk_10 (dk_at dksX4_one_5 23 rfl rfl)
theorem dX4_one_163 : decode cX4_one 163 = .ok (.goto 4, 3) := dk_167 0 4 (dk_at dksX4_one_6 0 rfl rfl)
theorem dX4_one_166 : decode cX4_one 166 = .ok (.lconst 0, 1) := dk_9 (dk_at dksX4_one_6 3 rfl rfl)
theorem dX4_one_167 : decode cX4_one 167 = .ok (.lreturn, 1) := dk_173 (dk_at dksX4_one_6 4 rfl rfl)
theorem dX4_one_168 : decode cX4_one 168 = .ok (.lload_n 1, 1) := dk_31 (dk_at dksX4_one_6 5 rfl rfl)
theorem dX4_one_169 : decode cX4_one 169 = .ok (.lload_n 3, 1) := dk_33 (dk_at dksX4_one_6 6 rfl rfl)
theorem dX4_one_170 : decode cX4_one 170 = .ok (.land, 1) := dk_127 (dk_at dksX4_one_6 7 rfl rfl)
theorem dX4_one_171 : decode cX4_one 171 = .ok (.lreturn, 1) := dk_173 (dk_at dksX4_one_6 8 rfl rfl)
theorem dX4_one_172 : decode cX4_one 172 = .ok (.lload_n 1, 1) := dk_31 (dk_at dksX4_one_6 9 rfl rfl)
theorem dX4_one_173 : decode cX4_one 173 = .ok (.lload_n 3, 1) := dk_33 (dk_at dksX4_one_6 10 rfl rfl)
theorem dX4_one_174 : decode cX4_one 174 = .ok (.lor, 1) := dk_129 (dk_at dksX4_one_6 11 rfl rfl)
theorem dX4_one_175 : decode cX4_one 175 = .ok (.lreturn, 1) := dk_173 (dk_at dksX4_one_6 12 rfl rfl)
abbrev cX4_nextOfRow : ByteArray := prog_19_method_67_code
def yX4_nextOfRow : MethodName := ⟨RX4, "nextOfRow", "()I"⟩
def dkwX4_nextOfRow_2 : List UInt8 := [155, 0, 5, 27, 172, 167, 255, 206, 2, 172]
abbrev dktX4_nextOfRow_2 : List UInt8 := dkwX4_nextOfRow_2 ++ []
def dkwX4_nextOfRow_1 : List UInt8 := [180, 1, 89, 4, 96, 181, 1, 89, 42, 42, 180, 0, 39, 16, 11, 46, 27, 4, 96, 182, 1, 50]
abbrev dktX4_nextOfRow_1 : List UInt8 := dkwX4_nextOfRow_1 ++ dktX4_nextOfRow_2
def dkwX4_nextOfRow_0 : List UInt8 := [42, 180, 1, 89, 42, 180, 0, 49, 162, 0, 45, 42, 180, 0, 46, 42, 180, 1, 89, 46, 60, 42, 89]
abbrev dktX4_nextOfRow_0 : List UInt8 := dkwX4_nextOfRow_0 ++ dktX4_nextOfRow_1
theorem dksX4_nextOfRow_0 : cX4_nextOfRow.data.toList.drop 0 = dktX4_nextOfRow_0 := by decide +kernel
theorem dksX4_nextOfRow_1 : cX4_nextOfRow.data.toList.drop 23 = dktX4_nextOfRow_1 := dk_seg dksX4_nextOfRow_0 23 rfl rfl
theorem dksX4_nextOfRow_2 : cX4_nextOfRow.data.toList.drop 45 = dktX4_nextOfRow_2 := dk_seg dksX4_nextOfRow_1 22 rfl rfl
theorem dX4_nextOfRow_0 : decode cX4_nextOfRow 0 = .ok (.aload_n 0, 1) := dk_42 (dk_at dksX4_nextOfRow_0 0 rfl rfl)
theorem dX4_nextOfRow_1 : decode cX4_nextOfRow 1 = .ok (.getfield 345, 3) := dk_180 1 89 (dk_at dksX4_nextOfRow_0 1 rfl rfl)
theorem dX4_nextOfRow_4 : decode cX4_nextOfRow 4 = .ok (.aload_n 0, 1) := dk_42 (dk_at dksX4_nextOfRow_0 4 rfl rfl)
theorem dX4_nextOfRow_5 : decode cX4_nextOfRow 5 = .ok (.getfield 49, 3) := dk_180 0 49 (dk_at dksX4_nextOfRow_0 5 rfl rfl)
theorem dX4_nextOfRow_8 : decode cX4_nextOfRow 8 = .ok (.if_icmp .ge 45, 3) := dk_162 0 45 (dk_at dksX4_nextOfRow_0 8 rfl rfl)
theorem dX4_nextOfRow_11 : decode cX4_nextOfRow 11 = .ok (.aload_n 0, 1) := dk_42 (dk_at dksX4_nextOfRow_0 11 rfl rfl)
theorem dX4_nextOfRow_12 : decode cX4_nextOfRow 12 = .ok (.getfield 46, 3) := dk_180 0 46 (dk_at dksX4_nextOfRow_0 12 rfl rfl)
theorem dX4_nextOfRow_15 : decode cX4_nextOfRow 15 = .ok (.aload_n 0, 1) := dk_42 (dk_at dksX4_nextOfRow_0 15 rfl rfl)
theorem dX4_nextOfRow_16 : decode cX4_nextOfRow 16 = .ok (.getfield 345, 3) := dk_180 1 89 (dk_at dksX4_nextOfRow_0 16 rfl rfl)
theorem dX4_nextOfRow_19 : decode cX4_nextOfRow 19 = .ok (.iaload, 1) := dk_46 (dk_at dksX4_nextOfRow_0 19 rfl rfl)
theorem dX4_nextOfRow_20 : decode cX4_nextOfRow 20 = .ok (.istore_n 1, 1) := dk_60 (dk_at dksX4_nextOfRow_0 20 rfl rfl)
theorem dX4_nextOfRow_21 : decode cX4_nextOfRow 21 = .ok (.aload_n 0, 1) := dk_42 (dk_at dksX4_nextOfRow_0 21 rfl rfl)
theorem dX4_nextOfRow_22 : decode cX4_nextOfRow 22 = .ok (.dup, 1) := dk_89 (dk_at dksX4_nextOfRow_0 22 rfl rfl)
theorem dX4_nextOfRow_23 : decode cX4_nextOfRow 23 = .ok (.getfield 345, 3) := dk_180 1 89 (dk_at dksX4_nextOfRow_1 0 rfl rfl)
theorem dX4_nextOfRow_26 : decode cX4_nextOfRow 26 = .ok (.iconst 1, 1) := dk_4 (dk_at dksX4_nextOfRow_1 3 rfl rfl)
theorem dX4_nextOfRow_27 : decode cX4_nextOfRow 27 = .ok (.iadd, 1) := dk_96 (dk_at dksX4_nextOfRow_1 4 rfl rfl)
theorem dX4_nextOfRow_28 : decode cX4_nextOfRow 28 = .ok (.putfield 345, 3) := dk_181 1 89 (dk_at dksX4_nextOfRow_1 5 rfl rfl)
theorem dX4_nextOfRow_31 : decode cX4_nextOfRow 31 = .ok (.aload_n 0, 1) := dk_42 (dk_at dksX4_nextOfRow_1 8 rfl rfl)
theorem dX4_nextOfRow_32 : decode cX4_nextOfRow 32 = .ok (.aload_n 0, 1) := dk_42 (dk_at dksX4_nextOfRow_1 9 rfl rfl)
theorem dX4_nextOfRow_33 : decode cX4_nextOfRow 33 = .ok (.getfield 39, 3) := dk_180 0 39 (dk_at dksX4_nextOfRow_1 10 rfl rfl)
theorem dX4_nextOfRow_36 : decode cX4_nextOfRow 36 = .ok (.bipush 11, 2) := dk_16 11 (dk_at dksX4_nextOfRow_1 13 rfl rfl)
theorem dX4_nextOfRow_38 : decode cX4_nextOfRow 38 = .ok (.iaload, 1) := dk_46 (dk_at dksX4_nextOfRow_1 15 rfl rfl)
theorem dX4_nextOfRow_39 : decode cX4_nextOfRow 39 = .ok (.iload_n 1, 1) := dk_27 (dk_at dksX4_nextOfRow_1 16 rfl rfl)
theorem dX4_nextOfRow_40 : decode cX4_nextOfRow 40 = .ok (.iconst 1, 1) := dk_4 (dk_at dksX4_nextOfRow_1 17 rfl rfl)
theorem dX4_nextOfRow_41 : decode cX4_nextOfRow 41 = .ok (.iadd, 1) := dk_96 (dk_at dksX4_nextOfRow_1 18 rfl rfl)
theorem dX4_nextOfRow_42 : decode cX4_nextOfRow 42 = .ok (.invokevirtual 306, 3) := dk_182 1 50 (dk_at dksX4_nextOfRow_1 19 rfl rfl)
theorem dX4_nextOfRow_45 : decode cX4_nextOfRow 45 = .ok (.ifCond .lt 5, 3) := dk_155 0 5 (dk_at dksX4_nextOfRow_2 0 rfl rfl)
theorem dX4_nextOfRow_48 : decode cX4_nextOfRow 48 = .ok (.iload_n 1, 1) := dk_27 (dk_at dksX4_nextOfRow_2 3 rfl rfl)
theorem dX4_nextOfRow_49 : decode cX4_nextOfRow 49 = .ok (.ireturn, 1) := dk_172 (dk_at dksX4_nextOfRow_2 4 rfl rfl)
theorem dX4_nextOfRow_50 : decode cX4_nextOfRow 50 = .ok (.goto (-50), 3) := dk_167 255 206 (dk_at dksX4_nextOfRow_2 5 rfl rfl)
theorem dX4_nextOfRow_53 : decode cX4_nextOfRow 53 = .ok (.iconst (-1), 1) := dk_2 (dk_at dksX4_nextOfRow_2 8 rfl rfl)
theorem dX4_nextOfRow_54 : decode cX4_nextOfRow 54 = .ok (.ireturn, 1) := dk_172 (dk_at dksX4_nextOfRow_2 9 rfl rfl)
abbrev cX4_sends : ByteArray := prog_19_method_70_code
def yX4_sends : MethodName := ⟨RX4, "sends", "(I)V"⟩
def dkwX4_sends_2 : List UInt8 := [79, 177]
abbrev dktX4_sends_2 : List UInt8 := dkwX4_sends_2 ++ []
def dkwX4_sends_1 : List UInt8 := [27, 4, 96, 79, 42, 180, 0, 39, 16, 13, 42, 42, 180, 0, 39, 16, 11, 46, 27, 4, 96, 182, 1, 50]
abbrev dktX4_sends_1 : List UInt8 := dkwX4_sends_1 ++ dktX4_sends_2
def dkwX4_sends_0 : List UInt8 := [27, 155, 0, 16, 27, 4, 96, 42, 180, 0, 39, 16, 11, 46, 160, 0, 4, 177, 42, 180, 0, 39, 16, 12]
abbrev dktX4_sends_0 : List UInt8 := dkwX4_sends_0 ++ dktX4_sends_1
theorem dksX4_sends_0 : cX4_sends.data.toList.drop 0 = dktX4_sends_0 := by decide +kernel
theorem dksX4_sends_1 : cX4_sends.data.toList.drop 24 = dktX4_sends_1 := dk_seg dksX4_sends_0 24 rfl rfl
theorem dksX4_sends_2 : cX4_sends.data.toList.drop 48 = dktX4_sends_2 := dk_seg dksX4_sends_1 24 rfl rfl
theorem dX4_sends_0 : decode cX4_sends 0 = .ok (.iload_n 1, 1) := dk_27 (dk_at dksX4_sends_0 0 rfl rfl)
theorem dX4_sends_1 : decode cX4_sends 1 = .ok (.ifCond .lt 16, 3) := dk_155 0 16 (dk_at dksX4_sends_0 1 rfl rfl)
theorem dX4_sends_4 : decode cX4_sends 4 = .ok (.iload_n 1, 1) := dk_27 (dk_at dksX4_sends_0 4 rfl rfl)
theorem dX4_sends_5 : decode cX4_sends 5 = .ok (.iconst 1, 1) := dk_4 (dk_at dksX4_sends_0 5 rfl rfl)
theorem dX4_sends_6 : decode cX4_sends 6 = .ok (.iadd, 1) := dk_96 (dk_at dksX4_sends_0 6 rfl rfl)
theorem dX4_sends_7 : decode cX4_sends 7 = .ok (.aload_n 0, 1) := dk_42 (dk_at dksX4_sends_0 7 rfl rfl)
theorem dX4_sends_8 : decode cX4_sends 8 = .ok (.getfield 39, 3) := dk_180 0 39 (dk_at dksX4_sends_0 8 rfl rfl)
theorem dX4_sends_11 : decode cX4_sends 11 = .ok (.bipush 11, 2) := dk_16 11 (dk_at dksX4_sends_0 11 rfl rfl)
theorem dX4_sends_13 : decode cX4_sends 13 = .ok (.iaload, 1) := dk_46 (dk_at dksX4_sends_0 13 rfl rfl)
theorem dX4_sends_14 : decode cX4_sends 14 = .ok (.if_icmp .ne 4, 3) := dk_160 0 4 (dk_at dksX4_sends_0 14 rfl rfl)
theorem dX4_sends_17 : decode cX4_sends 17 = .ok (.return_, 1) := dk_177 (dk_at dksX4_sends_0 17 rfl rfl)
theorem dX4_sends_18 : decode cX4_sends 18 = .ok (.aload_n 0, 1) := dk_42 (dk_at dksX4_sends_0 18 rfl rfl)
theorem dX4_sends_19 : decode cX4_sends 19 = .ok (.getfield 39, 3) := dk_180 0 39 (dk_at dksX4_sends_0 19 rfl rfl)
theorem dX4_sends_22 : decode cX4_sends 22 = .ok (.bipush 12, 2) := dk_16 12 (dk_at dksX4_sends_0 22 rfl rfl)
theorem dX4_sends_24 : decode cX4_sends 24 = .ok (.iload_n 1, 1) := dk_27 (dk_at dksX4_sends_1 0 rfl rfl)
theorem dX4_sends_25 : decode cX4_sends 25 = .ok (.iconst 1, 1) := dk_4 (dk_at dksX4_sends_1 1 rfl rfl)
theorem dX4_sends_26 : decode cX4_sends 26 = .ok (.iadd, 1) := dk_96 (dk_at dksX4_sends_1 2 rfl rfl)
theorem dX4_sends_27 : decode cX4_sends 27 = .ok (.iastore, 1) := dk_79 (dk_at dksX4_sends_1 3 rfl rfl)
theorem dX4_sends_28 : decode cX4_sends 28 = .ok (.aload_n 0, 1) := dk_42 (dk_at dksX4_sends_1 4 rfl rfl)
theorem dX4_sends_29 : decode cX4_sends 29 = .ok (.getfield 39, 3) := dk_180 0 39 (dk_at dksX4_sends_1 5 rfl rfl)
theorem dX4_sends_32 : decode cX4_sends 32 = .ok (.bipush 13, 2) := dk_16 13 (dk_at dksX4_sends_1 8 rfl rfl)
theorem dX4_sends_34 : decode cX4_sends 34 = .ok (.aload_n 0, 1) := dk_42 (dk_at dksX4_sends_1 10 rfl rfl)
theorem dX4_sends_35 : decode cX4_sends 35 = .ok (.aload_n 0, 1) := dk_42 (dk_at dksX4_sends_1 11 rfl rfl)
theorem dX4_sends_36 : decode cX4_sends 36 = .ok (.getfield 39, 3) := dk_180 0 39 (dk_at dksX4_sends_1 12 rfl rfl)
theorem dX4_sends_39 : decode cX4_sends 39 = .ok (.bipush 11, 2) := dk_16 11 (dk_at dksX4_sends_1 15 rfl rfl)
theorem dX4_sends_41 : decode cX4_sends 41 = .ok (.iaload, 1) := dk_46 (dk_at dksX4_sends_1 17 rfl rfl)
theorem dX4_sends_42 : decode cX4_sends 42 = .ok (.iload_n 1, 1) := dk_27 (dk_at dksX4_sends_1 18 rfl rfl)
theorem dX4_sends_43 : decode cX4_sends 43 = .ok (.iconst 1, 1) := dk_4 (dk_at dksX4_sends_1 19 rfl rfl)
theorem dX4_sends_44 : decode cX4_sends 44 = .ok (.iadd, 1) := dk_96 (dk_at dksX4_sends_1 20 rfl rfl)
theorem dX4_sends_45 : decode cX4_sends 45 = .ok (.invokevirtual 306, 3) := dk_182 1 50 (dk_at dksX4_sends_1 21 rfl rfl)
theorem dX4_sends_48 : decode cX4_sends 48 = .ok (.iastore, 1) := dk_79 (dk_at dksX4_sends_2 0 rfl rfl)
theorem dX4_sends_49 : decode cX4_sends 49 = .ok (.return_, 1) := dk_177 (dk_at dksX4_sends_2 1 rfl rfl)
abbrev cX4_comes : ByteArray := prog_19_method_72_code
def yX4_comes : MethodName := ⟨RX4, "comes", "()I"⟩
def dkwX4_comes_3 : List UInt8 := [79, 27, 172]
abbrev dktX4_comes_3 : List UInt8 := dkwX4_comes_3 ++ []
def dkwX4_comes_2 : List UInt8 := [46, 100, 61, 42, 180, 0, 39, 16, 14, 7, 27, 104, 96, 4, 96, 28, 156, 0, 7, 3, 167, 0, 4, 28]
abbrev dktX4_comes_2 : List UInt8 := dkwX4_comes_2 ++ dktX4_comes_3
def dkwX4_comes_1 : List UInt8 := [46, 4, 96, 79, 42, 27, 182, 1, 38, 154, 0, 5, 2, 172, 42, 27, 182, 1, 38, 42, 180, 0, 39, 4]
abbrev dktX4_comes_1 : List UInt8 := dkwX4_comes_1 ++ dktX4_comes_2
def dkwX4_comes_0 : List UInt8 := [42, 182, 1, 95, 60, 27, 156, 0, 5, 2, 172, 42, 180, 0, 39, 16, 14, 7, 27, 104, 96, 6, 96, 92]
abbrev dktX4_comes_0 : List UInt8 := dkwX4_comes_0 ++ dktX4_comes_1
theorem dksX4_comes_0 : cX4_comes.data.toList.drop 0 = dktX4_comes_0 := by decide +kernel
theorem dksX4_comes_1 : cX4_comes.data.toList.drop 24 = dktX4_comes_1 := dk_seg dksX4_comes_0 24 rfl rfl
theorem dksX4_comes_2 : cX4_comes.data.toList.drop 48 = dktX4_comes_2 := dk_seg dksX4_comes_1 24 rfl rfl
theorem dksX4_comes_3 : cX4_comes.data.toList.drop 72 = dktX4_comes_3 := dk_seg dksX4_comes_2 24 rfl rfl
theorem dX4_comes_0 : decode cX4_comes 0 = .ok (.aload_n 0, 1) := dk_42 (dk_at dksX4_comes_0 0 rfl rfl)
theorem dX4_comes_1 : decode cX4_comes 1 = .ok (.invokevirtual 351, 3) := dk_182 1 95 (dk_at dksX4_comes_0 1 rfl rfl)
theorem dX4_comes_4 : decode cX4_comes 4 = .ok (.istore_n 1, 1) := dk_60 (dk_at dksX4_comes_0 4 rfl rfl)
theorem dX4_comes_5 : decode cX4_comes 5 = .ok (.iload_n 1, 1) := dk_27 (dk_at dksX4_comes_0 5 rfl rfl)
theorem dX4_comes_6 : decode cX4_comes 6 = .ok (.ifCond .ge 5, 3) := dk_156 0 5 (dk_at dksX4_comes_0 6 rfl rfl)
theorem dX4_comes_9 : decode cX4_comes 9 = .ok (.iconst (-1), 1) := dk_2 (dk_at dksX4_comes_0 9 rfl rfl)
theorem dX4_comes_10 : decode cX4_comes 10 = .ok (.ireturn, 1) := dk_172 (dk_at dksX4_comes_0 10 rfl rfl)
theorem dX4_comes_11 : decode cX4_comes 11 = .ok (.aload_n 0, 1) := dk_42 (dk_at dksX4_comes_0 11 rfl rfl)
theorem dX4_comes_12 : decode cX4_comes 12 = .ok (.getfield 39, 3) := dk_180 0 39 (dk_at dksX4_comes_0 12 rfl rfl)
theorem dX4_comes_15 : decode cX4_comes 15 = .ok (.bipush 14, 2) := dk_16 14 (dk_at dksX4_comes_0 15 rfl rfl)
theorem dX4_comes_17 : decode cX4_comes 17 = .ok (.iconst 4, 1) := dk_7 (dk_at dksX4_comes_0 17 rfl rfl)
theorem dX4_comes_18 : decode cX4_comes 18 = .ok (.iload_n 1, 1) := dk_27 (dk_at dksX4_comes_0 18 rfl rfl)
theorem dX4_comes_19 : decode cX4_comes 19 = .ok (.imul, 1) := dk_104 (dk_at dksX4_comes_0 19 rfl rfl)
theorem dX4_comes_20 : decode cX4_comes 20 = .ok (.iadd, 1) := dk_96 (dk_at dksX4_comes_0 20 rfl rfl)
theorem dX4_comes_21 : decode cX4_comes 21 = .ok (.iconst 3, 1) := dk_6 (dk_at dksX4_comes_0 21 rfl rfl)
theorem dX4_comes_22 : decode cX4_comes 22 = .ok (.iadd, 1) := dk_96 (dk_at dksX4_comes_0 22 rfl rfl)
theorem dX4_comes_23 : decode cX4_comes 23 = .ok (.dup2, 1) := dk_92 (dk_at dksX4_comes_0 23 rfl rfl)
theorem dX4_comes_24 : decode cX4_comes 24 = .ok (.iaload, 1) := dk_46 (dk_at dksX4_comes_1 0 rfl rfl)
theorem dX4_comes_25 : decode cX4_comes 25 = .ok (.iconst 1, 1) := dk_4 (dk_at dksX4_comes_1 1 rfl rfl)
theorem dX4_comes_26 : decode cX4_comes 26 = .ok (.iadd, 1) := dk_96 (dk_at dksX4_comes_1 2 rfl rfl)
theorem dX4_comes_27 : decode cX4_comes 27 = .ok (.iastore, 1) := dk_79 (dk_at dksX4_comes_1 3 rfl rfl)
theorem dX4_comes_28 : decode cX4_comes 28 = .ok (.aload_n 0, 1) := dk_42 (dk_at dksX4_comes_1 4 rfl rfl)
theorem dX4_comes_29 : decode cX4_comes 29 = .ok (.iload_n 1, 1) := dk_27 (dk_at dksX4_comes_1 5 rfl rfl)
theorem dX4_comes_30 : decode cX4_comes 30 = .ok (.invokevirtual 294, 3) := dk_182 1 38 (dk_at dksX4_comes_1 6 rfl rfl)
theorem dX4_comes_33 : decode cX4_comes 33 = .ok (.ifCond .ne 5, 3) := dk_154 0 5 (dk_at dksX4_comes_1 9 rfl rfl)
theorem dX4_comes_36 : decode cX4_comes 36 = .ok (.iconst (-1), 1) := dk_2 (dk_at dksX4_comes_1 12 rfl rfl)
theorem dX4_comes_37 : decode cX4_comes 37 = .ok (.ireturn, 1) := dk_172 (dk_at dksX4_comes_1 13 rfl rfl)
theorem dX4_comes_38 : decode cX4_comes 38 = .ok (.aload_n 0, 1) := dk_42 (dk_at dksX4_comes_1 14 rfl rfl)
theorem dX4_comes_39 : decode cX4_comes 39 = .ok (.iload_n 1, 1) := dk_27 (dk_at dksX4_comes_1 15 rfl rfl)
theorem dX4_comes_40 : decode cX4_comes 40 = .ok (.invokevirtual 294, 3) := dk_182 1 38 (dk_at dksX4_comes_1 16 rfl rfl)
theorem dX4_comes_43 : decode cX4_comes 43 = .ok (.aload_n 0, 1) := dk_42 (dk_at dksX4_comes_1 19 rfl rfl)
theorem dX4_comes_44 : decode cX4_comes 44 = .ok (.getfield 39, 3) := dk_180 0 39 (dk_at dksX4_comes_1 20 rfl rfl)
theorem dX4_comes_47 : decode cX4_comes 47 = .ok (.iconst 1, 1) := dk_4 (dk_at dksX4_comes_1 23 rfl rfl)
theorem dX4_comes_48 : decode cX4_comes 48 = .ok (.iaload, 1) := dk_46 (dk_at dksX4_comes_2 0 rfl rfl)
theorem dX4_comes_49 : decode cX4_comes 49 = .ok (.isub, 1) := dk_100 (dk_at dksX4_comes_2 1 rfl rfl)
theorem dX4_comes_50 : decode cX4_comes 50 = .ok (.istore_n 2, 1) := dk_61 (dk_at dksX4_comes_2 2 rfl rfl)
theorem dX4_comes_51 : decode cX4_comes 51 = .ok (.aload_n 0, 1) := dk_42 (dk_at dksX4_comes_2 3 rfl rfl)
theorem dX4_comes_52 : decode cX4_comes 52 = .ok (.getfield 39, 3) := dk_180 0 39 (dk_at dksX4_comes_2 4 rfl rfl)
theorem dX4_comes_55 : decode cX4_comes 55 = .ok (.bipush 14, 2) := dk_16 14 (dk_at dksX4_comes_2 7 rfl rfl)
theorem dX4_comes_57 : decode cX4_comes 57 = .ok (.iconst 4, 1) := dk_7 (dk_at dksX4_comes_2 9 rfl rfl)
theorem dX4_comes_58 : decode cX4_comes 58 = .ok (.iload_n 1, 1) := dk_27 (dk_at dksX4_comes_2 10 rfl rfl)
theorem dX4_comes_59 : decode cX4_comes 59 = .ok (.imul, 1) := dk_104 (dk_at dksX4_comes_2 11 rfl rfl)
theorem dX4_comes_60 : decode cX4_comes 60 = .ok (.iadd, 1) := dk_96 (dk_at dksX4_comes_2 12 rfl rfl)
theorem dX4_comes_61 : decode cX4_comes 61 = .ok (.iconst 1, 1) := dk_4 (dk_at dksX4_comes_2 13 rfl rfl)
theorem dX4_comes_62 : decode cX4_comes 62 = .ok (.iadd, 1) := dk_96 (dk_at dksX4_comes_2 14 rfl rfl)
theorem dX4_comes_63 : decode cX4_comes 63 = .ok (.iload_n 2, 1) := dk_28 (dk_at dksX4_comes_2 15 rfl rfl)
theorem dX4_comes_64 : decode cX4_comes 64 = .ok (.ifCond .ge 7, 3) := dk_156 0 7 (dk_at dksX4_comes_2 16 rfl rfl)
theorem dX4_comes_67 : decode cX4_comes 67 = .ok (.iconst 0, 1) := dk_3 (dk_at dksX4_comes_2 19 rfl rfl)
theorem dX4_comes_68 : decode cX4_comes 68 = .ok (.goto 4, 3) := dk_167 0 4 (dk_at dksX4_comes_2 20 rfl rfl)
theorem dX4_comes_71 : decode cX4_comes 71 = .ok (.iload_n 2, 1) := dk_28 (dk_at dksX4_comes_2 23 rfl rfl)
theorem dX4_comes_72 : decode cX4_comes 72 = .ok (.iastore, 1) := dk_79 (dk_at dksX4_comes_3 0 rfl rfl)
theorem dX4_comes_73 : decode cX4_comes 73 = .ok (.iload_n 1, 1) := dk_27 (dk_at dksX4_comes_3 1 rfl rfl)
theorem dX4_comes_74 : decode cX4_comes 74 = .ok (.ireturn, 1) := dk_172 (dk_at dksX4_comes_3 2 rfl rfl)
abbrev cX4_burns : ByteArray := prog_19_method_73_code
def yX4_burns : MethodName := ⟨RX4, "burns", "()V"⟩
def dkwX4_burns_8 : List UInt8 := [180, 1, 107, 126, 153, 0, 10, 42, 180, 0, 39, 28, 4, 79, 132, 1, 1, 167, 255, 155, 177]
abbrev dktX4_burns_8 : List UInt8 := dkwX4_burns_8 ++ []
def dkwX4_burns_7 : List UInt8 := [162, 0, 7, 4, 167, 0, 4, 3, 96, 79, 167, 0, 27, 42, 180, 0, 39, 16, 38, 27, 96, 46, 42]
abbrev dktX4_burns_7 : List UInt8 := dkwX4_burns_7 ++ dktX4_burns_8
def dkwX4_burns_6 : List UInt8 := [42, 180, 0, 39, 28, 46, 158, 0, 31, 42, 180, 0, 39, 28, 92, 46, 42, 180, 0, 39, 28, 46, 16, 9]
abbrev dktX4_burns_6 : List UInt8 := dkwX4_burns_6 ++ dktX4_burns_7
def dkwX4_burns_5 : List UInt8 := [27, 104, 96, 4, 96, 61, 42, 27, 182, 1, 41, 154, 0, 13, 42, 180, 0, 39, 28, 3, 79, 167, 0, 64]
abbrev dktX4_burns_5 : List UInt8 := dkwX4_burns_5 ++ dktX4_burns_6
def dkwX4_burns_4 : List UInt8 := [181, 1, 107, 132, 1, 1, 167, 255, 163, 3, 60, 27, 42, 180, 0, 39, 6, 46, 162, 0, 97, 16, 14, 7]
abbrev dktX4_burns_4 : List UInt8 := dkwX4_burns_4 ++ dktX4_burns_5
def dkwX4_burns_3 : List UInt8 := [180, 0, 39, 5, 46, 161, 0, 17, 42, 27, 182, 1, 41, 158, 0, 9, 4, 27, 120, 167, 0, 4, 3, 128]
abbrev dktX4_burns_3 : List UInt8 := dkwX4_burns_3 ++ dktX4_burns_4
def dkwX4_burns_2 : List UInt8 := [16, 14, 7, 27, 104, 96, 92, 46, 28, 100, 79, 42, 89, 180, 1, 107, 42, 27, 182, 1, 38, 42]
abbrev dktX4_burns_2 : List UInt8 := dkwX4_burns_2 ++ dktX4_burns_3
def dkwX4_burns_1 : List UInt8 := [182, 1, 41, 162, 0, 11, 42, 27, 182, 1, 38, 167, 0, 8, 42, 27, 182, 1, 41, 61, 42, 180, 0, 39]
abbrev dktX4_burns_1 : List UInt8 := dkwX4_burns_1 ++ dktX4_burns_2
def dkwX4_burns_0 : List UInt8 := [42, 3, 181, 1, 107, 3, 60, 27, 42, 180, 0, 39, 6, 46, 162, 0, 89, 42, 27, 182, 1, 38, 42, 27]
abbrev dktX4_burns_0 : List UInt8 := dkwX4_burns_0 ++ dktX4_burns_1
theorem dksX4_burns_0 : cX4_burns.data.toList.drop 0 = dktX4_burns_0 := by decide +kernel
theorem dksX4_burns_1 : cX4_burns.data.toList.drop 24 = dktX4_burns_1 := dk_seg dksX4_burns_0 24 rfl rfl
theorem dksX4_burns_2 : cX4_burns.data.toList.drop 48 = dktX4_burns_2 := dk_seg dksX4_burns_1 24 rfl rfl
theorem dksX4_burns_3 : cX4_burns.data.toList.drop 70 = dktX4_burns_3 := dk_seg dksX4_burns_2 22 rfl rfl
theorem dksX4_burns_4 : cX4_burns.data.toList.drop 94 = dktX4_burns_4 := dk_seg dksX4_burns_3 24 rfl rfl
theorem dksX4_burns_5 : cX4_burns.data.toList.drop 118 = dktX4_burns_5 := dk_seg dksX4_burns_4 24 rfl rfl
theorem dksX4_burns_6 : cX4_burns.data.toList.drop 142 = dktX4_burns_6 := dk_seg dksX4_burns_5 24 rfl rfl
theorem dksX4_burns_7 : cX4_burns.data.toList.drop 166 = dktX4_burns_7 := dk_seg dksX4_burns_6 24 rfl rfl
theorem dksX4_burns_8 : cX4_burns.data.toList.drop 189 = dktX4_burns_8 := dk_seg dksX4_burns_7 23 rfl rfl
theorem dX4_burns_0 : decode cX4_burns 0 = .ok (.aload_n 0, 1) := dk_42 (dk_at dksX4_burns_0 0 rfl rfl)
theorem dX4_burns_1 : decode cX4_burns 1 = .ok (.iconst 0, 1) := dk_3 (dk_at dksX4_burns_0 1 rfl rfl)
theorem dX4_burns_2 : decode cX4_burns 2 = .ok (.putfield 363, 3) := dk_181 1 107 (dk_at dksX4_burns_0 2 rfl rfl)
theorem dX4_burns_5 : decode cX4_burns 5 = .ok (.iconst 0, 1) := dk_3 (dk_at dksX4_burns_0 5 rfl rfl)
theorem dX4_burns_6 : decode cX4_burns 6 = .ok (.istore_n 1, 1) := dk_60 (dk_at dksX4_burns_0 6 rfl rfl)
theorem dX4_burns_7 : decode cX4_burns 7 = .ok (.iload_n 1, 1) := dk_27 (dk_at dksX4_burns_0 7 rfl rfl)
theorem dX4_burns_8 : decode cX4_burns 8 = .ok (.aload_n 0, 1) := dk_42 (dk_at dksX4_burns_0 8 rfl rfl)
theorem dX4_burns_9 : decode cX4_burns 9 = .ok (.getfield 39, 3) := dk_180 0 39 (dk_at dksX4_burns_0 9 rfl rfl)
theorem dX4_burns_12 : decode cX4_burns 12 = .ok (.iconst 3, 1) := dk_6 (dk_at dksX4_burns_0 12 rfl rfl)
theorem dX4_burns_13 : decode cX4_burns 13 = .ok (.iaload, 1) := dk_46 (dk_at dksX4_burns_0 13 rfl rfl)
theorem dX4_burns_14 : decode cX4_burns 14 = .ok (.if_icmp .ge 89, 3) := dk_162 0 89 (dk_at dksX4_burns_0 14 rfl rfl)
theorem dX4_burns_17 : decode cX4_burns 17 = .ok (.aload_n 0, 1) := dk_42 (dk_at dksX4_burns_0 17 rfl rfl)
theorem dX4_burns_18 : decode cX4_burns 18 = .ok (.iload_n 1, 1) := dk_27 (dk_at dksX4_burns_0 18 rfl rfl)
theorem dX4_burns_19 : decode cX4_burns 19 = .ok (.invokevirtual 294, 3) := dk_182 1 38 (dk_at dksX4_burns_0 19 rfl rfl)
theorem dX4_burns_22 : decode cX4_burns 22 = .ok (.aload_n 0, 1) := dk_42 (dk_at dksX4_burns_0 22 rfl rfl)
theorem dX4_burns_23 : decode cX4_burns 23 = .ok (.iload_n 1, 1) := dk_27 (dk_at dksX4_burns_0 23 rfl rfl)
theorem dX4_burns_24 : decode cX4_burns 24 = .ok (.invokevirtual 297, 3) := dk_182 1 41 (dk_at dksX4_burns_1 0 rfl rfl)
theorem dX4_burns_27 : decode cX4_burns 27 = .ok (.if_icmp .ge 11, 3) := dk_162 0 11 (dk_at dksX4_burns_1 3 rfl rfl)
theorem dX4_burns_30 : decode cX4_burns 30 = .ok (.aload_n 0, 1) := dk_42 (dk_at dksX4_burns_1 6 rfl rfl)
theorem dX4_burns_31 : decode cX4_burns 31 = .ok (.iload_n 1, 1) := dk_27 (dk_at dksX4_burns_1 7 rfl rfl)
theorem dX4_burns_32 : decode cX4_burns 32 = .ok (.invokevirtual 294, 3) := dk_182 1 38 (dk_at dksX4_burns_1 8 rfl rfl)
theorem dX4_burns_35 : decode cX4_burns 35 = .ok (.goto 8, 3) := dk_167 0 8 (dk_at dksX4_burns_1 11 rfl rfl)
theorem dX4_burns_38 : decode cX4_burns 38 = .ok (.aload_n 0, 1) := dk_42 (dk_at dksX4_burns_1 14 rfl rfl)
theorem dX4_burns_39 : decode cX4_burns 39 = .ok (.iload_n 1, 1) := dk_27 (dk_at dksX4_burns_1 15 rfl rfl)
theorem dX4_burns_40 : decode cX4_burns 40 = .ok (.invokevirtual 297, 3) := dk_182 1 41 (dk_at dksX4_burns_1 16 rfl rfl)
theorem dX4_burns_43 : decode cX4_burns 43 = .ok (.istore_n 2, 1) := dk_61 (dk_at dksX4_burns_1 19 rfl rfl)
theorem dX4_burns_44 : decode cX4_burns 44 = .ok (.aload_n 0, 1) := dk_42 (dk_at dksX4_burns_1 20 rfl rfl)
theorem dX4_burns_45 : decode cX4_burns 45 = .ok (.getfield 39, 3) := dk_180 0 39 (dk_at dksX4_burns_1 21 rfl rfl)
theorem dX4_burns_48 : decode cX4_burns 48 = .ok (.bipush 14, 2) := dk_16 14 (dk_at dksX4_burns_2 0 rfl rfl)
theorem dX4_burns_50 : decode cX4_burns 50 = .ok (.iconst 4, 1) := dk_7 (dk_at dksX4_burns_2 2 rfl rfl)
theorem dX4_burns_51 : decode cX4_burns 51 = .ok (.iload_n 1, 1) := dk_27 (dk_at dksX4_burns_2 3 rfl rfl)
theorem dX4_burns_52 : decode cX4_burns 52 = .ok (.imul, 1) := dk_104 (dk_at dksX4_burns_2 4 rfl rfl)
theorem dX4_burns_53 : decode cX4_burns 53 = .ok (.iadd, 1) := dk_96 (dk_at dksX4_burns_2 5 rfl rfl)
theorem dX4_burns_54 : decode cX4_burns 54 = .ok (.dup2, 1) := dk_92 (dk_at dksX4_burns_2 6 rfl rfl)
theorem dX4_burns_55 : decode cX4_burns 55 = .ok (.iaload, 1) := dk_46 (dk_at dksX4_burns_2 7 rfl rfl)
theorem dX4_burns_56 : decode cX4_burns 56 = .ok (.iload_n 2, 1) := dk_28 (dk_at dksX4_burns_2 8 rfl rfl)
theorem dX4_burns_57 : decode cX4_burns 57 = .ok (.isub, 1) := dk_100 (dk_at dksX4_burns_2 9 rfl rfl)
theorem dX4_burns_58 : decode cX4_burns 58 = .ok (.iastore, 1) := dk_79 (dk_at dksX4_burns_2 10 rfl rfl)
theorem dX4_burns_59 : decode cX4_burns 59 = .ok (.aload_n 0, 1) := dk_42 (dk_at dksX4_burns_2 11 rfl rfl)
theorem dX4_burns_60 : decode cX4_burns 60 = .ok (.dup, 1) := dk_89 (dk_at dksX4_burns_2 12 rfl rfl)
theorem dX4_burns_61 : decode cX4_burns 61 = .ok (.getfield 363, 3) := dk_180 1 107 (dk_at dksX4_burns_2 13 rfl rfl)
theorem dX4_burns_64 : decode cX4_burns 64 = .ok (.aload_n 0, 1) := dk_42 (dk_at dksX4_burns_2 16 rfl rfl)
theorem dX4_burns_65 : decode cX4_burns 65 = .ok (.iload_n 1, 1) := dk_27 (dk_at dksX4_burns_2 17 rfl rfl)
theorem dX4_burns_66 : decode cX4_burns 66 = .ok (.invokevirtual 294, 3) := dk_182 1 38 (dk_at dksX4_burns_2 18 rfl rfl)
theorem dX4_burns_69 : decode cX4_burns 69 = .ok (.aload_n 0, 1) := dk_42 (dk_at dksX4_burns_2 21 rfl rfl)
theorem dX4_burns_70 : decode cX4_burns 70 = .ok (.getfield 39, 3) := dk_180 0 39 (dk_at dksX4_burns_3 0 rfl rfl)
theorem dX4_burns_73 : decode cX4_burns 73 = .ok (.iconst 2, 1) := dk_5 (dk_at dksX4_burns_3 3 rfl rfl)
theorem dX4_burns_74 : decode cX4_burns 74 = .ok (.iaload, 1) := dk_46 (dk_at dksX4_burns_3 4 rfl rfl)
theorem dX4_burns_75 : decode cX4_burns 75 = .ok (.if_icmp .lt 17, 3) := dk_161 0 17 (dk_at dksX4_burns_3 5 rfl rfl)
theorem dX4_burns_78 : decode cX4_burns 78 = .ok (.aload_n 0, 1) := dk_42 (dk_at dksX4_burns_3 8 rfl rfl)
theorem dX4_burns_79 : decode cX4_burns 79 = .ok (.iload_n 1, 1) := dk_27 (dk_at dksX4_burns_3 9 rfl rfl)
theorem dX4_burns_80 : decode cX4_burns 80 = .ok (.invokevirtual 297, 3) := dk_182 1 41 (dk_at dksX4_burns_3 10 rfl rfl)
theorem dX4_burns_83 : decode cX4_burns 83 = .ok (.ifCond .le 9, 3) := dk_158 0 9 (dk_at dksX4_burns_3 13 rfl rfl)
theorem dX4_burns_86 : decode cX4_burns 86 = .ok (.iconst 1, 1) := dk_4 (dk_at dksX4_burns_3 16 rfl rfl)
theorem dX4_burns_87 : decode cX4_burns 87 = .ok (.iload_n 1, 1) := dk_27 (dk_at dksX4_burns_3 17 rfl rfl)
theorem dX4_burns_88 : decode cX4_burns 88 = .ok (.ishl, 1) := dk_120 (dk_at dksX4_burns_3 18 rfl rfl)
theorem dX4_burns_89 : decode cX4_burns 89 = .ok (.goto 4, 3) := dk_167 0 4 (dk_at dksX4_burns_3 19 rfl rfl)
theorem dX4_burns_92 : decode cX4_burns 92 = .ok (.iconst 0, 1) := dk_3 (dk_at dksX4_burns_3 22 rfl rfl)
theorem dX4_burns_93 : decode cX4_burns 93 = .ok (.ior, 1) := dk_128 (dk_at dksX4_burns_3 23 rfl rfl)
theorem dX4_burns_94 : decode cX4_burns 94 = .ok (.putfield 363, 3) := dk_181 1 107 (dk_at dksX4_burns_4 0 rfl rfl)
theorem dX4_burns_97 : decode cX4_burns 97 = .ok (.iinc 1 1, 3) := dk_132 1 1 (dk_at dksX4_burns_4 3 rfl rfl)
theorem dX4_burns_100 : decode cX4_burns 100 = .ok (.goto (-93), 3) := dk_167 255 163 (dk_at dksX4_burns_4 6 rfl rfl)
theorem dX4_burns_103 : decode cX4_burns 103 = .ok (.iconst 0, 1) := dk_3 (dk_at dksX4_burns_4 9 rfl rfl)
theorem dX4_burns_104 : decode cX4_burns 104 = .ok (.istore_n 1, 1) := dk_60 (dk_at dksX4_burns_4 10 rfl rfl)
theorem dX4_burns_105 : decode cX4_burns 105 = .ok (.iload_n 1, 1) := dk_27 (dk_at dksX4_burns_4 11 rfl rfl)
theorem dX4_burns_106 : decode cX4_burns 106 = .ok (.aload_n 0, 1) := dk_42 (dk_at dksX4_burns_4 12 rfl rfl)
theorem dX4_burns_107 : decode cX4_burns 107 = .ok (.getfield 39, 3) := dk_180 0 39 (dk_at dksX4_burns_4 13 rfl rfl)
theorem dX4_burns_110 : decode cX4_burns 110 = .ok (.iconst 3, 1) := dk_6 (dk_at dksX4_burns_4 16 rfl rfl)
theorem dX4_burns_111 : decode cX4_burns 111 = .ok (.iaload, 1) := dk_46 (dk_at dksX4_burns_4 17 rfl rfl)
theorem dX4_burns_112 : decode cX4_burns 112 = .ok (.if_icmp .ge 97, 3) := dk_162 0 97 (dk_at dksX4_burns_4 18 rfl rfl)
theorem dX4_burns_115 : decode cX4_burns 115 = .ok (.bipush 14, 2) := dk_16 14 (dk_at dksX4_burns_4 21 rfl rfl)
theorem dX4_burns_117 : decode cX4_burns 117 = .ok (.iconst 4, 1) := dk_7 (dk_at dksX4_burns_4 23 rfl rfl)
theorem dX4_burns_118 : decode cX4_burns 118 = .ok (.iload_n 1, 1) := dk_27 (dk_at dksX4_burns_5 0 rfl rfl)
theorem dX4_burns_119 : decode cX4_burns 119 = .ok (.imul, 1) := dk_104 (dk_at dksX4_burns_5 1 rfl rfl)
theorem dX4_burns_120 : decode cX4_burns 120 = .ok (.iadd, 1) := dk_96 (dk_at dksX4_burns_5 2 rfl rfl)
theorem dX4_burns_121 : decode cX4_burns 121 = .ok (.iconst 1, 1) := dk_4 (dk_at dksX4_burns_5 3 rfl rfl)
theorem dX4_burns_122 : decode cX4_burns 122 = .ok (.iadd, 1) := dk_96 (dk_at dksX4_burns_5 4 rfl rfl)
theorem dX4_burns_123 : decode cX4_burns 123 = .ok (.istore_n 2, 1) := dk_61 (dk_at dksX4_burns_5 5 rfl rfl)
theorem dX4_burns_124 : decode cX4_burns 124 = .ok (.aload_n 0, 1) := dk_42 (dk_at dksX4_burns_5 6 rfl rfl)
theorem dX4_burns_125 : decode cX4_burns 125 = .ok (.iload_n 1, 1) := dk_27 (dk_at dksX4_burns_5 7 rfl rfl)
theorem dX4_burns_126 : decode cX4_burns 126 = .ok (.invokevirtual 297, 3) := dk_182 1 41 (dk_at dksX4_burns_5 8 rfl rfl)
theorem dX4_burns_129 : decode cX4_burns 129 = .ok (.ifCond .ne 13, 3) := dk_154 0 13 (dk_at dksX4_burns_5 11 rfl rfl)
theorem dX4_burns_132 : decode cX4_burns 132 = .ok (.aload_n 0, 1) := dk_42 (dk_at dksX4_burns_5 14 rfl rfl)
theorem dX4_burns_133 : decode cX4_burns 133 = .ok (.getfield 39, 3) := dk_180 0 39 (dk_at dksX4_burns_5 15 rfl rfl)
theorem dX4_burns_136 : decode cX4_burns 136 = .ok (.iload_n 2, 1) := dk_28 (dk_at dksX4_burns_5 18 rfl rfl)
theorem dX4_burns_137 : decode cX4_burns 137 = .ok (.iconst 0, 1) := dk_3 (dk_at dksX4_burns_5 19 rfl rfl)
theorem dX4_burns_138 : decode cX4_burns 138 = .ok (.iastore, 1) := dk_79 (dk_at dksX4_burns_5 20 rfl rfl)
theorem dX4_burns_139 : decode cX4_burns 139 = .ok (.goto 64, 3) := dk_167 0 64 (dk_at dksX4_burns_5 21 rfl rfl)
theorem dX4_burns_142 : decode cX4_burns 142 = .ok (.aload_n 0, 1) := dk_42 (dk_at dksX4_burns_6 0 rfl rfl)
theorem dX4_burns_143 : decode cX4_burns 143 = .ok (.getfield 39, 3) := dk_180 0 39 (dk_at dksX4_burns_6 1 rfl rfl)
theorem dX4_burns_146 : decode cX4_burns 146 = .ok (.iload_n 2, 1) := dk_28 (dk_at dksX4_burns_6 4 rfl rfl)
theorem dX4_burns_147 : decode cX4_burns 147 = .ok (.iaload, 1) := dk_46 (dk_at dksX4_burns_6 5 rfl rfl)
theorem dX4_burns_148 : decode cX4_burns 148 = .ok (.ifCond .le 31, 3) := dk_158 0 31 (dk_at dksX4_burns_6 6 rfl rfl)
theorem dX4_burns_151 : decode cX4_burns 151 = .ok (.aload_n 0, 1) := dk_42 (dk_at dksX4_burns_6 9 rfl rfl)
theorem dX4_burns_152 : decode cX4_burns 152 = .ok (.getfield 39, 3) := dk_180 0 39 (dk_at dksX4_burns_6 10 rfl rfl)
theorem dX4_burns_155 : decode cX4_burns 155 = .ok (.iload_n 2, 1) := dk_28 (dk_at dksX4_burns_6 13 rfl rfl)
theorem dX4_burns_156 : decode cX4_burns 156 = .ok (.dup2, 1) := dk_92 (dk_at dksX4_burns_6 14 rfl rfl)
theorem dX4_burns_157 : decode cX4_burns 157 = .ok (.iaload, 1) := dk_46 (dk_at dksX4_burns_6 15 rfl rfl)
theorem dX4_burns_158 : decode cX4_burns 158 = .ok (.aload_n 0, 1) := dk_42 (dk_at dksX4_burns_6 16 rfl rfl)
theorem dX4_burns_159 : decode cX4_burns 159 = .ok (.getfield 39, 3) := dk_180 0 39 (dk_at dksX4_burns_6 17 rfl rfl)
theorem dX4_burns_162 : decode cX4_burns 162 = .ok (.iload_n 2, 1) := dk_28 (dk_at dksX4_burns_6 20 rfl rfl)
theorem dX4_burns_163 : decode cX4_burns 163 = .ok (.iaload, 1) := dk_46 (dk_at dksX4_burns_6 21 rfl rfl)
theorem dX4_burns_164 : decode cX4_burns 164 = .ok (.bipush 9, 2) := dk_16 9 (dk_at dksX4_burns_6 22 rfl rfl)
theorem dX4_burns_166 : decode cX4_burns 166 = .ok (.if_icmp .ge 7, 3) := dk_162 0 7 (dk_at dksX4_burns_7 0 rfl rfl)
theorem dX4_burns_169 : decode cX4_burns 169 = .ok (.iconst 1, 1) := dk_4 (dk_at dksX4_burns_7 3 rfl rfl)
theorem dX4_burns_170 : decode cX4_burns 170 = .ok (.goto 4, 3) := dk_167 0 4 (dk_at dksX4_burns_7 4 rfl rfl)
theorem dX4_burns_173 : decode cX4_burns 173 = .ok (.iconst 0, 1) := dk_3 (dk_at dksX4_burns_7 7 rfl rfl)
theorem dX4_burns_174 : decode cX4_burns 174 = .ok (.iadd, 1) := dk_96 (dk_at dksX4_burns_7 8 rfl rfl)
theorem dX4_burns_175 : decode cX4_burns 175 = .ok (.iastore, 1) := dk_79 (dk_at dksX4_burns_7 9 rfl rfl)
theorem dX4_burns_176 : decode cX4_burns 176 = .ok (.goto 27, 3) := dk_167 0 27 (dk_at dksX4_burns_7 10 rfl rfl)
theorem dX4_burns_179 : decode cX4_burns 179 = .ok (.aload_n 0, 1) := dk_42 (dk_at dksX4_burns_7 13 rfl rfl)
theorem dX4_burns_180 : decode cX4_burns 180 = .ok (.getfield 39, 3) := dk_180 0 39 (dk_at dksX4_burns_7 14 rfl rfl)
theorem dX4_burns_183 : decode cX4_burns 183 = .ok (.bipush 38, 2) := dk_16 38 (dk_at dksX4_burns_7 17 rfl rfl)
theorem dX4_burns_185 : decode cX4_burns 185 = .ok (.iload_n 1, 1) := dk_27 (dk_at dksX4_burns_7 19 rfl rfl)
theorem dX4_burns_186 : decode cX4_burns 186 = .ok (.iadd, 1) := dk_96 (dk_at dksX4_burns_7 20 rfl rfl)
theorem dX4_burns_187 : decode cX4_burns 187 = .ok (.iaload, 1) := dk_46 (dk_at dksX4_burns_7 21 rfl rfl)
theorem dX4_burns_188 : decode cX4_burns 188 = .ok (.aload_n 0, 1) := dk_42 (dk_at dksX4_burns_7 22 rfl rfl)
theorem dX4_burns_189 : decode cX4_burns 189 = .ok (.getfield 363, 3) := dk_180 1 107 (dk_at dksX4_burns_8 0 rfl rfl)
theorem dX4_burns_192 : decode cX4_burns 192 = .ok (.iand, 1) := dk_126 (dk_at dksX4_burns_8 3 rfl rfl)
theorem dX4_burns_193 : decode cX4_burns 193 = .ok (.ifCond .eq 10, 3) := dk_153 0 10 (dk_at dksX4_burns_8 4 rfl rfl)
theorem dX4_burns_196 : decode cX4_burns 196 = .ok (.aload_n 0, 1) := dk_42 (dk_at dksX4_burns_8 7 rfl rfl)
theorem dX4_burns_197 : decode cX4_burns 197 = .ok (.getfield 39, 3) := dk_180 0 39 (dk_at dksX4_burns_8 8 rfl rfl)
theorem dX4_burns_200 : decode cX4_burns 200 = .ok (.iload_n 2, 1) := dk_28 (dk_at dksX4_burns_8 11 rfl rfl)
theorem dX4_burns_201 : decode cX4_burns 201 = .ok (.iconst 1, 1) := dk_4 (dk_at dksX4_burns_8 12 rfl rfl)
theorem dX4_burns_202 : decode cX4_burns 202 = .ok (.iastore, 1) := dk_79 (dk_at dksX4_burns_8 13 rfl rfl)
theorem dX4_burns_203 : decode cX4_burns 203 = .ok (.iinc 1 1, 3) := dk_132 1 1 (dk_at dksX4_burns_8 14 rfl rfl)
theorem dX4_burns_206 : decode cX4_burns 206 = .ok (.goto (-101), 3) := dk_167 255 155 (dk_at dksX4_burns_8 17 rfl rfl)
theorem dX4_burns_209 : decode cX4_burns 209 = .ok (.return_, 1) := dk_177 (dk_at dksX4_burns_8 20 rfl rfl)
abbrev cX4_light : ByteArray := prog_19_method_80_code
def yX4_light : MethodName := ⟨RX4, "light", "(I)I"⟩
def dkwX4_light_1 : List UInt8 := [180, 0, 39, 16, 14, 7, 27, 104, 96, 4, 96, 4, 79, 42, 27, 182, 1, 41, 172]
abbrev dktX4_light_1 : List UInt8 := dkwX4_light_1 ++ []
def dkwX4_light_0 : List UInt8 := [42, 27, 182, 1, 57, 153, 0, 11, 42, 27, 182, 1, 131, 154, 0, 5, 2, 172, 42, 182, 1, 128, 42]
abbrev dktX4_light_0 : List UInt8 := dkwX4_light_0 ++ dktX4_light_1
theorem dksX4_light_0 : cX4_light.data.toList.drop 0 = dktX4_light_0 := by decide +kernel
theorem dksX4_light_1 : cX4_light.data.toList.drop 23 = dktX4_light_1 := dk_seg dksX4_light_0 23 rfl rfl
theorem dX4_light_0 : decode cX4_light 0 = .ok (.aload_n 0, 1) := dk_42 (dk_at dksX4_light_0 0 rfl rfl)
theorem dX4_light_1 : decode cX4_light 1 = .ok (.iload_n 1, 1) := dk_27 (dk_at dksX4_light_0 1 rfl rfl)
theorem dX4_light_2 : decode cX4_light 2 = .ok (.invokevirtual 313, 3) := dk_182 1 57 (dk_at dksX4_light_0 2 rfl rfl)
theorem dX4_light_5 : decode cX4_light 5 = .ok (.ifCond .eq 11, 3) := dk_153 0 11 (dk_at dksX4_light_0 5 rfl rfl)
theorem dX4_light_8 : decode cX4_light 8 = .ok (.aload_n 0, 1) := dk_42 (dk_at dksX4_light_0 8 rfl rfl)
theorem dX4_light_9 : decode cX4_light 9 = .ok (.iload_n 1, 1) := dk_27 (dk_at dksX4_light_0 9 rfl rfl)
theorem dX4_light_10 : decode cX4_light 10 = .ok (.invokevirtual 387, 3) := dk_182 1 131 (dk_at dksX4_light_0 10 rfl rfl)
theorem dX4_light_13 : decode cX4_light 13 = .ok (.ifCond .ne 5, 3) := dk_154 0 5 (dk_at dksX4_light_0 13 rfl rfl)
theorem dX4_light_16 : decode cX4_light 16 = .ok (.iconst (-1), 1) := dk_2 (dk_at dksX4_light_0 16 rfl rfl)
theorem dX4_light_17 : decode cX4_light 17 = .ok (.ireturn, 1) := dk_172 (dk_at dksX4_light_0 17 rfl rfl)
theorem dX4_light_18 : decode cX4_light 18 = .ok (.aload_n 0, 1) := dk_42 (dk_at dksX4_light_0 18 rfl rfl)
theorem dX4_light_19 : decode cX4_light 19 = .ok (.invokevirtual 384, 3) := dk_182 1 128 (dk_at dksX4_light_0 19 rfl rfl)
theorem dX4_light_22 : decode cX4_light 22 = .ok (.aload_n 0, 1) := dk_42 (dk_at dksX4_light_0 22 rfl rfl)
theorem dX4_light_23 : decode cX4_light 23 = .ok (.getfield 39, 3) := dk_180 0 39 (dk_at dksX4_light_1 0 rfl rfl)
theorem dX4_light_26 : decode cX4_light 26 = .ok (.bipush 14, 2) := dk_16 14 (dk_at dksX4_light_1 3 rfl rfl)
theorem dX4_light_28 : decode cX4_light 28 = .ok (.iconst 4, 1) := dk_7 (dk_at dksX4_light_1 5 rfl rfl)
theorem dX4_light_29 : decode cX4_light 29 = .ok (.iload_n 1, 1) := dk_27 (dk_at dksX4_light_1 6 rfl rfl)
theorem dX4_light_30 : decode cX4_light 30 = .ok (.imul, 1) := dk_104 (dk_at dksX4_light_1 7 rfl rfl)
theorem dX4_light_31 : decode cX4_light 31 = .ok (.iadd, 1) := dk_96 (dk_at dksX4_light_1 8 rfl rfl)
theorem dX4_light_32 : decode cX4_light 32 = .ok (.iconst 1, 1) := dk_4 (dk_at dksX4_light_1 9 rfl rfl)
theorem dX4_light_33 : decode cX4_light 33 = .ok (.iadd, 1) := dk_96 (dk_at dksX4_light_1 10 rfl rfl)
theorem dX4_light_34 : decode cX4_light 34 = .ok (.iconst 1, 1) := dk_4 (dk_at dksX4_light_1 11 rfl rfl)
theorem dX4_light_35 : decode cX4_light 35 = .ok (.iastore, 1) := dk_79 (dk_at dksX4_light_1 12 rfl rfl)
theorem dX4_light_36 : decode cX4_light 36 = .ok (.aload_n 0, 1) := dk_42 (dk_at dksX4_light_1 13 rfl rfl)
theorem dX4_light_37 : decode cX4_light 37 = .ok (.iload_n 1, 1) := dk_27 (dk_at dksX4_light_1 14 rfl rfl)
theorem dX4_light_38 : decode cX4_light 38 = .ok (.invokevirtual 297, 3) := dk_182 1 41 (dk_at dksX4_light_1 15 rfl rfl)
theorem dX4_light_41 : decode cX4_light 41 = .ok (.ireturn, 1) := dk_172 (dk_at dksX4_light_1 18 rfl rfl)
abbrev cX4_canLight : ByteArray := prog_19_method_79_code
def yX4_canLight : MethodName := ⟨RX4, "canLight", "(I)Z"⟩
def dkwX4_canLight_0 : List UInt8 := [42, 27, 182, 1, 41, 158, 0, 15, 42, 27, 182, 1, 38, 154, 0, 7, 4, 167, 0, 4, 3, 172]
abbrev dktX4_canLight_0 : List UInt8 := dkwX4_canLight_0 ++ []
theorem dksX4_canLight_0 : cX4_canLight.data.toList.drop 0 = dktX4_canLight_0 := by decide +kernel
theorem dX4_canLight_0 : decode cX4_canLight 0 = .ok (.aload_n 0, 1) := dk_42 (dk_at dksX4_canLight_0 0 rfl rfl)
theorem dX4_canLight_1 : decode cX4_canLight 1 = .ok (.iload_n 1, 1) := dk_27 (dk_at dksX4_canLight_0 1 rfl rfl)
theorem dX4_canLight_2 : decode cX4_canLight 2 = .ok (.invokevirtual 297, 3) := dk_182 1 41 (dk_at dksX4_canLight_0 2 rfl rfl)
theorem dX4_canLight_5 : decode cX4_canLight 5 = .ok (.ifCond .le 15, 3) := dk_158 0 15 (dk_at dksX4_canLight_0 5 rfl rfl)
theorem dX4_canLight_8 : decode cX4_canLight 8 = .ok (.aload_n 0, 1) := dk_42 (dk_at dksX4_canLight_0 8 rfl rfl)
theorem dX4_canLight_9 : decode cX4_canLight 9 = .ok (.iload_n 1, 1) := dk_27 (dk_at dksX4_canLight_0 9 rfl rfl)
theorem dX4_canLight_10 : decode cX4_canLight 10 = .ok (.invokevirtual 294, 3) := dk_182 1 38 (dk_at dksX4_canLight_0 10 rfl rfl)
theorem dX4_canLight_13 : decode cX4_canLight 13 = .ok (.ifCond .ne 7, 3) := dk_154 0 7 (dk_at dksX4_canLight_0 13 rfl rfl)
theorem dX4_canLight_16 : decode cX4_canLight 16 = .ok (.iconst 1, 1) := dk_4 (dk_at dksX4_canLight_0 16 rfl rfl)
theorem dX4_canLight_17 : decode cX4_canLight 17 = .ok (.goto 4, 3) := dk_167 0 4 (dk_at dksX4_canLight_0 17 rfl rfl)
theorem dX4_canLight_20 : decode cX4_canLight 20 = .ok (.iconst 0, 1) := dk_3 (dk_at dksX4_canLight_0 20 rfl rfl)
theorem dX4_canLight_21 : decode cX4_canLight 21 = .ok (.ireturn, 1) := dk_172 (dk_at dksX4_canLight_0 21 rfl rfl)
abbrev cX4_douse : ByteArray := prog_19_method_81_code
def yX4_douse : MethodName := ⟨RX4, "douse", "(I)I"⟩
def dkwX4_douse_1 : List UInt8 := [182, 1, 38, 61, 42, 180, 0, 39, 16, 14, 7, 27, 104, 96, 4, 96, 3, 79, 28, 172]
abbrev dktX4_douse_1 : List UInt8 := dkwX4_douse_1 ++ []
def dkwX4_douse_0 : List UInt8 := [42, 27, 182, 1, 57, 153, 0, 11, 42, 27, 182, 1, 38, 154, 0, 5, 2, 172, 42, 182, 1, 128, 42, 27]
abbrev dktX4_douse_0 : List UInt8 := dkwX4_douse_0 ++ dktX4_douse_1
theorem dksX4_douse_0 : cX4_douse.data.toList.drop 0 = dktX4_douse_0 := by decide +kernel
theorem dksX4_douse_1 : cX4_douse.data.toList.drop 24 = dktX4_douse_1 := dk_seg dksX4_douse_0 24 rfl rfl
theorem dX4_douse_0 : decode cX4_douse 0 = .ok (.aload_n 0, 1) := dk_42 (dk_at dksX4_douse_0 0 rfl rfl)
theorem dX4_douse_1 : decode cX4_douse 1 = .ok (.iload_n 1, 1) := dk_27 (dk_at dksX4_douse_0 1 rfl rfl)
theorem dX4_douse_2 : decode cX4_douse 2 = .ok (.invokevirtual 313, 3) := dk_182 1 57 (dk_at dksX4_douse_0 2 rfl rfl)
theorem dX4_douse_5 : decode cX4_douse 5 = .ok (.ifCond .eq 11, 3) := dk_153 0 11 (dk_at dksX4_douse_0 5 rfl rfl)
theorem dX4_douse_8 : decode cX4_douse 8 = .ok (.aload_n 0, 1) := dk_42 (dk_at dksX4_douse_0 8 rfl rfl)
theorem dX4_douse_9 : decode cX4_douse 9 = .ok (.iload_n 1, 1) := dk_27 (dk_at dksX4_douse_0 9 rfl rfl)
theorem dX4_douse_10 : decode cX4_douse 10 = .ok (.invokevirtual 294, 3) := dk_182 1 38 (dk_at dksX4_douse_0 10 rfl rfl)
theorem dX4_douse_13 : decode cX4_douse 13 = .ok (.ifCond .ne 5, 3) := dk_154 0 5 (dk_at dksX4_douse_0 13 rfl rfl)
theorem dX4_douse_16 : decode cX4_douse 16 = .ok (.iconst (-1), 1) := dk_2 (dk_at dksX4_douse_0 16 rfl rfl)
theorem dX4_douse_17 : decode cX4_douse 17 = .ok (.ireturn, 1) := dk_172 (dk_at dksX4_douse_0 17 rfl rfl)
theorem dX4_douse_18 : decode cX4_douse 18 = .ok (.aload_n 0, 1) := dk_42 (dk_at dksX4_douse_0 18 rfl rfl)
theorem dX4_douse_19 : decode cX4_douse 19 = .ok (.invokevirtual 384, 3) := dk_182 1 128 (dk_at dksX4_douse_0 19 rfl rfl)
theorem dX4_douse_22 : decode cX4_douse 22 = .ok (.aload_n 0, 1) := dk_42 (dk_at dksX4_douse_0 22 rfl rfl)
theorem dX4_douse_23 : decode cX4_douse 23 = .ok (.iload_n 1, 1) := dk_27 (dk_at dksX4_douse_0 23 rfl rfl)
theorem dX4_douse_24 : decode cX4_douse 24 = .ok (.invokevirtual 294, 3) := dk_182 1 38 (dk_at dksX4_douse_1 0 rfl rfl)
theorem dX4_douse_27 : decode cX4_douse 27 = .ok (.istore_n 2, 1) := dk_61 (dk_at dksX4_douse_1 3 rfl rfl)
theorem dX4_douse_28 : decode cX4_douse 28 = .ok (.aload_n 0, 1) := dk_42 (dk_at dksX4_douse_1 4 rfl rfl)
theorem dX4_douse_29 : decode cX4_douse 29 = .ok (.getfield 39, 3) := dk_180 0 39 (dk_at dksX4_douse_1 5 rfl rfl)
theorem dX4_douse_32 : decode cX4_douse 32 = .ok (.bipush 14, 2) := dk_16 14 (dk_at dksX4_douse_1 8 rfl rfl)
theorem dX4_douse_34 : decode cX4_douse 34 = .ok (.iconst 4, 1) := dk_7 (dk_at dksX4_douse_1 10 rfl rfl)
theorem dX4_douse_35 : decode cX4_douse 35 = .ok (.iload_n 1, 1) := dk_27 (dk_at dksX4_douse_1 11 rfl rfl)
theorem dX4_douse_36 : decode cX4_douse 36 = .ok (.imul, 1) := dk_104 (dk_at dksX4_douse_1 12 rfl rfl)
theorem dX4_douse_37 : decode cX4_douse 37 = .ok (.iadd, 1) := dk_96 (dk_at dksX4_douse_1 13 rfl rfl)
theorem dX4_douse_38 : decode cX4_douse 38 = .ok (.iconst 1, 1) := dk_4 (dk_at dksX4_douse_1 14 rfl rfl)
theorem dX4_douse_39 : decode cX4_douse 39 = .ok (.iadd, 1) := dk_96 (dk_at dksX4_douse_1 15 rfl rfl)
theorem dX4_douse_40 : decode cX4_douse 40 = .ok (.iconst 0, 1) := dk_3 (dk_at dksX4_douse_1 16 rfl rfl)
theorem dX4_douse_41 : decode cX4_douse 41 = .ok (.iastore, 1) := dk_79 (dk_at dksX4_douse_1 17 rfl rfl)
theorem dX4_douse_42 : decode cX4_douse 42 = .ok (.iload_n 2, 1) := dk_28 (dk_at dksX4_douse_1 18 rfl rfl)
theorem dX4_douse_43 : decode cX4_douse 43 = .ok (.ireturn, 1) := dk_172 (dk_at dksX4_douse_1 19 rfl rfl)
abbrev cX4_say : ByteArray := prog_19_method_82_code
def yX4_say : MethodName := ⟨RX4, "say", "(II)I"⟩
def dkwX4_say_2 : List UInt8 := [16, 14, 7, 27, 104, 96, 5, 96, 28, 79, 29, 172]
abbrev dktX4_say_2 : List UInt8 := dkwX4_say_2 ++ []
def dkwX4_say_1 : List UInt8 := [182, 1, 70, 28, 160, 0, 5, 2, 172, 42, 182, 1, 128, 42, 27, 182, 1, 70, 62, 42, 180, 0, 39]
abbrev dktX4_say_1 : List UInt8 := dkwX4_say_1 ++ dktX4_say_2
def dkwX4_say_0 : List UInt8 := [42, 27, 182, 1, 57, 153, 0, 24, 28, 133, 9, 20, 1, 134, 184, 0, 121, 153, 0, 12, 42, 27]
abbrev dktX4_say_0 : List UInt8 := dkwX4_say_0 ++ dktX4_say_1
theorem dksX4_say_0 : cX4_say.data.toList.drop 0 = dktX4_say_0 := by decide +kernel
theorem dksX4_say_1 : cX4_say.data.toList.drop 22 = dktX4_say_1 := dk_seg dksX4_say_0 22 rfl rfl
theorem dksX4_say_2 : cX4_say.data.toList.drop 45 = dktX4_say_2 := dk_seg dksX4_say_1 23 rfl rfl
theorem dX4_say_0 : decode cX4_say 0 = .ok (.aload_n 0, 1) := dk_42 (dk_at dksX4_say_0 0 rfl rfl)
theorem dX4_say_1 : decode cX4_say 1 = .ok (.iload_n 1, 1) := dk_27 (dk_at dksX4_say_0 1 rfl rfl)
theorem dX4_say_2 : decode cX4_say 2 = .ok (.invokevirtual 313, 3) := dk_182 1 57 (dk_at dksX4_say_0 2 rfl rfl)
theorem dX4_say_5 : decode cX4_say 5 = .ok (.ifCond .eq 24, 3) := dk_153 0 24 (dk_at dksX4_say_0 5 rfl rfl)
theorem dX4_say_8 : decode cX4_say 8 = .ok (.iload_n 2, 1) := dk_28 (dk_at dksX4_say_0 8 rfl rfl)
theorem dX4_say_9 : decode cX4_say 9 = .ok (.i2l, 1) := dk_133 (dk_at dksX4_say_0 9 rfl rfl)
theorem dX4_say_10 : decode cX4_say 10 = .ok (.lconst 0, 1) := dk_9 (dk_at dksX4_say_0 10 rfl rfl)
theorem dX4_say_11 : decode cX4_say 11 = .ok (.ldc2_w 390, 3) := dk_20 1 134 (dk_at dksX4_say_0 11 rfl rfl)
theorem dX4_say_14 : decode cX4_say 14 = .ok (.invokestatic 121, 3) := dk_184 0 121 (dk_at dksX4_say_0 14 rfl rfl)
theorem dX4_say_17 : decode cX4_say 17 = .ok (.ifCond .eq 12, 3) := dk_153 0 12 (dk_at dksX4_say_0 17 rfl rfl)
theorem dX4_say_20 : decode cX4_say 20 = .ok (.aload_n 0, 1) := dk_42 (dk_at dksX4_say_0 20 rfl rfl)
theorem dX4_say_21 : decode cX4_say 21 = .ok (.iload_n 1, 1) := dk_27 (dk_at dksX4_say_0 21 rfl rfl)
theorem dX4_say_22 : decode cX4_say 22 = .ok (.invokevirtual 326, 3) := dk_182 1 70 (dk_at dksX4_say_1 0 rfl rfl)
theorem dX4_say_25 : decode cX4_say 25 = .ok (.iload_n 2, 1) := dk_28 (dk_at dksX4_say_1 3 rfl rfl)
theorem dX4_say_26 : decode cX4_say 26 = .ok (.if_icmp .ne 5, 3) := dk_160 0 5 (dk_at dksX4_say_1 4 rfl rfl)
theorem dX4_say_29 : decode cX4_say 29 = .ok (.iconst (-1), 1) := dk_2 (dk_at dksX4_say_1 7 rfl rfl)
theorem dX4_say_30 : decode cX4_say 30 = .ok (.ireturn, 1) := dk_172 (dk_at dksX4_say_1 8 rfl rfl)
theorem dX4_say_31 : decode cX4_say 31 = .ok (.aload_n 0, 1) := dk_42 (dk_at dksX4_say_1 9 rfl rfl)
theorem dX4_say_32 : decode cX4_say 32 = .ok (.invokevirtual 384, 3) := dk_182 1 128 (dk_at dksX4_say_1 10 rfl rfl)
theorem dX4_say_35 : decode cX4_say 35 = .ok (.aload_n 0, 1) := dk_42 (dk_at dksX4_say_1 13 rfl rfl)
theorem dX4_say_36 : decode cX4_say 36 = .ok (.iload_n 1, 1) := dk_27 (dk_at dksX4_say_1 14 rfl rfl)
theorem dX4_say_37 : decode cX4_say 37 = .ok (.invokevirtual 326, 3) := dk_182 1 70 (dk_at dksX4_say_1 15 rfl rfl)
theorem dX4_say_40 : decode cX4_say 40 = .ok (.istore_n 3, 1) := dk_62 (dk_at dksX4_say_1 18 rfl rfl)
theorem dX4_say_41 : decode cX4_say 41 = .ok (.aload_n 0, 1) := dk_42 (dk_at dksX4_say_1 19 rfl rfl)
theorem dX4_say_42 : decode cX4_say 42 = .ok (.getfield 39, 3) := dk_180 0 39 (dk_at dksX4_say_1 20 rfl rfl)
theorem dX4_say_45 : decode cX4_say 45 = .ok (.bipush 14, 2) := dk_16 14 (dk_at dksX4_say_2 0 rfl rfl)
theorem dX4_say_47 : decode cX4_say 47 = .ok (.iconst 4, 1) := dk_7 (dk_at dksX4_say_2 2 rfl rfl)
theorem dX4_say_48 : decode cX4_say 48 = .ok (.iload_n 1, 1) := dk_27 (dk_at dksX4_say_2 3 rfl rfl)
theorem dX4_say_49 : decode cX4_say 49 = .ok (.imul, 1) := dk_104 (dk_at dksX4_say_2 4 rfl rfl)
theorem dX4_say_50 : decode cX4_say 50 = .ok (.iadd, 1) := dk_96 (dk_at dksX4_say_2 5 rfl rfl)
theorem dX4_say_51 : decode cX4_say 51 = .ok (.iconst 2, 1) := dk_5 (dk_at dksX4_say_2 6 rfl rfl)
theorem dX4_say_52 : decode cX4_say 52 = .ok (.iadd, 1) := dk_96 (dk_at dksX4_say_2 7 rfl rfl)
theorem dX4_say_53 : decode cX4_say 53 = .ok (.iload_n 2, 1) := dk_28 (dk_at dksX4_say_2 8 rfl rfl)
theorem dX4_say_54 : decode cX4_say 54 = .ok (.iastore, 1) := dk_79 (dk_at dksX4_say_2 9 rfl rfl)
theorem dX4_say_55 : decode cX4_say 55 = .ok (.iload_n 3, 1) := dk_29 (dk_at dksX4_say_2 10 rfl rfl)
theorem dX4_say_56 : decode cX4_say 56 = .ok (.ireturn, 1) := dk_172 (dk_at dksX4_say_2 11 rfl rfl)
abbrev cX4_send : ByteArray := prog_19_method_83_code
def yX4_send : MethodName := ⟨RX4, "send", "(I)I"⟩
def dkwX4_send_2 : List UInt8 := [16, 13, 46, 172]
abbrev dktX4_send_2 : List UInt8 := dkwX4_send_2 ++ []
def dkwX4_send_1 : List UInt8 := [4, 96, 182, 1, 50, 157, 0, 5, 2, 172, 42, 182, 1, 128, 42, 27, 182, 1, 104, 42, 180, 0, 39]
abbrev dktX4_send_1 : List UInt8 := dkwX4_send_1 ++ dktX4_send_2
def dkwX4_send_0 : List UInt8 := [42, 27, 182, 1, 57, 153, 0, 27, 42, 182, 1, 92, 154, 0, 20, 42, 42, 180, 0, 39, 16, 11, 46, 27]
abbrev dktX4_send_0 : List UInt8 := dkwX4_send_0 ++ dktX4_send_1
theorem dksX4_send_0 : cX4_send.data.toList.drop 0 = dktX4_send_0 := by decide +kernel
theorem dksX4_send_1 : cX4_send.data.toList.drop 24 = dktX4_send_1 := dk_seg dksX4_send_0 24 rfl rfl
theorem dksX4_send_2 : cX4_send.data.toList.drop 47 = dktX4_send_2 := dk_seg dksX4_send_1 23 rfl rfl
theorem dX4_send_0 : decode cX4_send 0 = .ok (.aload_n 0, 1) := dk_42 (dk_at dksX4_send_0 0 rfl rfl)
theorem dX4_send_1 : decode cX4_send 1 = .ok (.iload_n 1, 1) := dk_27 (dk_at dksX4_send_0 1 rfl rfl)
theorem dX4_send_2 : decode cX4_send 2 = .ok (.invokevirtual 313, 3) := dk_182 1 57 (dk_at dksX4_send_0 2 rfl rfl)
theorem dX4_send_5 : decode cX4_send 5 = .ok (.ifCond .eq 27, 3) := dk_153 0 27 (dk_at dksX4_send_0 5 rfl rfl)
theorem dX4_send_8 : decode cX4_send 8 = .ok (.aload_n 0, 1) := dk_42 (dk_at dksX4_send_0 8 rfl rfl)
theorem dX4_send_9 : decode cX4_send 9 = .ok (.invokevirtual 348, 3) := dk_182 1 92 (dk_at dksX4_send_0 9 rfl rfl)
theorem dX4_send_12 : decode cX4_send 12 = .ok (.ifCond .ne 20, 3) := dk_154 0 20 (dk_at dksX4_send_0 12 rfl rfl)
theorem dX4_send_15 : decode cX4_send 15 = .ok (.aload_n 0, 1) := dk_42 (dk_at dksX4_send_0 15 rfl rfl)
theorem dX4_send_16 : decode cX4_send 16 = .ok (.aload_n 0, 1) := dk_42 (dk_at dksX4_send_0 16 rfl rfl)
theorem dX4_send_17 : decode cX4_send 17 = .ok (.getfield 39, 3) := dk_180 0 39 (dk_at dksX4_send_0 17 rfl rfl)
theorem dX4_send_20 : decode cX4_send 20 = .ok (.bipush 11, 2) := dk_16 11 (dk_at dksX4_send_0 20 rfl rfl)
theorem dX4_send_22 : decode cX4_send 22 = .ok (.iaload, 1) := dk_46 (dk_at dksX4_send_0 22 rfl rfl)
theorem dX4_send_23 : decode cX4_send 23 = .ok (.iload_n 1, 1) := dk_27 (dk_at dksX4_send_0 23 rfl rfl)
theorem dX4_send_24 : decode cX4_send 24 = .ok (.iconst 1, 1) := dk_4 (dk_at dksX4_send_1 0 rfl rfl)
theorem dX4_send_25 : decode cX4_send 25 = .ok (.iadd, 1) := dk_96 (dk_at dksX4_send_1 1 rfl rfl)
theorem dX4_send_26 : decode cX4_send 26 = .ok (.invokevirtual 306, 3) := dk_182 1 50 (dk_at dksX4_send_1 2 rfl rfl)
theorem dX4_send_29 : decode cX4_send 29 = .ok (.ifCond .gt 5, 3) := dk_157 0 5 (dk_at dksX4_send_1 5 rfl rfl)
theorem dX4_send_32 : decode cX4_send 32 = .ok (.iconst (-1), 1) := dk_2 (dk_at dksX4_send_1 8 rfl rfl)
theorem dX4_send_33 : decode cX4_send 33 = .ok (.ireturn, 1) := dk_172 (dk_at dksX4_send_1 9 rfl rfl)
theorem dX4_send_34 : decode cX4_send 34 = .ok (.aload_n 0, 1) := dk_42 (dk_at dksX4_send_1 10 rfl rfl)
theorem dX4_send_35 : decode cX4_send 35 = .ok (.invokevirtual 384, 3) := dk_182 1 128 (dk_at dksX4_send_1 11 rfl rfl)
theorem dX4_send_38 : decode cX4_send 38 = .ok (.aload_n 0, 1) := dk_42 (dk_at dksX4_send_1 14 rfl rfl)
theorem dX4_send_39 : decode cX4_send 39 = .ok (.iload_n 1, 1) := dk_27 (dk_at dksX4_send_1 15 rfl rfl)
theorem dX4_send_40 : decode cX4_send 40 = .ok (.invokevirtual 360, 3) := dk_182 1 104 (dk_at dksX4_send_1 16 rfl rfl)
theorem dX4_send_43 : decode cX4_send 43 = .ok (.aload_n 0, 1) := dk_42 (dk_at dksX4_send_1 19 rfl rfl)
theorem dX4_send_44 : decode cX4_send 44 = .ok (.getfield 39, 3) := dk_180 0 39 (dk_at dksX4_send_1 20 rfl rfl)
theorem dX4_send_47 : decode cX4_send 47 = .ok (.bipush 13, 2) := dk_16 13 (dk_at dksX4_send_2 0 rfl rfl)
theorem dX4_send_49 : decode cX4_send 49 = .ok (.iaload, 1) := dk_46 (dk_at dksX4_send_2 2 rfl rfl)
theorem dX4_send_50 : decode cX4_send 50 = .ok (.ireturn, 1) := dk_172 (dk_at dksX4_send_2 3 rfl rfl)
abbrev cX4_ahead : ByteArray := prog_19_method_86_code
def yX4_ahead : MethodName := ⟨RX4, "ahead", "(III)I"⟩
def dkwX4_ahead_4 : List UInt8 := [21, 4, 172]
abbrev dktX4_ahead_4 : List UInt8 := dkwX4_ahead_4 ++ []
def dkwX4_ahead_3 : List UInt8 := [160, 0, 11, 42, 27, 182, 1, 41, 167, 0, 10, 42, 180, 0, 39, 16, 11, 46, 54, 4, 42, 182, 1, 146]
abbrev dktX4_ahead_3 : List UInt8 := dkwX4_ahead_3 ++ dktX4_ahead_4
def dkwX4_ahead_2 : List UInt8 := [42, 182, 1, 140, 42, 28, 182, 1, 143, 29, 154, 0, 11, 42, 27, 182, 1, 38, 167, 0, 23, 29, 4]
abbrev dktX4_ahead_2 : List UInt8 := dkwX4_ahead_2 ++ dktX4_ahead_3
def dkwX4_ahead_1 : List UInt8 := [20, 1, 138, 184, 0, 121, 153, 0, 16, 29, 5, 162, 0, 13, 42, 27, 182, 1, 57, 154, 0, 5, 2, 172]
abbrev dktX4_ahead_1 : List UInt8 := dkwX4_ahead_1 ++ dktX4_ahead_2
def dkwX4_ahead_0 : List UInt8 := [42, 182, 1, 60, 153, 0, 40, 28, 133, 9, 20, 1, 136, 184, 0, 121, 153, 0, 28, 29, 133, 9]
abbrev dktX4_ahead_0 : List UInt8 := dkwX4_ahead_0 ++ dktX4_ahead_1
theorem dksX4_ahead_0 : cX4_ahead.data.toList.drop 0 = dktX4_ahead_0 := by decide +kernel
theorem dksX4_ahead_1 : cX4_ahead.data.toList.drop 22 = dktX4_ahead_1 := dk_seg dksX4_ahead_0 22 rfl rfl
theorem dksX4_ahead_2 : cX4_ahead.data.toList.drop 46 = dktX4_ahead_2 := dk_seg dksX4_ahead_1 24 rfl rfl
theorem dksX4_ahead_3 : cX4_ahead.data.toList.drop 69 = dktX4_ahead_3 := dk_seg dksX4_ahead_2 23 rfl rfl
theorem dksX4_ahead_4 : cX4_ahead.data.toList.drop 93 = dktX4_ahead_4 := dk_seg dksX4_ahead_3 24 rfl rfl
theorem dX4_ahead_0 : decode cX4_ahead 0 = .ok (.aload_n 0, 1) := dk_42 (dk_at dksX4_ahead_0 0 rfl rfl)
theorem dX4_ahead_1 : decode cX4_ahead 1 = .ok (.invokevirtual 316, 3) := dk_182 1 60 (dk_at dksX4_ahead_0 1 rfl rfl)
theorem dX4_ahead_4 : decode cX4_ahead 4 = .ok (.ifCond .eq 40, 3) := dk_153 0 40 (dk_at dksX4_ahead_0 4 rfl rfl)
theorem dX4_ahead_7 : decode cX4_ahead 7 = .ok (.iload_n 2, 1) := dk_28 (dk_at dksX4_ahead_0 7 rfl rfl)
theorem dX4_ahead_8 : decode cX4_ahead 8 = .ok (.i2l, 1) := dk_133 (dk_at dksX4_ahead_0 8 rfl rfl)
theorem dX4_ahead_9 : decode cX4_ahead 9 = .ok (.lconst 0, 1) := dk_9 (dk_at dksX4_ahead_0 9 rfl rfl)
theorem dX4_ahead_10 : decode cX4_ahead 10 = .ok (.ldc2_w 392, 3) := dk_20 1 136 (dk_at dksX4_ahead_0 10 rfl rfl)
theorem dX4_ahead_13 : decode cX4_ahead 13 = .ok (.invokestatic 121, 3) := dk_184 0 121 (dk_at dksX4_ahead_0 13 rfl rfl)
theorem dX4_ahead_16 : decode cX4_ahead 16 = .ok (.ifCond .eq 28, 3) := dk_153 0 28 (dk_at dksX4_ahead_0 16 rfl rfl)
theorem dX4_ahead_19 : decode cX4_ahead 19 = .ok (.iload_n 3, 1) := dk_29 (dk_at dksX4_ahead_0 19 rfl rfl)
theorem dX4_ahead_20 : decode cX4_ahead 20 = .ok (.i2l, 1) := dk_133 (dk_at dksX4_ahead_0 20 rfl rfl)
theorem dX4_ahead_21 : decode cX4_ahead 21 = .ok (.lconst 0, 1) := dk_9 (dk_at dksX4_ahead_0 21 rfl rfl)
theorem dX4_ahead_22 : decode cX4_ahead 22 = .ok (.ldc2_w 394, 3) := dk_20 1 138 (dk_at dksX4_ahead_1 0 rfl rfl)
theorem dX4_ahead_25 : decode cX4_ahead 25 = .ok (.invokestatic 121, 3) := dk_184 0 121 (dk_at dksX4_ahead_1 3 rfl rfl)
theorem dX4_ahead_28 : decode cX4_ahead 28 = .ok (.ifCond .eq 16, 3) := dk_153 0 16 (dk_at dksX4_ahead_1 6 rfl rfl)
theorem dX4_ahead_31 : decode cX4_ahead 31 = .ok (.iload_n 3, 1) := dk_29 (dk_at dksX4_ahead_1 9 rfl rfl)
theorem dX4_ahead_32 : decode cX4_ahead 32 = .ok (.iconst 2, 1) := dk_5 (dk_at dksX4_ahead_1 10 rfl rfl)
theorem dX4_ahead_33 : decode cX4_ahead 33 = .ok (.if_icmp .ge 13, 3) := dk_162 0 13 (dk_at dksX4_ahead_1 11 rfl rfl)
theorem dX4_ahead_36 : decode cX4_ahead 36 = .ok (.aload_n 0, 1) := dk_42 (dk_at dksX4_ahead_1 14 rfl rfl)
theorem dX4_ahead_37 : decode cX4_ahead 37 = .ok (.iload_n 1, 1) := dk_27 (dk_at dksX4_ahead_1 15 rfl rfl)
theorem dX4_ahead_38 : decode cX4_ahead 38 = .ok (.invokevirtual 313, 3) := dk_182 1 57 (dk_at dksX4_ahead_1 16 rfl rfl)
theorem dX4_ahead_41 : decode cX4_ahead 41 = .ok (.ifCond .ne 5, 3) := dk_154 0 5 (dk_at dksX4_ahead_1 19 rfl rfl)
theorem dX4_ahead_44 : decode cX4_ahead 44 = .ok (.iconst (-1), 1) := dk_2 (dk_at dksX4_ahead_1 22 rfl rfl)
theorem dX4_ahead_45 : decode cX4_ahead 45 = .ok (.ireturn, 1) := dk_172 (dk_at dksX4_ahead_1 23 rfl rfl)
theorem dX4_ahead_46 : decode cX4_ahead 46 = .ok (.aload_n 0, 1) := dk_42 (dk_at dksX4_ahead_2 0 rfl rfl)
theorem dX4_ahead_47 : decode cX4_ahead 47 = .ok (.invokevirtual 396, 3) := dk_182 1 140 (dk_at dksX4_ahead_2 1 rfl rfl)
theorem dX4_ahead_50 : decode cX4_ahead 50 = .ok (.aload_n 0, 1) := dk_42 (dk_at dksX4_ahead_2 4 rfl rfl)
theorem dX4_ahead_51 : decode cX4_ahead 51 = .ok (.iload_n 2, 1) := dk_28 (dk_at dksX4_ahead_2 5 rfl rfl)
theorem dX4_ahead_52 : decode cX4_ahead 52 = .ok (.invokevirtual 399, 3) := dk_182 1 143 (dk_at dksX4_ahead_2 6 rfl rfl)
theorem dX4_ahead_55 : decode cX4_ahead 55 = .ok (.iload_n 3, 1) := dk_29 (dk_at dksX4_ahead_2 9 rfl rfl)
theorem dX4_ahead_56 : decode cX4_ahead 56 = .ok (.ifCond .ne 11, 3) := dk_154 0 11 (dk_at dksX4_ahead_2 10 rfl rfl)
theorem dX4_ahead_59 : decode cX4_ahead 59 = .ok (.aload_n 0, 1) := dk_42 (dk_at dksX4_ahead_2 13 rfl rfl)
theorem dX4_ahead_60 : decode cX4_ahead 60 = .ok (.iload_n 1, 1) := dk_27 (dk_at dksX4_ahead_2 14 rfl rfl)
theorem dX4_ahead_61 : decode cX4_ahead 61 = .ok (.invokevirtual 294, 3) := dk_182 1 38 (dk_at dksX4_ahead_2 15 rfl rfl)
theorem dX4_ahead_64 : decode cX4_ahead 64 = .ok (.goto 23, 3) := dk_167 0 23 (dk_at dksX4_ahead_2 18 rfl rfl)
theorem dX4_ahead_67 : decode cX4_ahead 67 = .ok (.iload_n 3, 1) := dk_29 (dk_at dksX4_ahead_2 21 rfl rfl)
theorem dX4_ahead_68 : decode cX4_ahead 68 = .ok (.iconst 1, 1) := dk_4 (dk_at dksX4_ahead_2 22 rfl rfl)
theorem dX4_ahead_69 : decode cX4_ahead 69 = .ok (.if_icmp .ne 11, 3) := dk_160 0 11 (dk_at dksX4_ahead_3 0 rfl rfl)
theorem dX4_ahead_72 : decode cX4_ahead 72 = .ok (.aload_n 0, 1) := dk_42 (dk_at dksX4_ahead_3 3 rfl rfl)
theorem dX4_ahead_73 : decode cX4_ahead 73 = .ok (.iload_n 1, 1) := dk_27 (dk_at dksX4_ahead_3 4 rfl rfl)
theorem dX4_ahead_74 : decode cX4_ahead 74 = .ok (.invokevirtual 297, 3) := dk_182 1 41 (dk_at dksX4_ahead_3 5 rfl rfl)
theorem dX4_ahead_77 : decode cX4_ahead 77 = .ok (.goto 10, 3) := dk_167 0 10 (dk_at dksX4_ahead_3 8 rfl rfl)
theorem dX4_ahead_80 : decode cX4_ahead 80 = .ok (.aload_n 0, 1) := dk_42 (dk_at dksX4_ahead_3 11 rfl rfl)
theorem dX4_ahead_81 : decode cX4_ahead 81 = .ok (.getfield 39, 3) := dk_180 0 39 (dk_at dksX4_ahead_3 12 rfl rfl)
theorem dX4_ahead_84 : decode cX4_ahead 84 = .ok (.bipush 11, 2) := dk_16 11 (dk_at dksX4_ahead_3 15 rfl rfl)
theorem dX4_ahead_86 : decode cX4_ahead 86 = .ok (.iaload, 1) := dk_46 (dk_at dksX4_ahead_3 17 rfl rfl)
theorem dX4_ahead_87 : decode cX4_ahead 87 = .ok (.istore 4, 2) := dk_54 4 (dk_at dksX4_ahead_3 18 rfl rfl)
theorem dX4_ahead_89 : decode cX4_ahead 89 = .ok (.aload_n 0, 1) := dk_42 (dk_at dksX4_ahead_3 20 rfl rfl)
theorem dX4_ahead_90 : decode cX4_ahead 90 = .ok (.invokevirtual 402, 3) := dk_182 1 146 (dk_at dksX4_ahead_3 21 rfl rfl)
theorem dX4_ahead_93 : decode cX4_ahead 93 = .ok (.iload 4, 2) := dk_21 4 (dk_at dksX4_ahead_4 0 rfl rfl)
theorem dX4_ahead_95 : decode cX4_ahead 95 = .ok (.ireturn, 1) := dk_172 (dk_at dksX4_ahead_4 2 rfl rfl)
abbrev cX4_keeps : ByteArray := prog_19_method_84_code
def yX4_keeps : MethodName := ⟨RX4, "keeps", "()V"⟩
def dkwX4_keeps_1 : List UInt8 := [132, 1, 1, 167, 255, 232, 177]
abbrev dktX4_keeps_1 : List UInt8 := dkwX4_keeps_1 ++ []
def dkwX4_keeps_0 : List UInt8 := [3, 60, 27, 16, 28, 162, 0, 24, 42, 180, 0, 55, 27, 42, 180, 0, 39, 16, 10, 27, 96, 46, 79]
abbrev dktX4_keeps_0 : List UInt8 := dkwX4_keeps_0 ++ dktX4_keeps_1
theorem dksX4_keeps_0 : cX4_keeps.data.toList.drop 0 = dktX4_keeps_0 := by decide +kernel
theorem dksX4_keeps_1 : cX4_keeps.data.toList.drop 23 = dktX4_keeps_1 := dk_seg dksX4_keeps_0 23 rfl rfl
theorem dX4_keeps_0 : decode cX4_keeps 0 = .ok (.iconst 0, 1) := dk_3 (dk_at dksX4_keeps_0 0 rfl rfl)
theorem dX4_keeps_1 : decode cX4_keeps 1 = .ok (.istore_n 1, 1) := dk_60 (dk_at dksX4_keeps_0 1 rfl rfl)
theorem dX4_keeps_2 : decode cX4_keeps 2 = .ok (.iload_n 1, 1) := dk_27 (dk_at dksX4_keeps_0 2 rfl rfl)
theorem dX4_keeps_3 : decode cX4_keeps 3 = .ok (.bipush 28, 2) := dk_16 28 (dk_at dksX4_keeps_0 3 rfl rfl)
theorem dX4_keeps_5 : decode cX4_keeps 5 = .ok (.if_icmp .ge 24, 3) := dk_162 0 24 (dk_at dksX4_keeps_0 5 rfl rfl)
theorem dX4_keeps_8 : decode cX4_keeps 8 = .ok (.aload_n 0, 1) := dk_42 (dk_at dksX4_keeps_0 8 rfl rfl)
theorem dX4_keeps_9 : decode cX4_keeps 9 = .ok (.getfield 55, 3) := dk_180 0 55 (dk_at dksX4_keeps_0 9 rfl rfl)
theorem dX4_keeps_12 : decode cX4_keeps 12 = .ok (.iload_n 1, 1) := dk_27 (dk_at dksX4_keeps_0 12 rfl rfl)
theorem dX4_keeps_13 : decode cX4_keeps 13 = .ok (.aload_n 0, 1) := dk_42 (dk_at dksX4_keeps_0 13 rfl rfl)
theorem dX4_keeps_14 : decode cX4_keeps 14 = .ok (.getfield 39, 3) := dk_180 0 39 (dk_at dksX4_keeps_0 14 rfl rfl)
theorem dX4_keeps_17 : decode cX4_keeps 17 = .ok (.bipush 10, 2) := dk_16 10 (dk_at dksX4_keeps_0 17 rfl rfl)
theorem dX4_keeps_19 : decode cX4_keeps 19 = .ok (.iload_n 1, 1) := dk_27 (dk_at dksX4_keeps_0 19 rfl rfl)
theorem dX4_keeps_20 : decode cX4_keeps 20 = .ok (.iadd, 1) := dk_96 (dk_at dksX4_keeps_0 20 rfl rfl)
theorem dX4_keeps_21 : decode cX4_keeps 21 = .ok (.iaload, 1) := dk_46 (dk_at dksX4_keeps_0 21 rfl rfl)
theorem dX4_keeps_22 : decode cX4_keeps 22 = .ok (.iastore, 1) := dk_79 (dk_at dksX4_keeps_0 22 rfl rfl)
theorem dX4_keeps_23 : decode cX4_keeps 23 = .ok (.iinc 1 1, 3) := dk_132 1 1 (dk_at dksX4_keeps_1 0 rfl rfl)
theorem dX4_keeps_26 : decode cX4_keeps 26 = .ok (.goto (-24), 3) := dk_167 255 232 (dk_at dksX4_keeps_1 3 rfl rfl)
theorem dX4_keeps_29 : decode cX4_keeps 29 = .ok (.return_, 1) := dk_177 (dk_at dksX4_keeps_1 6 rfl rfl)
abbrev cX4_passesAll : ByteArray := prog_19_method_75_code
def yX4_passesAll : MethodName := ⟨RX4, "passesAll", "(I)V"⟩
def dkwX4_passesAll_0 : List UInt8 := [3, 61, 28, 27, 162, 0, 14, 42, 182, 1, 125, 87, 132, 2, 1, 167, 255, 243, 177]
abbrev dktX4_passesAll_0 : List UInt8 := dkwX4_passesAll_0 ++ []
theorem dksX4_passesAll_0 : cX4_passesAll.data.toList.drop 0 = dktX4_passesAll_0 := by decide +kernel
theorem dX4_passesAll_0 : decode cX4_passesAll 0 = .ok (.iconst 0, 1) := dk_3 (dk_at dksX4_passesAll_0 0 rfl rfl)
theorem dX4_passesAll_1 : decode cX4_passesAll 1 = .ok (.istore_n 2, 1) := dk_61 (dk_at dksX4_passesAll_0 1 rfl rfl)
theorem dX4_passesAll_2 : decode cX4_passesAll 2 = .ok (.iload_n 2, 1) := dk_28 (dk_at dksX4_passesAll_0 2 rfl rfl)
theorem dX4_passesAll_3 : decode cX4_passesAll 3 = .ok (.iload_n 1, 1) := dk_27 (dk_at dksX4_passesAll_0 3 rfl rfl)
theorem dX4_passesAll_4 : decode cX4_passesAll 4 = .ok (.if_icmp .ge 14, 3) := dk_162 0 14 (dk_at dksX4_passesAll_0 4 rfl rfl)
theorem dX4_passesAll_7 : decode cX4_passesAll 7 = .ok (.aload_n 0, 1) := dk_42 (dk_at dksX4_passesAll_0 7 rfl rfl)
theorem dX4_passesAll_8 : decode cX4_passesAll 8 = .ok (.invokevirtual 381, 3) := dk_182 1 125 (dk_at dksX4_passesAll_0 8 rfl rfl)
theorem dX4_passesAll_11 : decode cX4_passesAll 11 = .ok (.pop, 1) := dk_87 (dk_at dksX4_passesAll_0 11 rfl rfl)
theorem dX4_passesAll_12 : decode cX4_passesAll 12 = .ok (.iinc 2 1, 3) := dk_132 2 1 (dk_at dksX4_passesAll_0 12 rfl rfl)
theorem dX4_passesAll_15 : decode cX4_passesAll 15 = .ok (.goto (-13), 3) := dk_167 255 243 (dk_at dksX4_passesAll_0 15 rfl rfl)
theorem dX4_passesAll_18 : decode cX4_passesAll 18 = .ok (.return_, 1) := dk_177 (dk_at dksX4_passesAll_0 18 rfl rfl)
abbrev cX4_laysBack : ByteArray := prog_19_method_85_code
def yX4_laysBack : MethodName := ⟨RX4, "laysBack", "()V"⟩
def dkwX4_laysBack_1 : List UInt8 := [132, 1, 1, 167, 255, 232, 177]
abbrev dktX4_laysBack_1 : List UInt8 := dkwX4_laysBack_1 ++ []
def dkwX4_laysBack_0 : List UInt8 := [3, 60, 27, 16, 28, 162, 0, 24, 42, 180, 0, 39, 16, 10, 27, 96, 42, 180, 0, 55, 27, 46, 79]
abbrev dktX4_laysBack_0 : List UInt8 := dkwX4_laysBack_0 ++ dktX4_laysBack_1
theorem dksX4_laysBack_0 : cX4_laysBack.data.toList.drop 0 = dktX4_laysBack_0 := by decide +kernel
theorem dksX4_laysBack_1 : cX4_laysBack.data.toList.drop 23 = dktX4_laysBack_1 := dk_seg dksX4_laysBack_0 23 rfl rfl
theorem dX4_laysBack_0 : decode cX4_laysBack 0 = .ok (.iconst 0, 1) := dk_3 (dk_at dksX4_laysBack_0 0 rfl rfl)
theorem dX4_laysBack_1 : decode cX4_laysBack 1 = .ok (.istore_n 1, 1) := dk_60 (dk_at dksX4_laysBack_0 1 rfl rfl)
theorem dX4_laysBack_2 : decode cX4_laysBack 2 = .ok (.iload_n 1, 1) := dk_27 (dk_at dksX4_laysBack_0 2 rfl rfl)
theorem dX4_laysBack_3 : decode cX4_laysBack 3 = .ok (.bipush 28, 2) := dk_16 28 (dk_at dksX4_laysBack_0 3 rfl rfl)
theorem dX4_laysBack_5 : decode cX4_laysBack 5 = .ok (.if_icmp .ge 24, 3) := dk_162 0 24 (dk_at dksX4_laysBack_0 5 rfl rfl)
theorem dX4_laysBack_8 : decode cX4_laysBack 8 = .ok (.aload_n 0, 1) := dk_42 (dk_at dksX4_laysBack_0 8 rfl rfl)
theorem dX4_laysBack_9 : decode cX4_laysBack 9 = .ok (.getfield 39, 3) := dk_180 0 39 (dk_at dksX4_laysBack_0 9 rfl rfl)
theorem dX4_laysBack_12 : decode cX4_laysBack 12 = .ok (.bipush 10, 2) := dk_16 10 (dk_at dksX4_laysBack_0 12 rfl rfl)
theorem dX4_laysBack_14 : decode cX4_laysBack 14 = .ok (.iload_n 1, 1) := dk_27 (dk_at dksX4_laysBack_0 14 rfl rfl)
theorem dX4_laysBack_15 : decode cX4_laysBack 15 = .ok (.iadd, 1) := dk_96 (dk_at dksX4_laysBack_0 15 rfl rfl)
theorem dX4_laysBack_16 : decode cX4_laysBack 16 = .ok (.aload_n 0, 1) := dk_42 (dk_at dksX4_laysBack_0 16 rfl rfl)
theorem dX4_laysBack_17 : decode cX4_laysBack 17 = .ok (.getfield 55, 3) := dk_180 0 55 (dk_at dksX4_laysBack_0 17 rfl rfl)
theorem dX4_laysBack_20 : decode cX4_laysBack 20 = .ok (.iload_n 1, 1) := dk_27 (dk_at dksX4_laysBack_0 20 rfl rfl)
theorem dX4_laysBack_21 : decode cX4_laysBack 21 = .ok (.iaload, 1) := dk_46 (dk_at dksX4_laysBack_0 21 rfl rfl)
theorem dX4_laysBack_22 : decode cX4_laysBack 22 = .ok (.iastore, 1) := dk_79 (dk_at dksX4_laysBack_0 22 rfl rfl)
theorem dX4_laysBack_23 : decode cX4_laysBack 23 = .ok (.iinc 1 1, 3) := dk_132 1 1 (dk_at dksX4_laysBack_1 0 rfl rfl)
theorem dX4_laysBack_26 : decode cX4_laysBack 26 = .ok (.goto (-24), 3) := dk_167 255 232 (dk_at dksX4_laysBack_1 3 rfl rfl)
theorem dX4_laysBack_29 : decode cX4_laysBack 29 = .ok (.return_, 1) := dk_177 (dk_at dksX4_laysBack_1 6 rfl rfl)
abbrev cX4_left : ByteArray := prog_19_method_88_code
def yX4_left : MethodName := ⟨RX4, "left", "(I)I"⟩
def dkwX4_left_1 : List UInt8 := [182, 1, 140, 42, 27, 182, 1, 149, 172]
abbrev dktX4_left_1 : List UInt8 := dkwX4_left_1 ++ []
def dkwX4_left_0 : List UInt8 := [42, 182, 1, 60, 153, 0, 15, 27, 133, 9, 20, 1, 136, 184, 0, 121, 154, 0, 5, 2, 172, 42]
abbrev dktX4_left_0 : List UInt8 := dkwX4_left_0 ++ dktX4_left_1
theorem dksX4_left_0 : cX4_left.data.toList.drop 0 = dktX4_left_0 := by decide +kernel
theorem dksX4_left_1 : cX4_left.data.toList.drop 22 = dktX4_left_1 := dk_seg dksX4_left_0 22 rfl rfl
theorem dX4_left_0 : decode cX4_left 0 = .ok (.aload_n 0, 1) := dk_42 (dk_at dksX4_left_0 0 rfl rfl)
theorem dX4_left_1 : decode cX4_left 1 = .ok (.invokevirtual 316, 3) := dk_182 1 60 (dk_at dksX4_left_0 1 rfl rfl)
theorem dX4_left_4 : decode cX4_left 4 = .ok (.ifCond .eq 15, 3) := dk_153 0 15 (dk_at dksX4_left_0 4 rfl rfl)
theorem dX4_left_7 : decode cX4_left 7 = .ok (.iload_n 1, 1) := dk_27 (dk_at dksX4_left_0 7 rfl rfl)
theorem dX4_left_8 : decode cX4_left 8 = .ok (.i2l, 1) := dk_133 (dk_at dksX4_left_0 8 rfl rfl)
theorem dX4_left_9 : decode cX4_left 9 = .ok (.lconst 0, 1) := dk_9 (dk_at dksX4_left_0 9 rfl rfl)
theorem dX4_left_10 : decode cX4_left 10 = .ok (.ldc2_w 392, 3) := dk_20 1 136 (dk_at dksX4_left_0 10 rfl rfl)
theorem dX4_left_13 : decode cX4_left 13 = .ok (.invokestatic 121, 3) := dk_184 0 121 (dk_at dksX4_left_0 13 rfl rfl)
theorem dX4_left_16 : decode cX4_left 16 = .ok (.ifCond .ne 5, 3) := dk_154 0 5 (dk_at dksX4_left_0 16 rfl rfl)
theorem dX4_left_19 : decode cX4_left 19 = .ok (.iconst (-1), 1) := dk_2 (dk_at dksX4_left_0 19 rfl rfl)
theorem dX4_left_20 : decode cX4_left 20 = .ok (.ireturn, 1) := dk_172 (dk_at dksX4_left_0 20 rfl rfl)
theorem dX4_left_21 : decode cX4_left 21 = .ok (.aload_n 0, 1) := dk_42 (dk_at dksX4_left_0 21 rfl rfl)
theorem dX4_left_22 : decode cX4_left 22 = .ok (.invokevirtual 396, 3) := dk_182 1 140 (dk_at dksX4_left_1 0 rfl rfl)
theorem dX4_left_25 : decode cX4_left 25 = .ok (.aload_n 0, 1) := dk_42 (dk_at dksX4_left_1 3 rfl rfl)
theorem dX4_left_26 : decode cX4_left 26 = .ok (.iload_n 1, 1) := dk_27 (dk_at dksX4_left_1 4 rfl rfl)
theorem dX4_left_27 : decode cX4_left 27 = .ok (.invokevirtual 405, 3) := dk_182 1 149 (dk_at dksX4_left_1 5 rfl rfl)
theorem dX4_left_30 : decode cX4_left 30 = .ok (.ireturn, 1) := dk_172 (dk_at dksX4_left_1 8 rfl rfl)
abbrev cX4_worthIn : ByteArray := prog_19_method_87_code
def yX4_worthIn : MethodName := ⟨RX4, "worthIn", "(I)I"⟩
def dkwX4_worthIn_0 : List UInt8 := [42, 27, 182, 1, 143, 42, 182, 1, 110, 61, 42, 182, 1, 146, 28, 172]
abbrev dktX4_worthIn_0 : List UInt8 := dkwX4_worthIn_0 ++ []
theorem dksX4_worthIn_0 : cX4_worthIn.data.toList.drop 0 = dktX4_worthIn_0 := by decide +kernel
theorem dX4_worthIn_0 : decode cX4_worthIn 0 = .ok (.aload_n 0, 1) := dk_42 (dk_at dksX4_worthIn_0 0 rfl rfl)
theorem dX4_worthIn_1 : decode cX4_worthIn 1 = .ok (.iload_n 1, 1) := dk_27 (dk_at dksX4_worthIn_0 1 rfl rfl)
theorem dX4_worthIn_2 : decode cX4_worthIn 2 = .ok (.invokevirtual 399, 3) := dk_182 1 143 (dk_at dksX4_worthIn_0 2 rfl rfl)
theorem dX4_worthIn_5 : decode cX4_worthIn 5 = .ok (.aload_n 0, 1) := dk_42 (dk_at dksX4_worthIn_0 5 rfl rfl)
theorem dX4_worthIn_6 : decode cX4_worthIn 6 = .ok (.invokevirtual 366, 3) := dk_182 1 110 (dk_at dksX4_worthIn_0 6 rfl rfl)
theorem dX4_worthIn_9 : decode cX4_worthIn 9 = .ok (.istore_n 2, 1) := dk_61 (dk_at dksX4_worthIn_0 9 rfl rfl)
theorem dX4_worthIn_10 : decode cX4_worthIn 10 = .ok (.aload_n 0, 1) := dk_42 (dk_at dksX4_worthIn_0 10 rfl rfl)
theorem dX4_worthIn_11 : decode cX4_worthIn 11 = .ok (.invokevirtual 402, 3) := dk_182 1 146 (dk_at dksX4_worthIn_0 11 rfl rfl)
theorem dX4_worthIn_14 : decode cX4_worthIn 14 = .ok (.iload_n 2, 1) := dk_28 (dk_at dksX4_worthIn_0 14 rfl rfl)
theorem dX4_worthIn_15 : decode cX4_worthIn 15 = .ok (.ireturn, 1) := dk_172 (dk_at dksX4_worthIn_0 15 rfl rfl)
abbrev cX4_out : ByteArray := prog_19_method_89_code
def yX4_out : MethodName := ⟨RX4, "out", "()I"⟩
def dkwX4_out_2 : List UInt8 := [182, 1, 125, 87, 132, 2, 1, 167, 255, 222, 42, 182, 1, 146, 27, 172]
abbrev dktX4_out_2 : List UInt8 := dkwX4_out_2 ++ []
def dkwX4_out_1 : List UInt8 := [162, 0, 33, 27, 156, 0, 29, 42, 182, 1, 73, 154, 0, 11, 42, 180, 0, 39, 16, 10, 46, 60, 42]
abbrev dktX4_out_1 : List UInt8 := dkwX4_out_1 ++ dktX4_out_2
def dkwX4_out_0 : List UInt8 := [42, 182, 1, 60, 154, 0, 5, 2, 172, 16, 254, 60, 42, 182, 1, 140, 3, 61, 28, 17, 0, 200]
abbrev dktX4_out_0 : List UInt8 := dkwX4_out_0 ++ dktX4_out_1
theorem dksX4_out_0 : cX4_out.data.toList.drop 0 = dktX4_out_0 := by decide +kernel
theorem dksX4_out_1 : cX4_out.data.toList.drop 22 = dktX4_out_1 := dk_seg dksX4_out_0 22 rfl rfl
theorem dksX4_out_2 : cX4_out.data.toList.drop 45 = dktX4_out_2 := dk_seg dksX4_out_1 23 rfl rfl
theorem dX4_out_0 : decode cX4_out 0 = .ok (.aload_n 0, 1) := dk_42 (dk_at dksX4_out_0 0 rfl rfl)
theorem dX4_out_1 : decode cX4_out 1 = .ok (.invokevirtual 316, 3) := dk_182 1 60 (dk_at dksX4_out_0 1 rfl rfl)
theorem dX4_out_4 : decode cX4_out 4 = .ok (.ifCond .ne 5, 3) := dk_154 0 5 (dk_at dksX4_out_0 4 rfl rfl)
theorem dX4_out_7 : decode cX4_out 7 = .ok (.iconst (-1), 1) := dk_2 (dk_at dksX4_out_0 7 rfl rfl)
theorem dX4_out_8 : decode cX4_out 8 = .ok (.ireturn, 1) := dk_172 (dk_at dksX4_out_0 8 rfl rfl)
theorem dX4_out_9 : decode cX4_out 9 = .ok (.bipush (-2), 2) := dk_16 254 (dk_at dksX4_out_0 9 rfl rfl)
theorem dX4_out_11 : decode cX4_out 11 = .ok (.istore_n 1, 1) := dk_60 (dk_at dksX4_out_0 11 rfl rfl)
theorem dX4_out_12 : decode cX4_out 12 = .ok (.aload_n 0, 1) := dk_42 (dk_at dksX4_out_0 12 rfl rfl)
theorem dX4_out_13 : decode cX4_out 13 = .ok (.invokevirtual 396, 3) := dk_182 1 140 (dk_at dksX4_out_0 13 rfl rfl)
theorem dX4_out_16 : decode cX4_out 16 = .ok (.iconst 0, 1) := dk_3 (dk_at dksX4_out_0 16 rfl rfl)
theorem dX4_out_17 : decode cX4_out 17 = .ok (.istore_n 2, 1) := dk_61 (dk_at dksX4_out_0 17 rfl rfl)
theorem dX4_out_18 : decode cX4_out 18 = .ok (.iload_n 2, 1) := dk_28 (dk_at dksX4_out_0 18 rfl rfl)
theorem dX4_out_19 : decode cX4_out 19 = .ok (.sipush 200, 3) := dk_17 0 200 (dk_at dksX4_out_0 19 rfl rfl)
theorem dX4_out_22 : decode cX4_out 22 = .ok (.if_icmp .ge 33, 3) := dk_162 0 33 (dk_at dksX4_out_1 0 rfl rfl)
theorem dX4_out_25 : decode cX4_out 25 = .ok (.iload_n 1, 1) := dk_27 (dk_at dksX4_out_1 3 rfl rfl)
theorem dX4_out_26 : decode cX4_out 26 = .ok (.ifCond .ge 29, 3) := dk_156 0 29 (dk_at dksX4_out_1 4 rfl rfl)
theorem dX4_out_29 : decode cX4_out 29 = .ok (.aload_n 0, 1) := dk_42 (dk_at dksX4_out_1 7 rfl rfl)
theorem dX4_out_30 : decode cX4_out 30 = .ok (.invokevirtual 329, 3) := dk_182 1 73 (dk_at dksX4_out_1 8 rfl rfl)
theorem dX4_out_33 : decode cX4_out 33 = .ok (.ifCond .ne 11, 3) := dk_154 0 11 (dk_at dksX4_out_1 11 rfl rfl)
theorem dX4_out_36 : decode cX4_out 36 = .ok (.aload_n 0, 1) := dk_42 (dk_at dksX4_out_1 14 rfl rfl)
theorem dX4_out_37 : decode cX4_out 37 = .ok (.getfield 39, 3) := dk_180 0 39 (dk_at dksX4_out_1 15 rfl rfl)
theorem dX4_out_40 : decode cX4_out 40 = .ok (.bipush 10, 2) := dk_16 10 (dk_at dksX4_out_1 18 rfl rfl)
theorem dX4_out_42 : decode cX4_out 42 = .ok (.iaload, 1) := dk_46 (dk_at dksX4_out_1 20 rfl rfl)
theorem dX4_out_43 : decode cX4_out 43 = .ok (.istore_n 1, 1) := dk_60 (dk_at dksX4_out_1 21 rfl rfl)
theorem dX4_out_44 : decode cX4_out 44 = .ok (.aload_n 0, 1) := dk_42 (dk_at dksX4_out_1 22 rfl rfl)
theorem dX4_out_45 : decode cX4_out 45 = .ok (.invokevirtual 381, 3) := dk_182 1 125 (dk_at dksX4_out_2 0 rfl rfl)
theorem dX4_out_48 : decode cX4_out 48 = .ok (.pop, 1) := dk_87 (dk_at dksX4_out_2 3 rfl rfl)
theorem dX4_out_49 : decode cX4_out 49 = .ok (.iinc 2 1, 3) := dk_132 2 1 (dk_at dksX4_out_2 4 rfl rfl)
theorem dX4_out_52 : decode cX4_out 52 = .ok (.goto (-34), 3) := dk_167 255 222 (dk_at dksX4_out_2 7 rfl rfl)
theorem dX4_out_55 : decode cX4_out 55 = .ok (.aload_n 0, 1) := dk_42 (dk_at dksX4_out_2 10 rfl rfl)
theorem dX4_out_56 : decode cX4_out 56 = .ok (.invokevirtual 402, 3) := dk_182 1 146 (dk_at dksX4_out_2 11 rfl rfl)
theorem dX4_out_59 : decode cX4_out 59 = .ok (.iload_n 1, 1) := dk_27 (dk_at dksX4_out_2 14 rfl rfl)
theorem dX4_out_60 : decode cX4_out 60 = .ok (.ireturn, 1) := dk_172 (dk_at dksX4_out_2 15 rfl rfl)
abbrev cX4_canBurn : ByteArray := prog_19_method_90_code
def yX4_canBurn : MethodName := ⟨RX4, "canBurn", "()I"⟩
def dkwX4_canBurn_3 : List UInt8 := [128, 60, 4, 61, 132, 3, 1, 167, 255, 202, 167, 255, 191, 27, 172]
abbrev dktX4_canBurn_3 : List UInt8 := dkwX4_canBurn_3 ++ []
def dkwX4_canBurn_2 : List UInt8 := [153, 0, 28, 42, 180, 0, 39, 16, 38, 29, 96, 46, 27, 126, 154, 0, 6, 167, 0, 11, 27, 4, 29, 120]
abbrev dktX4_canBurn_2 : List UInt8 := dkwX4_canBurn_2 ++ dktX4_canBurn_3
def dkwX4_canBurn_1 : List UInt8 := [29, 42, 180, 0, 39, 6, 46, 162, 0, 50, 27, 29, 184, 1, 152, 154, 0, 36, 42, 29, 182, 1, 41]
abbrev dktX4_canBurn_1 : List UInt8 := dkwX4_canBurn_1 ++ dktX4_canBurn_2
def dkwX4_canBurn_0 : List UInt8 := [42, 182, 1, 60, 154, 0, 5, 2, 172, 42, 182, 1, 73, 60, 4, 61, 28, 153, 0, 67, 3, 61, 3, 62]
abbrev dktX4_canBurn_0 : List UInt8 := dkwX4_canBurn_0 ++ dktX4_canBurn_1
theorem dksX4_canBurn_0 : cX4_canBurn.data.toList.drop 0 = dktX4_canBurn_0 := by decide +kernel
theorem dksX4_canBurn_1 : cX4_canBurn.data.toList.drop 24 = dktX4_canBurn_1 := dk_seg dksX4_canBurn_0 24 rfl rfl
theorem dksX4_canBurn_2 : cX4_canBurn.data.toList.drop 47 = dktX4_canBurn_2 := dk_seg dksX4_canBurn_1 23 rfl rfl
theorem dksX4_canBurn_3 : cX4_canBurn.data.toList.drop 71 = dktX4_canBurn_3 := dk_seg dksX4_canBurn_2 24 rfl rfl
theorem dX4_canBurn_0 : decode cX4_canBurn 0 = .ok (.aload_n 0, 1) := dk_42 (dk_at dksX4_canBurn_0 0 rfl rfl)
theorem dX4_canBurn_1 : decode cX4_canBurn 1 = .ok (.invokevirtual 316, 3) := dk_182 1 60 (dk_at dksX4_canBurn_0 1 rfl rfl)
theorem dX4_canBurn_4 : decode cX4_canBurn 4 = .ok (.ifCond .ne 5, 3) := dk_154 0 5 (dk_at dksX4_canBurn_0 4 rfl rfl)
theorem dX4_canBurn_7 : decode cX4_canBurn 7 = .ok (.iconst (-1), 1) := dk_2 (dk_at dksX4_canBurn_0 7 rfl rfl)
theorem dX4_canBurn_8 : decode cX4_canBurn 8 = .ok (.ireturn, 1) := dk_172 (dk_at dksX4_canBurn_0 8 rfl rfl)
theorem dX4_canBurn_9 : decode cX4_canBurn 9 = .ok (.aload_n 0, 1) := dk_42 (dk_at dksX4_canBurn_0 9 rfl rfl)
theorem dX4_canBurn_10 : decode cX4_canBurn 10 = .ok (.invokevirtual 329, 3) := dk_182 1 73 (dk_at dksX4_canBurn_0 10 rfl rfl)
theorem dX4_canBurn_13 : decode cX4_canBurn 13 = .ok (.istore_n 1, 1) := dk_60 (dk_at dksX4_canBurn_0 13 rfl rfl)
theorem dX4_canBurn_14 : decode cX4_canBurn 14 = .ok (.iconst 1, 1) := dk_4 (dk_at dksX4_canBurn_0 14 rfl rfl)
theorem dX4_canBurn_15 : decode cX4_canBurn 15 = .ok (.istore_n 2, 1) := dk_61 (dk_at dksX4_canBurn_0 15 rfl rfl)
theorem dX4_canBurn_16 : decode cX4_canBurn 16 = .ok (.iload_n 2, 1) := dk_28 (dk_at dksX4_canBurn_0 16 rfl rfl)
theorem dX4_canBurn_17 : decode cX4_canBurn 17 = .ok (.ifCond .eq 67, 3) := dk_153 0 67 (dk_at dksX4_canBurn_0 17 rfl rfl)
theorem dX4_canBurn_20 : decode cX4_canBurn 20 = .ok (.iconst 0, 1) := dk_3 (dk_at dksX4_canBurn_0 20 rfl rfl)
theorem dX4_canBurn_21 : decode cX4_canBurn 21 = .ok (.istore_n 2, 1) := dk_61 (dk_at dksX4_canBurn_0 21 rfl rfl)
theorem dX4_canBurn_22 : decode cX4_canBurn 22 = .ok (.iconst 0, 1) := dk_3 (dk_at dksX4_canBurn_0 22 rfl rfl)
theorem dX4_canBurn_23 : decode cX4_canBurn 23 = .ok (.istore_n 3, 1) := dk_62 (dk_at dksX4_canBurn_0 23 rfl rfl)
theorem dX4_canBurn_24 : decode cX4_canBurn 24 = .ok (.iload_n 3, 1) := dk_29 (dk_at dksX4_canBurn_1 0 rfl rfl)
theorem dX4_canBurn_25 : decode cX4_canBurn 25 = .ok (.aload_n 0, 1) := dk_42 (dk_at dksX4_canBurn_1 1 rfl rfl)
theorem dX4_canBurn_26 : decode cX4_canBurn 26 = .ok (.getfield 39, 3) := dk_180 0 39 (dk_at dksX4_canBurn_1 2 rfl rfl)
theorem dX4_canBurn_29 : decode cX4_canBurn 29 = .ok (.iconst 3, 1) := dk_6 (dk_at dksX4_canBurn_1 5 rfl rfl)
theorem dX4_canBurn_30 : decode cX4_canBurn 30 = .ok (.iaload, 1) := dk_46 (dk_at dksX4_canBurn_1 6 rfl rfl)
theorem dX4_canBurn_31 : decode cX4_canBurn 31 = .ok (.if_icmp .ge 50, 3) := dk_162 0 50 (dk_at dksX4_canBurn_1 7 rfl rfl)
theorem dX4_canBurn_34 : decode cX4_canBurn 34 = .ok (.iload_n 1, 1) := dk_27 (dk_at dksX4_canBurn_1 10 rfl rfl)
theorem dX4_canBurn_35 : decode cX4_canBurn 35 = .ok (.iload_n 3, 1) := dk_29 (dk_at dksX4_canBurn_1 11 rfl rfl)
theorem dX4_canBurn_36 : decode cX4_canBurn 36 = .ok (.invokestatic 408, 3) := dk_184 1 152 (dk_at dksX4_canBurn_1 12 rfl rfl)
theorem dX4_canBurn_39 : decode cX4_canBurn 39 = .ok (.ifCond .ne 36, 3) := dk_154 0 36 (dk_at dksX4_canBurn_1 15 rfl rfl)
theorem dX4_canBurn_42 : decode cX4_canBurn 42 = .ok (.aload_n 0, 1) := dk_42 (dk_at dksX4_canBurn_1 18 rfl rfl)
theorem dX4_canBurn_43 : decode cX4_canBurn 43 = .ok (.iload_n 3, 1) := dk_29 (dk_at dksX4_canBurn_1 19 rfl rfl)
theorem dX4_canBurn_44 : decode cX4_canBurn 44 = .ok (.invokevirtual 297, 3) := dk_182 1 41 (dk_at dksX4_canBurn_1 20 rfl rfl)
theorem dX4_canBurn_47 : decode cX4_canBurn 47 = .ok (.ifCond .eq 28, 3) := dk_153 0 28 (dk_at dksX4_canBurn_2 0 rfl rfl)
theorem dX4_canBurn_50 : decode cX4_canBurn 50 = .ok (.aload_n 0, 1) := dk_42 (dk_at dksX4_canBurn_2 3 rfl rfl)
theorem dX4_canBurn_51 : decode cX4_canBurn 51 = .ok (.getfield 39, 3) := dk_180 0 39 (dk_at dksX4_canBurn_2 4 rfl rfl)
theorem dX4_canBurn_54 : decode cX4_canBurn 54 = .ok (.bipush 38, 2) := dk_16 38 (dk_at dksX4_canBurn_2 7 rfl rfl)
theorem dX4_canBurn_56 : decode cX4_canBurn 56 = .ok (.iload_n 3, 1) := dk_29 (dk_at dksX4_canBurn_2 9 rfl rfl)
theorem dX4_canBurn_57 : decode cX4_canBurn 57 = .ok (.iadd, 1) := dk_96 (dk_at dksX4_canBurn_2 10 rfl rfl)
theorem dX4_canBurn_58 : decode cX4_canBurn 58 = .ok (.iaload, 1) := dk_46 (dk_at dksX4_canBurn_2 11 rfl rfl)
theorem dX4_canBurn_59 : decode cX4_canBurn 59 = .ok (.iload_n 1, 1) := dk_27 (dk_at dksX4_canBurn_2 12 rfl rfl)
theorem dX4_canBurn_60 : decode cX4_canBurn 60 = .ok (.iand, 1) := dk_126 (dk_at dksX4_canBurn_2 13 rfl rfl)
theorem dX4_canBurn_61 : decode cX4_canBurn 61 = .ok (.ifCond .ne 6, 3) := dk_154 0 6 (dk_at dksX4_canBurn_2 14 rfl rfl)
theorem dX4_canBurn_64 : decode cX4_canBurn 64 = .ok (.goto 11, 3) := dk_167 0 11 (dk_at dksX4_canBurn_2 17 rfl rfl)
theorem dX4_canBurn_67 : decode cX4_canBurn 67 = .ok (.iload_n 1, 1) := dk_27 (dk_at dksX4_canBurn_2 20 rfl rfl)
theorem dX4_canBurn_68 : decode cX4_canBurn 68 = .ok (.iconst 1, 1) := dk_4 (dk_at dksX4_canBurn_2 21 rfl rfl)
theorem dX4_canBurn_69 : decode cX4_canBurn 69 = .ok (.iload_n 3, 1) := dk_29 (dk_at dksX4_canBurn_2 22 rfl rfl)
theorem dX4_canBurn_70 : decode cX4_canBurn 70 = .ok (.ishl, 1) := dk_120 (dk_at dksX4_canBurn_2 23 rfl rfl)
theorem dX4_canBurn_71 : decode cX4_canBurn 71 = .ok (.ior, 1) := dk_128 (dk_at dksX4_canBurn_3 0 rfl rfl)
theorem dX4_canBurn_72 : decode cX4_canBurn 72 = .ok (.istore_n 1, 1) := dk_60 (dk_at dksX4_canBurn_3 1 rfl rfl)
theorem dX4_canBurn_73 : decode cX4_canBurn 73 = .ok (.iconst 1, 1) := dk_4 (dk_at dksX4_canBurn_3 2 rfl rfl)
theorem dX4_canBurn_74 : decode cX4_canBurn 74 = .ok (.istore_n 2, 1) := dk_61 (dk_at dksX4_canBurn_3 3 rfl rfl)
theorem dX4_canBurn_75 : decode cX4_canBurn 75 = .ok (.iinc 3 1, 3) := dk_132 3 1 (dk_at dksX4_canBurn_3 4 rfl rfl)
theorem dX4_canBurn_78 : decode cX4_canBurn 78 = .ok (.goto (-54), 3) := dk_167 255 202 (dk_at dksX4_canBurn_3 7 rfl rfl)
theorem dX4_canBurn_81 : decode cX4_canBurn 81 = .ok (.goto (-65), 3) := dk_167 255 191 (dk_at dksX4_canBurn_3 10 rfl rfl)
theorem dX4_canBurn_84 : decode cX4_canBurn 84 = .ok (.iload_n 1, 1) := dk_27 (dk_at dksX4_canBurn_3 13 rfl rfl)
theorem dX4_canBurn_85 : decode cX4_canBurn 85 = .ok (.ireturn, 1) := dk_172 (dk_at dksX4_canBurn_3 14 rfl rfl)
abbrev cX4_isOf : ByteArray := prog_19_method_3_code
def yX4_isOf : MethodName := ⟨RX4, "isOf", "(II)Z"⟩
def dkwX4_isOf_0 : List UInt8 := [26, 27, 122, 4, 126, 4, 160, 0, 7, 4, 167, 0, 4, 3, 172]
abbrev dktX4_isOf_0 : List UInt8 := dkwX4_isOf_0 ++ []
theorem dksX4_isOf_0 : cX4_isOf.data.toList.drop 0 = dktX4_isOf_0 := by decide +kernel
theorem dX4_isOf_0 : decode cX4_isOf 0 = .ok (.iload_n 0, 1) := dk_26 (dk_at dksX4_isOf_0 0 rfl rfl)
theorem dX4_isOf_1 : decode cX4_isOf 1 = .ok (.iload_n 1, 1) := dk_27 (dk_at dksX4_isOf_0 1 rfl rfl)
theorem dX4_isOf_2 : decode cX4_isOf 2 = .ok (.ishr, 1) := dk_122 (dk_at dksX4_isOf_0 2 rfl rfl)
theorem dX4_isOf_3 : decode cX4_isOf 3 = .ok (.iconst 1, 1) := dk_4 (dk_at dksX4_isOf_0 3 rfl rfl)
theorem dX4_isOf_4 : decode cX4_isOf 4 = .ok (.iand, 1) := dk_126 (dk_at dksX4_isOf_0 4 rfl rfl)
theorem dX4_isOf_5 : decode cX4_isOf 5 = .ok (.iconst 1, 1) := dk_4 (dk_at dksX4_isOf_0 5 rfl rfl)
theorem dX4_isOf_6 : decode cX4_isOf 6 = .ok (.if_icmp .ne 7, 3) := dk_160 0 7 (dk_at dksX4_isOf_0 6 rfl rfl)
theorem dX4_isOf_9 : decode cX4_isOf 9 = .ok (.iconst 1, 1) := dk_4 (dk_at dksX4_isOf_0 9 rfl rfl)
theorem dX4_isOf_10 : decode cX4_isOf 10 = .ok (.goto 4, 3) := dk_167 0 4 (dk_at dksX4_isOf_0 10 rfl rfl)
theorem dX4_isOf_13 : decode cX4_isOf 13 = .ok (.iconst 0, 1) := dk_3 (dk_at dksX4_isOf_0 13 rfl rfl)
theorem dX4_isOf_14 : decode cX4_isOf 14 = .ok (.ireturn, 1) := dk_172 (dk_at dksX4_isOf_0 14 rfl rfl)
abbrev cX4_order : ByteArray := prog_19_method_94_code
def yX4_order : MethodName := ⟨RX4, "order", "(II)I"⟩
def dkwX4_order_3 : List UInt8 := [180, 0, 58, 28, 46, 167, 0, 5, 16, 254, 172]
abbrev dktX4_order_3 : List UInt8 := dkwX4_order_3 ++ []
def dkwX4_order_2 : List UInt8 := [182, 1, 170, 28, 2, 160, 0, 10, 42, 180, 1, 155, 167, 0, 22, 28, 29, 184, 1, 76, 162, 0, 12, 42]
abbrev dktX4_order_2 : List UInt8 := dkwX4_order_2 ++ dktX4_order_3
def dkwX4_order_1 : List UInt8 := [20, 1, 168, 184, 0, 121, 154, 0, 6, 16, 253, 172, 42, 182, 1, 73, 62, 42, 182, 1, 140, 42, 27, 29]
abbrev dktX4_order_1 : List UInt8 := dkwX4_order_1 ++ dktX4_order_2
def dkwX4_order_0 : List UInt8 := [42, 182, 1, 60, 153, 0, 29, 27, 133, 10, 20, 1, 164, 184, 0, 121, 153, 0, 17, 28, 133, 20, 1, 166]
abbrev dktX4_order_0 : List UInt8 := dkwX4_order_0 ++ dktX4_order_1
theorem dksX4_order_0 : cX4_order.data.toList.drop 0 = dktX4_order_0 := by decide +kernel
theorem dksX4_order_1 : cX4_order.data.toList.drop 24 = dktX4_order_1 := dk_seg dksX4_order_0 24 rfl rfl
theorem dksX4_order_2 : cX4_order.data.toList.drop 48 = dktX4_order_2 := dk_seg dksX4_order_1 24 rfl rfl
theorem dksX4_order_3 : cX4_order.data.toList.drop 72 = dktX4_order_3 := dk_seg dksX4_order_2 24 rfl rfl
theorem dX4_order_0 : decode cX4_order 0 = .ok (.aload_n 0, 1) := dk_42 (dk_at dksX4_order_0 0 rfl rfl)
theorem dX4_order_1 : decode cX4_order 1 = .ok (.invokevirtual 316, 3) := dk_182 1 60 (dk_at dksX4_order_0 1 rfl rfl)
theorem dX4_order_4 : decode cX4_order 4 = .ok (.ifCond .eq 29, 3) := dk_153 0 29 (dk_at dksX4_order_0 4 rfl rfl)
theorem dX4_order_7 : decode cX4_order 7 = .ok (.iload_n 1, 1) := dk_27 (dk_at dksX4_order_0 7 rfl rfl)
theorem dX4_order_8 : decode cX4_order 8 = .ok (.i2l, 1) := dk_133 (dk_at dksX4_order_0 8 rfl rfl)
theorem dX4_order_9 : decode cX4_order 9 = .ok (.lconst 1, 1) := dk_10 (dk_at dksX4_order_0 9 rfl rfl)
theorem dX4_order_10 : decode cX4_order 10 = .ok (.ldc2_w 420, 3) := dk_20 1 164 (dk_at dksX4_order_0 10 rfl rfl)
theorem dX4_order_13 : decode cX4_order 13 = .ok (.invokestatic 121, 3) := dk_184 0 121 (dk_at dksX4_order_0 13 rfl rfl)
theorem dX4_order_16 : decode cX4_order 16 = .ok (.ifCond .eq 17, 3) := dk_153 0 17 (dk_at dksX4_order_0 16 rfl rfl)
theorem dX4_order_19 : decode cX4_order 19 = .ok (.iload_n 2, 1) := dk_28 (dk_at dksX4_order_0 19 rfl rfl)
theorem dX4_order_20 : decode cX4_order 20 = .ok (.i2l, 1) := dk_133 (dk_at dksX4_order_0 20 rfl rfl)
theorem dX4_order_21 : decode cX4_order 21 = .ok (.ldc2_w 422, 3) := dk_20 1 166 (dk_at dksX4_order_0 21 rfl rfl)
theorem dX4_order_24 : decode cX4_order 24 = .ok (.ldc2_w 424, 3) := dk_20 1 168 (dk_at dksX4_order_1 0 rfl rfl)
theorem dX4_order_27 : decode cX4_order 27 = .ok (.invokestatic 121, 3) := dk_184 0 121 (dk_at dksX4_order_1 3 rfl rfl)
theorem dX4_order_30 : decode cX4_order 30 = .ok (.ifCond .ne 6, 3) := dk_154 0 6 (dk_at dksX4_order_1 6 rfl rfl)
theorem dX4_order_33 : decode cX4_order 33 = .ok (.bipush (-3), 2) := dk_16 253 (dk_at dksX4_order_1 9 rfl rfl)
theorem dX4_order_35 : decode cX4_order 35 = .ok (.ireturn, 1) := dk_172 (dk_at dksX4_order_1 11 rfl rfl)
theorem dX4_order_36 : decode cX4_order 36 = .ok (.aload_n 0, 1) := dk_42 (dk_at dksX4_order_1 12 rfl rfl)
theorem dX4_order_37 : decode cX4_order 37 = .ok (.invokevirtual 329, 3) := dk_182 1 73 (dk_at dksX4_order_1 13 rfl rfl)
theorem dX4_order_40 : decode cX4_order 40 = .ok (.istore_n 3, 1) := dk_62 (dk_at dksX4_order_1 16 rfl rfl)
theorem dX4_order_41 : decode cX4_order 41 = .ok (.aload_n 0, 1) := dk_42 (dk_at dksX4_order_1 17 rfl rfl)
theorem dX4_order_42 : decode cX4_order 42 = .ok (.invokevirtual 396, 3) := dk_182 1 140 (dk_at dksX4_order_1 18 rfl rfl)
theorem dX4_order_45 : decode cX4_order 45 = .ok (.aload_n 0, 1) := dk_42 (dk_at dksX4_order_1 21 rfl rfl)
theorem dX4_order_46 : decode cX4_order 46 = .ok (.iload_n 1, 1) := dk_27 (dk_at dksX4_order_1 22 rfl rfl)
theorem dX4_order_47 : decode cX4_order 47 = .ok (.iload_n 3, 1) := dk_29 (dk_at dksX4_order_1 23 rfl rfl)
theorem dX4_order_48 : decode cX4_order 48 = .ok (.invokevirtual 426, 3) := dk_182 1 170 (dk_at dksX4_order_2 0 rfl rfl)
theorem dX4_order_51 : decode cX4_order 51 = .ok (.iload_n 2, 1) := dk_28 (dk_at dksX4_order_2 3 rfl rfl)
theorem dX4_order_52 : decode cX4_order 52 = .ok (.iconst (-1), 1) := dk_2 (dk_at dksX4_order_2 4 rfl rfl)
theorem dX4_order_53 : decode cX4_order 53 = .ok (.if_icmp .ne 10, 3) := dk_160 0 10 (dk_at dksX4_order_2 5 rfl rfl)
theorem dX4_order_56 : decode cX4_order 56 = .ok (.aload_n 0, 1) := dk_42 (dk_at dksX4_order_2 8 rfl rfl)
theorem dX4_order_57 : decode cX4_order 57 = .ok (.getfield 411, 3) := dk_180 1 155 (dk_at dksX4_order_2 9 rfl rfl)
theorem dX4_order_60 : decode cX4_order 60 = .ok (.goto 22, 3) := dk_167 0 22 (dk_at dksX4_order_2 12 rfl rfl)
theorem dX4_order_63 : decode cX4_order 63 = .ok (.iload_n 2, 1) := dk_28 (dk_at dksX4_order_2 15 rfl rfl)
theorem dX4_order_64 : decode cX4_order 64 = .ok (.iload_n 3, 1) := dk_29 (dk_at dksX4_order_2 16 rfl rfl)
theorem dX4_order_65 : decode cX4_order 65 = .ok (.invokestatic 332, 3) := dk_184 1 76 (dk_at dksX4_order_2 17 rfl rfl)
theorem dX4_order_68 : decode cX4_order 68 = .ok (.if_icmp .ge 12, 3) := dk_162 0 12 (dk_at dksX4_order_2 20 rfl rfl)
theorem dX4_order_71 : decode cX4_order 71 = .ok (.aload_n 0, 1) := dk_42 (dk_at dksX4_order_2 23 rfl rfl)
theorem dX4_order_72 : decode cX4_order 72 = .ok (.getfield 58, 3) := dk_180 0 58 (dk_at dksX4_order_3 0 rfl rfl)
theorem dX4_order_75 : decode cX4_order 75 = .ok (.iload_n 2, 1) := dk_28 (dk_at dksX4_order_3 3 rfl rfl)
theorem dX4_order_76 : decode cX4_order 76 = .ok (.iaload, 1) := dk_46 (dk_at dksX4_order_3 4 rfl rfl)
theorem dX4_order_77 : decode cX4_order 77 = .ok (.goto 5, 3) := dk_167 0 5 (dk_at dksX4_order_3 5 rfl rfl)
theorem dX4_order_80 : decode cX4_order 80 = .ok (.bipush (-2), 2) := dk_16 254 (dk_at dksX4_order_3 8 rfl rfl)
theorem dX4_order_82 : decode cX4_order 82 = .ok (.ireturn, 1) := dk_172 (dk_at dksX4_order_3 10 rfl rfl)
abbrev cX4_findsOrder : ByteArray := prog_19_method_93_code
def yX4_findsOrder : MethodName := ⟨RX4, "findsOrder", "(II)V"⟩
def dkwX4_findsOrder_5 : List UInt8 := [132, 4, 1, 42, 180, 0, 46, 21, 4, 2, 79, 167, 255, 160, 177]
abbrev dktX4_findsOrder_5 : List UInt8 := dkwX4_findsOrder_5 ++ []
def dkwX4_findsOrder_4 : List UInt8 := [182, 1, 161, 154, 255, 191, 21, 4, 4, 96, 29, 160, 0, 12, 42, 27, 29, 182, 1, 158, 167, 255, 174]
abbrev dktX4_findsOrder_4 : List UInt8 := dkwX4_findsOrder_4 ++ dktX4_findsOrder_5
def dkwX4_findsOrder_3 : List UInt8 := [180, 0, 46, 21, 4, 46, 184, 1, 152, 153, 255, 207, 42, 21, 4, 42, 180, 0, 46, 21, 4, 46]
abbrev dktX4_findsOrder_3 : List UInt8 := dkwX4_findsOrder_3 ++ dktX4_findsOrder_4
def dkwX4_findsOrder_2 : List UInt8 := [180, 0, 46, 21, 4, 46, 42, 180, 0, 39, 6, 46, 161, 0, 9, 132, 4, 255, 167, 255, 221, 28, 42]
abbrev dktX4_findsOrder_2 : List UInt8 := dkwX4_findsOrder_2 ++ dktX4_findsOrder_3
def dkwX4_findsOrder_1 : List UInt8 := [42, 180, 0, 46, 3, 2, 79, 21, 4, 155, 0, 97, 42, 180, 0, 46, 21, 4, 92, 46, 4, 96, 79, 42]
abbrev dktX4_findsOrder_1 : List UInt8 := dkwX4_findsOrder_1 ++ dktX4_findsOrder_2
def dkwX4_findsOrder_0 : List UInt8 := [28, 184, 1, 76, 62, 42, 2, 181, 1, 155, 29, 154, 0, 10, 42, 27, 3, 182, 1, 158, 177, 3, 54, 4]
abbrev dktX4_findsOrder_0 : List UInt8 := dkwX4_findsOrder_0 ++ dktX4_findsOrder_1
theorem dksX4_findsOrder_0 : cX4_findsOrder.data.toList.drop 0 = dktX4_findsOrder_0 := by decide +kernel
theorem dksX4_findsOrder_1 : cX4_findsOrder.data.toList.drop 24 = dktX4_findsOrder_1 := dk_seg dksX4_findsOrder_0 24 rfl rfl
theorem dksX4_findsOrder_2 : cX4_findsOrder.data.toList.drop 48 = dktX4_findsOrder_2 := dk_seg dksX4_findsOrder_1 24 rfl rfl
theorem dksX4_findsOrder_3 : cX4_findsOrder.data.toList.drop 71 = dktX4_findsOrder_3 := dk_seg dksX4_findsOrder_2 23 rfl rfl
theorem dksX4_findsOrder_4 : cX4_findsOrder.data.toList.drop 93 = dktX4_findsOrder_4 := dk_seg dksX4_findsOrder_3 22 rfl rfl
theorem dksX4_findsOrder_5 : cX4_findsOrder.data.toList.drop 116 = dktX4_findsOrder_5 := dk_seg dksX4_findsOrder_4 23 rfl rfl
theorem dX4_findsOrder_0 : decode cX4_findsOrder 0 = .ok (.iload_n 2, 1) := dk_28 (dk_at dksX4_findsOrder_0 0 rfl rfl)
theorem dX4_findsOrder_1 : decode cX4_findsOrder 1 = .ok (.invokestatic 332, 3) := dk_184 1 76 (dk_at dksX4_findsOrder_0 1 rfl rfl)
theorem dX4_findsOrder_4 : decode cX4_findsOrder 4 = .ok (.istore_n 3, 1) := dk_62 (dk_at dksX4_findsOrder_0 4 rfl rfl)
theorem dX4_findsOrder_5 : decode cX4_findsOrder 5 = .ok (.aload_n 0, 1) := dk_42 (dk_at dksX4_findsOrder_0 5 rfl rfl)
theorem dX4_findsOrder_6 : decode cX4_findsOrder 6 = .ok (.iconst (-1), 1) := dk_2 (dk_at dksX4_findsOrder_0 6 rfl rfl)
theorem dX4_findsOrder_7 : decode cX4_findsOrder 7 = .ok (.putfield 411, 3) := dk_181 1 155 (dk_at dksX4_findsOrder_0 7 rfl rfl)
theorem dX4_findsOrder_10 : decode cX4_findsOrder 10 = .ok (.iload_n 3, 1) := dk_29 (dk_at dksX4_findsOrder_0 10 rfl rfl)
theorem dX4_findsOrder_11 : decode cX4_findsOrder 11 = .ok (.ifCond .ne 10, 3) := dk_154 0 10 (dk_at dksX4_findsOrder_0 11 rfl rfl)
theorem dX4_findsOrder_14 : decode cX4_findsOrder 14 = .ok (.aload_n 0, 1) := dk_42 (dk_at dksX4_findsOrder_0 14 rfl rfl)
theorem dX4_findsOrder_15 : decode cX4_findsOrder 15 = .ok (.iload_n 1, 1) := dk_27 (dk_at dksX4_findsOrder_0 15 rfl rfl)
theorem dX4_findsOrder_16 : decode cX4_findsOrder 16 = .ok (.iconst 0, 1) := dk_3 (dk_at dksX4_findsOrder_0 16 rfl rfl)
theorem dX4_findsOrder_17 : decode cX4_findsOrder 17 = .ok (.invokevirtual 414, 3) := dk_182 1 158 (dk_at dksX4_findsOrder_0 17 rfl rfl)
theorem dX4_findsOrder_20 : decode cX4_findsOrder 20 = .ok (.return_, 1) := dk_177 (dk_at dksX4_findsOrder_0 20 rfl rfl)
theorem dX4_findsOrder_21 : decode cX4_findsOrder 21 = .ok (.iconst 0, 1) := dk_3 (dk_at dksX4_findsOrder_0 21 rfl rfl)
theorem dX4_findsOrder_22 : decode cX4_findsOrder 22 = .ok (.istore 4, 2) := dk_54 4 (dk_at dksX4_findsOrder_0 22 rfl rfl)
theorem dX4_findsOrder_24 : decode cX4_findsOrder 24 = .ok (.aload_n 0, 1) := dk_42 (dk_at dksX4_findsOrder_1 0 rfl rfl)
theorem dX4_findsOrder_25 : decode cX4_findsOrder 25 = .ok (.getfield 46, 3) := dk_180 0 46 (dk_at dksX4_findsOrder_1 1 rfl rfl)
theorem dX4_findsOrder_28 : decode cX4_findsOrder 28 = .ok (.iconst 0, 1) := dk_3 (dk_at dksX4_findsOrder_1 4 rfl rfl)
theorem dX4_findsOrder_29 : decode cX4_findsOrder 29 = .ok (.iconst (-1), 1) := dk_2 (dk_at dksX4_findsOrder_1 5 rfl rfl)
theorem dX4_findsOrder_30 : decode cX4_findsOrder 30 = .ok (.iastore, 1) := dk_79 (dk_at dksX4_findsOrder_1 6 rfl rfl)
theorem dX4_findsOrder_31 : decode cX4_findsOrder 31 = .ok (.iload 4, 2) := dk_21 4 (dk_at dksX4_findsOrder_1 7 rfl rfl)
theorem dX4_findsOrder_33 : decode cX4_findsOrder 33 = .ok (.ifCond .lt 97, 3) := dk_155 0 97 (dk_at dksX4_findsOrder_1 9 rfl rfl)
theorem dX4_findsOrder_36 : decode cX4_findsOrder 36 = .ok (.aload_n 0, 1) := dk_42 (dk_at dksX4_findsOrder_1 12 rfl rfl)
theorem dX4_findsOrder_37 : decode cX4_findsOrder 37 = .ok (.getfield 46, 3) := dk_180 0 46 (dk_at dksX4_findsOrder_1 13 rfl rfl)
theorem dX4_findsOrder_40 : decode cX4_findsOrder 40 = .ok (.iload 4, 2) := dk_21 4 (dk_at dksX4_findsOrder_1 16 rfl rfl)
theorem dX4_findsOrder_42 : decode cX4_findsOrder 42 = .ok (.dup2, 1) := dk_92 (dk_at dksX4_findsOrder_1 18 rfl rfl)
theorem dX4_findsOrder_43 : decode cX4_findsOrder 43 = .ok (.iaload, 1) := dk_46 (dk_at dksX4_findsOrder_1 19 rfl rfl)
theorem dX4_findsOrder_44 : decode cX4_findsOrder 44 = .ok (.iconst 1, 1) := dk_4 (dk_at dksX4_findsOrder_1 20 rfl rfl)
theorem dX4_findsOrder_45 : decode cX4_findsOrder 45 = .ok (.iadd, 1) := dk_96 (dk_at dksX4_findsOrder_1 21 rfl rfl)
theorem dX4_findsOrder_46 : decode cX4_findsOrder 46 = .ok (.iastore, 1) := dk_79 (dk_at dksX4_findsOrder_1 22 rfl rfl)
theorem dX4_findsOrder_47 : decode cX4_findsOrder 47 = .ok (.aload_n 0, 1) := dk_42 (dk_at dksX4_findsOrder_1 23 rfl rfl)
theorem dX4_findsOrder_48 : decode cX4_findsOrder 48 = .ok (.getfield 46, 3) := dk_180 0 46 (dk_at dksX4_findsOrder_2 0 rfl rfl)
theorem dX4_findsOrder_51 : decode cX4_findsOrder 51 = .ok (.iload 4, 2) := dk_21 4 (dk_at dksX4_findsOrder_2 3 rfl rfl)
theorem dX4_findsOrder_53 : decode cX4_findsOrder 53 = .ok (.iaload, 1) := dk_46 (dk_at dksX4_findsOrder_2 5 rfl rfl)
theorem dX4_findsOrder_54 : decode cX4_findsOrder 54 = .ok (.aload_n 0, 1) := dk_42 (dk_at dksX4_findsOrder_2 6 rfl rfl)
theorem dX4_findsOrder_55 : decode cX4_findsOrder 55 = .ok (.getfield 39, 3) := dk_180 0 39 (dk_at dksX4_findsOrder_2 7 rfl rfl)
theorem dX4_findsOrder_58 : decode cX4_findsOrder 58 = .ok (.iconst 3, 1) := dk_6 (dk_at dksX4_findsOrder_2 10 rfl rfl)
theorem dX4_findsOrder_59 : decode cX4_findsOrder 59 = .ok (.iaload, 1) := dk_46 (dk_at dksX4_findsOrder_2 11 rfl rfl)
theorem dX4_findsOrder_60 : decode cX4_findsOrder 60 = .ok (.if_icmp .lt 9, 3) := dk_161 0 9 (dk_at dksX4_findsOrder_2 12 rfl rfl)
theorem dX4_findsOrder_63 : decode cX4_findsOrder 63 = .ok (.iinc 4 (-1), 3) := dk_132 4 255 (dk_at dksX4_findsOrder_2 15 rfl rfl)
theorem dX4_findsOrder_66 : decode cX4_findsOrder 66 = .ok (.goto (-35), 3) := dk_167 255 221 (dk_at dksX4_findsOrder_2 18 rfl rfl)
theorem dX4_findsOrder_69 : decode cX4_findsOrder 69 = .ok (.iload_n 2, 1) := dk_28 (dk_at dksX4_findsOrder_2 21 rfl rfl)
theorem dX4_findsOrder_70 : decode cX4_findsOrder 70 = .ok (.aload_n 0, 1) := dk_42 (dk_at dksX4_findsOrder_2 22 rfl rfl)
theorem dX4_findsOrder_71 : decode cX4_findsOrder 71 = .ok (.getfield 46, 3) := dk_180 0 46 (dk_at dksX4_findsOrder_3 0 rfl rfl)
theorem dX4_findsOrder_74 : decode cX4_findsOrder 74 = .ok (.iload 4, 2) := dk_21 4 (dk_at dksX4_findsOrder_3 3 rfl rfl)
theorem dX4_findsOrder_76 : decode cX4_findsOrder 76 = .ok (.iaload, 1) := dk_46 (dk_at dksX4_findsOrder_3 5 rfl rfl)
theorem dX4_findsOrder_77 : decode cX4_findsOrder 77 = .ok (.invokestatic 408, 3) := dk_184 1 152 (dk_at dksX4_findsOrder_3 6 rfl rfl)
theorem dX4_findsOrder_80 : decode cX4_findsOrder 80 = .ok (.ifCond .eq (-49), 3) := dk_153 255 207 (dk_at dksX4_findsOrder_3 9 rfl rfl)
theorem dX4_findsOrder_83 : decode cX4_findsOrder 83 = .ok (.aload_n 0, 1) := dk_42 (dk_at dksX4_findsOrder_3 12 rfl rfl)
theorem dX4_findsOrder_84 : decode cX4_findsOrder 84 = .ok (.iload 4, 2) := dk_21 4 (dk_at dksX4_findsOrder_3 13 rfl rfl)
theorem dX4_findsOrder_86 : decode cX4_findsOrder 86 = .ok (.aload_n 0, 1) := dk_42 (dk_at dksX4_findsOrder_3 15 rfl rfl)
theorem dX4_findsOrder_87 : decode cX4_findsOrder 87 = .ok (.getfield 46, 3) := dk_180 0 46 (dk_at dksX4_findsOrder_3 16 rfl rfl)
theorem dX4_findsOrder_90 : decode cX4_findsOrder 90 = .ok (.iload 4, 2) := dk_21 4 (dk_at dksX4_findsOrder_3 19 rfl rfl)
theorem dX4_findsOrder_92 : decode cX4_findsOrder 92 = .ok (.iaload, 1) := dk_46 (dk_at dksX4_findsOrder_3 21 rfl rfl)
theorem dX4_findsOrder_93 : decode cX4_findsOrder 93 = .ok (.invokevirtual 417, 3) := dk_182 1 161 (dk_at dksX4_findsOrder_4 0 rfl rfl)
theorem dX4_findsOrder_96 : decode cX4_findsOrder 96 = .ok (.ifCond .ne (-65), 3) := dk_154 255 191 (dk_at dksX4_findsOrder_4 3 rfl rfl)
theorem dX4_findsOrder_99 : decode cX4_findsOrder 99 = .ok (.iload 4, 2) := dk_21 4 (dk_at dksX4_findsOrder_4 6 rfl rfl)
theorem dX4_findsOrder_101 : decode cX4_findsOrder 101 = .ok (.iconst 1, 1) := dk_4 (dk_at dksX4_findsOrder_4 8 rfl rfl)
theorem dX4_findsOrder_102 : decode cX4_findsOrder 102 = .ok (.iadd, 1) := dk_96 (dk_at dksX4_findsOrder_4 9 rfl rfl)
theorem dX4_findsOrder_103 : decode cX4_findsOrder 103 = .ok (.iload_n 3, 1) := dk_29 (dk_at dksX4_findsOrder_4 10 rfl rfl)
theorem dX4_findsOrder_104 : decode cX4_findsOrder 104 = .ok (.if_icmp .ne 12, 3) := dk_160 0 12 (dk_at dksX4_findsOrder_4 11 rfl rfl)
theorem dX4_findsOrder_107 : decode cX4_findsOrder 107 = .ok (.aload_n 0, 1) := dk_42 (dk_at dksX4_findsOrder_4 14 rfl rfl)
theorem dX4_findsOrder_108 : decode cX4_findsOrder 108 = .ok (.iload_n 1, 1) := dk_27 (dk_at dksX4_findsOrder_4 15 rfl rfl)
theorem dX4_findsOrder_109 : decode cX4_findsOrder 109 = .ok (.iload_n 3, 1) := dk_29 (dk_at dksX4_findsOrder_4 16 rfl rfl)
theorem dX4_findsOrder_110 : decode cX4_findsOrder 110 = .ok (.invokevirtual 414, 3) := dk_182 1 158 (dk_at dksX4_findsOrder_4 17 rfl rfl)
theorem dX4_findsOrder_113 : decode cX4_findsOrder 113 = .ok (.goto (-82), 3) := dk_167 255 174 (dk_at dksX4_findsOrder_4 20 rfl rfl)
theorem dX4_findsOrder_116 : decode cX4_findsOrder 116 = .ok (.iinc 4 1, 3) := dk_132 4 1 (dk_at dksX4_findsOrder_5 0 rfl rfl)
theorem dX4_findsOrder_119 : decode cX4_findsOrder 119 = .ok (.aload_n 0, 1) := dk_42 (dk_at dksX4_findsOrder_5 3 rfl rfl)
theorem dX4_findsOrder_120 : decode cX4_findsOrder 120 = .ok (.getfield 46, 3) := dk_180 0 46 (dk_at dksX4_findsOrder_5 4 rfl rfl)
theorem dX4_findsOrder_123 : decode cX4_findsOrder 123 = .ok (.iload 4, 2) := dk_21 4 (dk_at dksX4_findsOrder_5 7 rfl rfl)
theorem dX4_findsOrder_125 : decode cX4_findsOrder 125 = .ok (.iconst (-1), 1) := dk_2 (dk_at dksX4_findsOrder_5 9 rfl rfl)
theorem dX4_findsOrder_126 : decode cX4_findsOrder 126 = .ok (.iastore, 1) := dk_79 (dk_at dksX4_findsOrder_5 10 rfl rfl)
theorem dX4_findsOrder_127 : decode cX4_findsOrder 127 = .ok (.goto (-96), 3) := dk_167 255 160 (dk_at dksX4_findsOrder_5 11 rfl rfl)
theorem dX4_findsOrder_130 : decode cX4_findsOrder 130 = .ok (.return_, 1) := dk_177 (dk_at dksX4_findsOrder_5 14 rfl rfl)
abbrev cX4_weighsRow : ByteArray := prog_19_method_92_code
def yX4_weighsRow : MethodName := ⟨RX4, "weighsRow", "(II)V"⟩
def dkwX4_weighsRow_2 : List UInt8 := [180, 0, 58, 21, 4, 42, 180, 0, 46, 21, 4, 46, 79, 132, 4, 1, 167, 255, 233, 177]
abbrev dktX4_weighsRow_2 : List UInt8 := dkwX4_weighsRow_2 ++ []
def dkwX4_weighsRow_1 : List UInt8 := [180, 1, 155, 163, 0, 4, 177, 42, 29, 181, 1, 155, 3, 54, 4, 21, 4, 28, 162, 0, 23, 42]
abbrev dktX4_weighsRow_1 : List UInt8 := dkwX4_weighsRow_1 ++ dktX4_weighsRow_2
def dkwX4_weighsRow_0 : List UInt8 := [42, 28, 181, 0, 49, 42, 3, 181, 1, 89, 42, 27, 182, 1, 149, 62, 42, 2, 181, 0, 49, 29, 42]
abbrev dktX4_weighsRow_0 : List UInt8 := dkwX4_weighsRow_0 ++ dktX4_weighsRow_1
theorem dksX4_weighsRow_0 : cX4_weighsRow.data.toList.drop 0 = dktX4_weighsRow_0 := by decide +kernel
theorem dksX4_weighsRow_1 : cX4_weighsRow.data.toList.drop 23 = dktX4_weighsRow_1 := dk_seg dksX4_weighsRow_0 23 rfl rfl
theorem dksX4_weighsRow_2 : cX4_weighsRow.data.toList.drop 45 = dktX4_weighsRow_2 := dk_seg dksX4_weighsRow_1 22 rfl rfl
theorem dX4_weighsRow_0 : decode cX4_weighsRow 0 = .ok (.aload_n 0, 1) := dk_42 (dk_at dksX4_weighsRow_0 0 rfl rfl)
theorem dX4_weighsRow_1 : decode cX4_weighsRow 1 = .ok (.iload_n 2, 1) := dk_28 (dk_at dksX4_weighsRow_0 1 rfl rfl)
theorem dX4_weighsRow_2 : decode cX4_weighsRow 2 = .ok (.putfield 49, 3) := dk_181 0 49 (dk_at dksX4_weighsRow_0 2 rfl rfl)
theorem dX4_weighsRow_5 : decode cX4_weighsRow 5 = .ok (.aload_n 0, 1) := dk_42 (dk_at dksX4_weighsRow_0 5 rfl rfl)
theorem dX4_weighsRow_6 : decode cX4_weighsRow 6 = .ok (.iconst 0, 1) := dk_3 (dk_at dksX4_weighsRow_0 6 rfl rfl)
theorem dX4_weighsRow_7 : decode cX4_weighsRow 7 = .ok (.putfield 345, 3) := dk_181 1 89 (dk_at dksX4_weighsRow_0 7 rfl rfl)
theorem dX4_weighsRow_10 : decode cX4_weighsRow 10 = .ok (.aload_n 0, 1) := dk_42 (dk_at dksX4_weighsRow_0 10 rfl rfl)
theorem dX4_weighsRow_11 : decode cX4_weighsRow 11 = .ok (.iload_n 1, 1) := dk_27 (dk_at dksX4_weighsRow_0 11 rfl rfl)
theorem dX4_weighsRow_12 : decode cX4_weighsRow 12 = .ok (.invokevirtual 405, 3) := dk_182 1 149 (dk_at dksX4_weighsRow_0 12 rfl rfl)
theorem dX4_weighsRow_15 : decode cX4_weighsRow 15 = .ok (.istore_n 3, 1) := dk_62 (dk_at dksX4_weighsRow_0 15 rfl rfl)
theorem dX4_weighsRow_16 : decode cX4_weighsRow 16 = .ok (.aload_n 0, 1) := dk_42 (dk_at dksX4_weighsRow_0 16 rfl rfl)
theorem dX4_weighsRow_17 : decode cX4_weighsRow 17 = .ok (.iconst (-1), 1) := dk_2 (dk_at dksX4_weighsRow_0 17 rfl rfl)
theorem dX4_weighsRow_18 : decode cX4_weighsRow 18 = .ok (.putfield 49, 3) := dk_181 0 49 (dk_at dksX4_weighsRow_0 18 rfl rfl)
theorem dX4_weighsRow_21 : decode cX4_weighsRow 21 = .ok (.iload_n 3, 1) := dk_29 (dk_at dksX4_weighsRow_0 21 rfl rfl)
theorem dX4_weighsRow_22 : decode cX4_weighsRow 22 = .ok (.aload_n 0, 1) := dk_42 (dk_at dksX4_weighsRow_0 22 rfl rfl)
theorem dX4_weighsRow_23 : decode cX4_weighsRow 23 = .ok (.getfield 411, 3) := dk_180 1 155 (dk_at dksX4_weighsRow_1 0 rfl rfl)
theorem dX4_weighsRow_26 : decode cX4_weighsRow 26 = .ok (.if_icmp .gt 4, 3) := dk_163 0 4 (dk_at dksX4_weighsRow_1 3 rfl rfl)
theorem dX4_weighsRow_29 : decode cX4_weighsRow 29 = .ok (.return_, 1) := dk_177 (dk_at dksX4_weighsRow_1 6 rfl rfl)
theorem dX4_weighsRow_30 : decode cX4_weighsRow 30 = .ok (.aload_n 0, 1) := dk_42 (dk_at dksX4_weighsRow_1 7 rfl rfl)
theorem dX4_weighsRow_31 : decode cX4_weighsRow 31 = .ok (.iload_n 3, 1) := dk_29 (dk_at dksX4_weighsRow_1 8 rfl rfl)
theorem dX4_weighsRow_32 : decode cX4_weighsRow 32 = .ok (.putfield 411, 3) := dk_181 1 155 (dk_at dksX4_weighsRow_1 9 rfl rfl)
theorem dX4_weighsRow_35 : decode cX4_weighsRow 35 = .ok (.iconst 0, 1) := dk_3 (dk_at dksX4_weighsRow_1 12 rfl rfl)
theorem dX4_weighsRow_36 : decode cX4_weighsRow 36 = .ok (.istore 4, 2) := dk_54 4 (dk_at dksX4_weighsRow_1 13 rfl rfl)
theorem dX4_weighsRow_38 : decode cX4_weighsRow 38 = .ok (.iload 4, 2) := dk_21 4 (dk_at dksX4_weighsRow_1 15 rfl rfl)
theorem dX4_weighsRow_40 : decode cX4_weighsRow 40 = .ok (.iload_n 2, 1) := dk_28 (dk_at dksX4_weighsRow_1 17 rfl rfl)
theorem dX4_weighsRow_41 : decode cX4_weighsRow 41 = .ok (.if_icmp .ge 23, 3) := dk_162 0 23 (dk_at dksX4_weighsRow_1 18 rfl rfl)
theorem dX4_weighsRow_44 : decode cX4_weighsRow 44 = .ok (.aload_n 0, 1) := dk_42 (dk_at dksX4_weighsRow_1 21 rfl rfl)
theorem dX4_weighsRow_45 : decode cX4_weighsRow 45 = .ok (.getfield 58, 3) := dk_180 0 58 (dk_at dksX4_weighsRow_2 0 rfl rfl)
theorem dX4_weighsRow_48 : decode cX4_weighsRow 48 = .ok (.iload 4, 2) := dk_21 4 (dk_at dksX4_weighsRow_2 3 rfl rfl)
theorem dX4_weighsRow_50 : decode cX4_weighsRow 50 = .ok (.aload_n 0, 1) := dk_42 (dk_at dksX4_weighsRow_2 5 rfl rfl)
theorem dX4_weighsRow_51 : decode cX4_weighsRow 51 = .ok (.getfield 46, 3) := dk_180 0 46 (dk_at dksX4_weighsRow_2 6 rfl rfl)
theorem dX4_weighsRow_54 : decode cX4_weighsRow 54 = .ok (.iload 4, 2) := dk_21 4 (dk_at dksX4_weighsRow_2 9 rfl rfl)
theorem dX4_weighsRow_56 : decode cX4_weighsRow 56 = .ok (.iaload, 1) := dk_46 (dk_at dksX4_weighsRow_2 11 rfl rfl)
theorem dX4_weighsRow_57 : decode cX4_weighsRow 57 = .ok (.iastore, 1) := dk_79 (dk_at dksX4_weighsRow_2 12 rfl rfl)
theorem dX4_weighsRow_58 : decode cX4_weighsRow 58 = .ok (.iinc 4 1, 3) := dk_132 4 1 (dk_at dksX4_weighsRow_2 13 rfl rfl)
theorem dX4_weighsRow_61 : decode cX4_weighsRow 61 = .ok (.goto (-23), 3) := dk_167 255 233 (dk_at dksX4_weighsRow_2 16 rfl rfl)
theorem dX4_weighsRow_64 : decode cX4_weighsRow 64 = .ok (.return_, 1) := dk_177 (dk_at dksX4_weighsRow_2 19 rfl rfl)
abbrev cX4_isInRow : ByteArray := prog_19_method_91_code
def yX4_isInRow : MethodName := ⟨RX4, "isInRow", "(II)Z"⟩
def dkwX4_isInRow_1 : List UInt8 := [167, 255, 236, 3, 172]
abbrev dktX4_isInRow_1 : List UInt8 := dkwX4_isInRow_1 ++ []
def dkwX4_isInRow_0 : List UInt8 := [3, 62, 29, 27, 162, 0, 21, 42, 180, 0, 46, 29, 46, 28, 160, 0, 5, 4, 172, 132, 3, 1]
abbrev dktX4_isInRow_0 : List UInt8 := dkwX4_isInRow_0 ++ dktX4_isInRow_1
theorem dksX4_isInRow_0 : cX4_isInRow.data.toList.drop 0 = dktX4_isInRow_0 := by decide +kernel
theorem dksX4_isInRow_1 : cX4_isInRow.data.toList.drop 22 = dktX4_isInRow_1 := dk_seg dksX4_isInRow_0 22 rfl rfl
theorem dX4_isInRow_0 : decode cX4_isInRow 0 = .ok (.iconst 0, 1) := dk_3 (dk_at dksX4_isInRow_0 0 rfl rfl)
theorem dX4_isInRow_1 : decode cX4_isInRow 1 = .ok (.istore_n 3, 1) := dk_62 (dk_at dksX4_isInRow_0 1 rfl rfl)
theorem dX4_isInRow_2 : decode cX4_isInRow 2 = .ok (.iload_n 3, 1) := dk_29 (dk_at dksX4_isInRow_0 2 rfl rfl)
theorem dX4_isInRow_3 : decode cX4_isInRow 3 = .ok (.iload_n 1, 1) := dk_27 (dk_at dksX4_isInRow_0 3 rfl rfl)
theorem dX4_isInRow_4 : decode cX4_isInRow 4 = .ok (.if_icmp .ge 21, 3) := dk_162 0 21 (dk_at dksX4_isInRow_0 4 rfl rfl)
theorem dX4_isInRow_7 : decode cX4_isInRow 7 = .ok (.aload_n 0, 1) := dk_42 (dk_at dksX4_isInRow_0 7 rfl rfl)
theorem dX4_isInRow_8 : decode cX4_isInRow 8 = .ok (.getfield 46, 3) := dk_180 0 46 (dk_at dksX4_isInRow_0 8 rfl rfl)
theorem dX4_isInRow_11 : decode cX4_isInRow 11 = .ok (.iload_n 3, 1) := dk_29 (dk_at dksX4_isInRow_0 11 rfl rfl)
theorem dX4_isInRow_12 : decode cX4_isInRow 12 = .ok (.iaload, 1) := dk_46 (dk_at dksX4_isInRow_0 12 rfl rfl)
theorem dX4_isInRow_13 : decode cX4_isInRow 13 = .ok (.iload_n 2, 1) := dk_28 (dk_at dksX4_isInRow_0 13 rfl rfl)
theorem dX4_isInRow_14 : decode cX4_isInRow 14 = .ok (.if_icmp .ne 5, 3) := dk_160 0 5 (dk_at dksX4_isInRow_0 14 rfl rfl)
theorem dX4_isInRow_17 : decode cX4_isInRow 17 = .ok (.iconst 1, 1) := dk_4 (dk_at dksX4_isInRow_0 17 rfl rfl)
theorem dX4_isInRow_18 : decode cX4_isInRow 18 = .ok (.ireturn, 1) := dk_172 (dk_at dksX4_isInRow_0 18 rfl rfl)
theorem dX4_isInRow_19 : decode cX4_isInRow 19 = .ok (.iinc 3 1, 3) := dk_132 3 1 (dk_at dksX4_isInRow_0 19 rfl rfl)
theorem dX4_isInRow_22 : decode cX4_isInRow 22 = .ok (.goto (-20), 3) := dk_167 255 236 (dk_at dksX4_isInRow_1 0 rfl rfl)
theorem dX4_isInRow_25 : decode cX4_isInRow 25 = .ok (.iconst 0, 1) := dk_3 (dk_at dksX4_isInRow_1 3 rfl rfl)
theorem dX4_isInRow_26 : decode cX4_isInRow 26 = .ok (.ireturn, 1) := dk_172 (dk_at dksX4_isInRow_1 4 rfl rfl)
abbrev cX4_heard : ByteArray := prog_19_method_96_code
def yX4_heard : MethodName := ⟨RX4, "heard", "(I)I"⟩
def dkwX4_heard_2 : List UInt8 := [16, 20, 182, 1, 173, 153, 0, 5, 29, 61, 132, 3, 1, 167, 255, 217, 42, 182, 1, 146, 28, 172]
abbrev dktX4_heard_2 : List UInt8 := dkwX4_heard_2 ++ []
def dkwX4_heard_1 : List UInt8 := [163, 0, 39, 28, 156, 0, 35, 42, 180, 0, 39, 16, 14, 7, 27, 104, 96, 5, 96, 29, 79, 42, 27]
abbrev dktX4_heard_1 : List UInt8 := dkwX4_heard_1 ++ dktX4_heard_2
def dkwX4_heard_0 : List UInt8 := [42, 27, 182, 1, 57, 154, 0, 5, 2, 172, 16, 254, 61, 42, 182, 1, 140, 3, 62, 29, 16, 20]
abbrev dktX4_heard_0 : List UInt8 := dkwX4_heard_0 ++ dktX4_heard_1
theorem dksX4_heard_0 : cX4_heard.data.toList.drop 0 = dktX4_heard_0 := by decide +kernel
theorem dksX4_heard_1 : cX4_heard.data.toList.drop 22 = dktX4_heard_1 := dk_seg dksX4_heard_0 22 rfl rfl
theorem dksX4_heard_2 : cX4_heard.data.toList.drop 45 = dktX4_heard_2 := dk_seg dksX4_heard_1 23 rfl rfl
theorem dX4_heard_0 : decode cX4_heard 0 = .ok (.aload_n 0, 1) := dk_42 (dk_at dksX4_heard_0 0 rfl rfl)
theorem dX4_heard_1 : decode cX4_heard 1 = .ok (.iload_n 1, 1) := dk_27 (dk_at dksX4_heard_0 1 rfl rfl)
theorem dX4_heard_2 : decode cX4_heard 2 = .ok (.invokevirtual 313, 3) := dk_182 1 57 (dk_at dksX4_heard_0 2 rfl rfl)
theorem dX4_heard_5 : decode cX4_heard 5 = .ok (.ifCond .ne 5, 3) := dk_154 0 5 (dk_at dksX4_heard_0 5 rfl rfl)
theorem dX4_heard_8 : decode cX4_heard 8 = .ok (.iconst (-1), 1) := dk_2 (dk_at dksX4_heard_0 8 rfl rfl)
theorem dX4_heard_9 : decode cX4_heard 9 = .ok (.ireturn, 1) := dk_172 (dk_at dksX4_heard_0 9 rfl rfl)
theorem dX4_heard_10 : decode cX4_heard 10 = .ok (.bipush (-2), 2) := dk_16 254 (dk_at dksX4_heard_0 10 rfl rfl)
theorem dX4_heard_12 : decode cX4_heard 12 = .ok (.istore_n 2, 1) := dk_61 (dk_at dksX4_heard_0 12 rfl rfl)
theorem dX4_heard_13 : decode cX4_heard 13 = .ok (.aload_n 0, 1) := dk_42 (dk_at dksX4_heard_0 13 rfl rfl)
theorem dX4_heard_14 : decode cX4_heard 14 = .ok (.invokevirtual 396, 3) := dk_182 1 140 (dk_at dksX4_heard_0 14 rfl rfl)
theorem dX4_heard_17 : decode cX4_heard 17 = .ok (.iconst 0, 1) := dk_3 (dk_at dksX4_heard_0 17 rfl rfl)
theorem dX4_heard_18 : decode cX4_heard 18 = .ok (.istore_n 3, 1) := dk_62 (dk_at dksX4_heard_0 18 rfl rfl)
theorem dX4_heard_19 : decode cX4_heard 19 = .ok (.iload_n 3, 1) := dk_29 (dk_at dksX4_heard_0 19 rfl rfl)
theorem dX4_heard_20 : decode cX4_heard 20 = .ok (.bipush 20, 2) := dk_16 20 (dk_at dksX4_heard_0 20 rfl rfl)
theorem dX4_heard_22 : decode cX4_heard 22 = .ok (.if_icmp .gt 39, 3) := dk_163 0 39 (dk_at dksX4_heard_1 0 rfl rfl)
theorem dX4_heard_25 : decode cX4_heard 25 = .ok (.iload_n 2, 1) := dk_28 (dk_at dksX4_heard_1 3 rfl rfl)
theorem dX4_heard_26 : decode cX4_heard 26 = .ok (.ifCond .ge 35, 3) := dk_156 0 35 (dk_at dksX4_heard_1 4 rfl rfl)
theorem dX4_heard_29 : decode cX4_heard 29 = .ok (.aload_n 0, 1) := dk_42 (dk_at dksX4_heard_1 7 rfl rfl)
theorem dX4_heard_30 : decode cX4_heard 30 = .ok (.getfield 39, 3) := dk_180 0 39 (dk_at dksX4_heard_1 8 rfl rfl)
theorem dX4_heard_33 : decode cX4_heard 33 = .ok (.bipush 14, 2) := dk_16 14 (dk_at dksX4_heard_1 11 rfl rfl)
theorem dX4_heard_35 : decode cX4_heard 35 = .ok (.iconst 4, 1) := dk_7 (dk_at dksX4_heard_1 13 rfl rfl)
theorem dX4_heard_36 : decode cX4_heard 36 = .ok (.iload_n 1, 1) := dk_27 (dk_at dksX4_heard_1 14 rfl rfl)
theorem dX4_heard_37 : decode cX4_heard 37 = .ok (.imul, 1) := dk_104 (dk_at dksX4_heard_1 15 rfl rfl)
theorem dX4_heard_38 : decode cX4_heard 38 = .ok (.iadd, 1) := dk_96 (dk_at dksX4_heard_1 16 rfl rfl)
theorem dX4_heard_39 : decode cX4_heard 39 = .ok (.iconst 2, 1) := dk_5 (dk_at dksX4_heard_1 17 rfl rfl)
theorem dX4_heard_40 : decode cX4_heard 40 = .ok (.iadd, 1) := dk_96 (dk_at dksX4_heard_1 18 rfl rfl)
theorem dX4_heard_41 : decode cX4_heard 41 = .ok (.iload_n 3, 1) := dk_29 (dk_at dksX4_heard_1 19 rfl rfl)
theorem dX4_heard_42 : decode cX4_heard 42 = .ok (.iastore, 1) := dk_79 (dk_at dksX4_heard_1 20 rfl rfl)
theorem dX4_heard_43 : decode cX4_heard 43 = .ok (.aload_n 0, 1) := dk_42 (dk_at dksX4_heard_1 21 rfl rfl)
theorem dX4_heard_44 : decode cX4_heard 44 = .ok (.iload_n 1, 1) := dk_27 (dk_at dksX4_heard_1 22 rfl rfl)
theorem dX4_heard_45 : decode cX4_heard 45 = .ok (.bipush 20, 2) := dk_16 20 (dk_at dksX4_heard_2 0 rfl rfl)
theorem dX4_heard_47 : decode cX4_heard 47 = .ok (.invokevirtual 429, 3) := dk_182 1 173 (dk_at dksX4_heard_2 2 rfl rfl)
theorem dX4_heard_50 : decode cX4_heard 50 = .ok (.ifCond .eq 5, 3) := dk_153 0 5 (dk_at dksX4_heard_2 5 rfl rfl)
theorem dX4_heard_53 : decode cX4_heard 53 = .ok (.iload_n 3, 1) := dk_29 (dk_at dksX4_heard_2 8 rfl rfl)
theorem dX4_heard_54 : decode cX4_heard 54 = .ok (.istore_n 2, 1) := dk_61 (dk_at dksX4_heard_2 9 rfl rfl)
theorem dX4_heard_55 : decode cX4_heard 55 = .ok (.iinc 3 1, 3) := dk_132 3 1 (dk_at dksX4_heard_2 10 rfl rfl)
theorem dX4_heard_58 : decode cX4_heard 58 = .ok (.goto (-39), 3) := dk_167 255 217 (dk_at dksX4_heard_2 13 rfl rfl)
theorem dX4_heard_61 : decode cX4_heard 61 = .ok (.aload_n 0, 1) := dk_42 (dk_at dksX4_heard_2 16 rfl rfl)
theorem dX4_heard_62 : decode cX4_heard 62 = .ok (.invokevirtual 402, 3) := dk_182 1 146 (dk_at dksX4_heard_2 17 rfl rfl)
theorem dX4_heard_65 : decode cX4_heard 65 = .ok (.iload_n 2, 1) := dk_28 (dk_at dksX4_heard_2 20 rfl rfl)
theorem dX4_heard_66 : decode cX4_heard 66 = .ok (.ireturn, 1) := dk_172 (dk_at dksX4_heard_2 21 rfl rfl)
abbrev cX4_comesTo : ByteArray := prog_19_method_95_code
def yX4_comesTo : MethodName := ⟨RX4, "comesTo", "(II)Z"⟩
def dkwX4_comesTo_1 : List UInt8 := [27, 160, 0, 7, 4, 167, 0, 4, 3, 62, 132, 4, 1, 167, 255, 224, 42, 182, 1, 146, 29, 172]
abbrev dktX4_comesTo_1 : List UInt8 := dkwX4_comesTo_1 ++ []
def dkwX4_comesTo_0 : List UInt8 := [3, 62, 3, 54, 4, 21, 4, 28, 162, 0, 32, 29, 154, 0, 28, 42, 182, 1, 125, 87, 42, 180, 1, 119]
abbrev dktX4_comesTo_0 : List UInt8 := dkwX4_comesTo_0 ++ dktX4_comesTo_1
theorem dksX4_comesTo_0 : cX4_comesTo.data.toList.drop 0 = dktX4_comesTo_0 := by decide +kernel
theorem dksX4_comesTo_1 : cX4_comesTo.data.toList.drop 24 = dktX4_comesTo_1 := dk_seg dksX4_comesTo_0 24 rfl rfl
theorem dX4_comesTo_0 : decode cX4_comesTo 0 = .ok (.iconst 0, 1) := dk_3 (dk_at dksX4_comesTo_0 0 rfl rfl)
theorem dX4_comesTo_1 : decode cX4_comesTo 1 = .ok (.istore_n 3, 1) := dk_62 (dk_at dksX4_comesTo_0 1 rfl rfl)
theorem dX4_comesTo_2 : decode cX4_comesTo 2 = .ok (.iconst 0, 1) := dk_3 (dk_at dksX4_comesTo_0 2 rfl rfl)
theorem dX4_comesTo_3 : decode cX4_comesTo 3 = .ok (.istore 4, 2) := dk_54 4 (dk_at dksX4_comesTo_0 3 rfl rfl)
theorem dX4_comesTo_5 : decode cX4_comesTo 5 = .ok (.iload 4, 2) := dk_21 4 (dk_at dksX4_comesTo_0 5 rfl rfl)
theorem dX4_comesTo_7 : decode cX4_comesTo 7 = .ok (.iload_n 2, 1) := dk_28 (dk_at dksX4_comesTo_0 7 rfl rfl)
theorem dX4_comesTo_8 : decode cX4_comesTo 8 = .ok (.if_icmp .ge 32, 3) := dk_162 0 32 (dk_at dksX4_comesTo_0 8 rfl rfl)
theorem dX4_comesTo_11 : decode cX4_comesTo 11 = .ok (.iload_n 3, 1) := dk_29 (dk_at dksX4_comesTo_0 11 rfl rfl)
theorem dX4_comesTo_12 : decode cX4_comesTo 12 = .ok (.ifCond .ne 28, 3) := dk_154 0 28 (dk_at dksX4_comesTo_0 12 rfl rfl)
theorem dX4_comesTo_15 : decode cX4_comesTo 15 = .ok (.aload_n 0, 1) := dk_42 (dk_at dksX4_comesTo_0 15 rfl rfl)
theorem dX4_comesTo_16 : decode cX4_comesTo 16 = .ok (.invokevirtual 381, 3) := dk_182 1 125 (dk_at dksX4_comesTo_0 16 rfl rfl)
theorem dX4_comesTo_19 : decode cX4_comesTo 19 = .ok (.pop, 1) := dk_87 (dk_at dksX4_comesTo_0 19 rfl rfl)
theorem dX4_comesTo_20 : decode cX4_comesTo 20 = .ok (.aload_n 0, 1) := dk_42 (dk_at dksX4_comesTo_0 20 rfl rfl)
theorem dX4_comesTo_21 : decode cX4_comesTo 21 = .ok (.getfield 375, 3) := dk_180 1 119 (dk_at dksX4_comesTo_0 21 rfl rfl)
theorem dX4_comesTo_24 : decode cX4_comesTo 24 = .ok (.iload_n 1, 1) := dk_27 (dk_at dksX4_comesTo_1 0 rfl rfl)
theorem dX4_comesTo_25 : decode cX4_comesTo 25 = .ok (.if_icmp .ne 7, 3) := dk_160 0 7 (dk_at dksX4_comesTo_1 1 rfl rfl)
theorem dX4_comesTo_28 : decode cX4_comesTo 28 = .ok (.iconst 1, 1) := dk_4 (dk_at dksX4_comesTo_1 4 rfl rfl)
theorem dX4_comesTo_29 : decode cX4_comesTo 29 = .ok (.goto 4, 3) := dk_167 0 4 (dk_at dksX4_comesTo_1 5 rfl rfl)
theorem dX4_comesTo_32 : decode cX4_comesTo 32 = .ok (.iconst 0, 1) := dk_3 (dk_at dksX4_comesTo_1 8 rfl rfl)
theorem dX4_comesTo_33 : decode cX4_comesTo 33 = .ok (.istore_n 3, 1) := dk_62 (dk_at dksX4_comesTo_1 9 rfl rfl)
theorem dX4_comesTo_34 : decode cX4_comesTo 34 = .ok (.iinc 4 1, 3) := dk_132 4 1 (dk_at dksX4_comesTo_1 10 rfl rfl)
theorem dX4_comesTo_37 : decode cX4_comesTo 37 = .ok (.goto (-32), 3) := dk_167 255 224 (dk_at dksX4_comesTo_1 13 rfl rfl)
theorem dX4_comesTo_40 : decode cX4_comesTo 40 = .ok (.aload_n 0, 1) := dk_42 (dk_at dksX4_comesTo_1 16 rfl rfl)
theorem dX4_comesTo_41 : decode cX4_comesTo 41 = .ok (.invokevirtual 402, 3) := dk_182 1 146 (dk_at dksX4_comesTo_1 17 rfl rfl)
theorem dX4_comesTo_44 : decode cX4_comesTo 44 = .ok (.iload_n 3, 1) := dk_29 (dk_at dksX4_comesTo_1 20 rfl rfl)
theorem dX4_comesTo_45 : decode cX4_comesTo 45 = .ok (.ireturn, 1) := dk_172 (dk_at dksX4_comesTo_1 21 rfl rfl)
abbrev cX4_water : ByteArray := prog_19_method_98_code
def yX4_water : MethodName := ⟨RX4, "water", "(I)I"⟩
def dkwX4_water_4 : List UInt8 := [180, 0, 39, 4, 28, 79, 21, 4, 172]
abbrev dktX4_water_4 : List UInt8 := dkwX4_water_4 ++ []
def dkwX4_water_3 : List UInt8 := [182, 1, 176, 29, 160, 0, 7, 21, 5, 54, 4, 42, 182, 1, 146, 132, 5, 1, 167, 255, 212, 42]
abbrev dktX4_water_3 : List UInt8 := dkwX4_water_3 ++ dktX4_water_4
def dkwX4_water_2 : List UInt8 := [16, 9, 163, 0, 43, 21, 4, 156, 0, 38, 42, 180, 0, 39, 4, 21, 5, 79, 42, 27, 182, 1, 143, 42]
abbrev dktX4_water_2 : List UInt8 := dkwX4_water_2 ++ dktX4_water_3
def dkwX4_water_1 : List UInt8 := [180, 0, 39, 4, 46, 61, 42, 182, 1, 176, 62, 16, 254, 54, 4, 42, 182, 1, 140, 3, 54, 5, 21, 5]
abbrev dktX4_water_1 : List UInt8 := dkwX4_water_1 ++ dktX4_water_2
def dkwX4_water_0 : List UInt8 := [42, 182, 1, 60, 153, 0, 15, 27, 133, 10, 20, 1, 164, 184, 0, 121, 154, 0, 5, 2, 172, 42]
abbrev dktX4_water_0 : List UInt8 := dkwX4_water_0 ++ dktX4_water_1
theorem dksX4_water_0 : cX4_water.data.toList.drop 0 = dktX4_water_0 := by decide +kernel
theorem dksX4_water_1 : cX4_water.data.toList.drop 22 = dktX4_water_1 := dk_seg dksX4_water_0 22 rfl rfl
theorem dksX4_water_2 : cX4_water.data.toList.drop 46 = dktX4_water_2 := dk_seg dksX4_water_1 24 rfl rfl
theorem dksX4_water_3 : cX4_water.data.toList.drop 70 = dktX4_water_3 := dk_seg dksX4_water_2 24 rfl rfl
theorem dksX4_water_4 : cX4_water.data.toList.drop 92 = dktX4_water_4 := dk_seg dksX4_water_3 22 rfl rfl
theorem dX4_water_0 : decode cX4_water 0 = .ok (.aload_n 0, 1) := dk_42 (dk_at dksX4_water_0 0 rfl rfl)
theorem dX4_water_1 : decode cX4_water 1 = .ok (.invokevirtual 316, 3) := dk_182 1 60 (dk_at dksX4_water_0 1 rfl rfl)
theorem dX4_water_4 : decode cX4_water 4 = .ok (.ifCond .eq 15, 3) := dk_153 0 15 (dk_at dksX4_water_0 4 rfl rfl)
theorem dX4_water_7 : decode cX4_water 7 = .ok (.iload_n 1, 1) := dk_27 (dk_at dksX4_water_0 7 rfl rfl)
theorem dX4_water_8 : decode cX4_water 8 = .ok (.i2l, 1) := dk_133 (dk_at dksX4_water_0 8 rfl rfl)
theorem dX4_water_9 : decode cX4_water 9 = .ok (.lconst 1, 1) := dk_10 (dk_at dksX4_water_0 9 rfl rfl)
theorem dX4_water_10 : decode cX4_water 10 = .ok (.ldc2_w 420, 3) := dk_20 1 164 (dk_at dksX4_water_0 10 rfl rfl)
theorem dX4_water_13 : decode cX4_water 13 = .ok (.invokestatic 121, 3) := dk_184 0 121 (dk_at dksX4_water_0 13 rfl rfl)
theorem dX4_water_16 : decode cX4_water 16 = .ok (.ifCond .ne 5, 3) := dk_154 0 5 (dk_at dksX4_water_0 16 rfl rfl)
theorem dX4_water_19 : decode cX4_water 19 = .ok (.iconst (-1), 1) := dk_2 (dk_at dksX4_water_0 19 rfl rfl)
theorem dX4_water_20 : decode cX4_water 20 = .ok (.ireturn, 1) := dk_172 (dk_at dksX4_water_0 20 rfl rfl)
theorem dX4_water_21 : decode cX4_water 21 = .ok (.aload_n 0, 1) := dk_42 (dk_at dksX4_water_0 21 rfl rfl)
theorem dX4_water_22 : decode cX4_water 22 = .ok (.getfield 39, 3) := dk_180 0 39 (dk_at dksX4_water_1 0 rfl rfl)
theorem dX4_water_25 : decode cX4_water 25 = .ok (.iconst 1, 1) := dk_4 (dk_at dksX4_water_1 3 rfl rfl)
theorem dX4_water_26 : decode cX4_water 26 = .ok (.iaload, 1) := dk_46 (dk_at dksX4_water_1 4 rfl rfl)
theorem dX4_water_27 : decode cX4_water 27 = .ok (.istore_n 2, 1) := dk_61 (dk_at dksX4_water_1 5 rfl rfl)
theorem dX4_water_28 : decode cX4_water 28 = .ok (.aload_n 0, 1) := dk_42 (dk_at dksX4_water_1 6 rfl rfl)
theorem dX4_water_29 : decode cX4_water 29 = .ok (.invokevirtual 432, 3) := dk_182 1 176 (dk_at dksX4_water_1 7 rfl rfl)
theorem dX4_water_32 : decode cX4_water 32 = .ok (.istore_n 3, 1) := dk_62 (dk_at dksX4_water_1 10 rfl rfl)
theorem dX4_water_33 : decode cX4_water 33 = .ok (.bipush (-2), 2) := dk_16 254 (dk_at dksX4_water_1 11 rfl rfl)
theorem dX4_water_35 : decode cX4_water 35 = .ok (.istore 4, 2) := dk_54 4 (dk_at dksX4_water_1 13 rfl rfl)
theorem dX4_water_37 : decode cX4_water 37 = .ok (.aload_n 0, 1) := dk_42 (dk_at dksX4_water_1 15 rfl rfl)
theorem dX4_water_38 : decode cX4_water 38 = .ok (.invokevirtual 396, 3) := dk_182 1 140 (dk_at dksX4_water_1 16 rfl rfl)
theorem dX4_water_41 : decode cX4_water 41 = .ok (.iconst 0, 1) := dk_3 (dk_at dksX4_water_1 19 rfl rfl)
theorem dX4_water_42 : decode cX4_water 42 = .ok (.istore 5, 2) := dk_54 5 (dk_at dksX4_water_1 20 rfl rfl)
theorem dX4_water_44 : decode cX4_water 44 = .ok (.iload 5, 2) := dk_21 5 (dk_at dksX4_water_1 22 rfl rfl)
theorem dX4_water_46 : decode cX4_water 46 = .ok (.bipush 9, 2) := dk_16 9 (dk_at dksX4_water_2 0 rfl rfl)
theorem dX4_water_48 : decode cX4_water 48 = .ok (.if_icmp .gt 43, 3) := dk_163 0 43 (dk_at dksX4_water_2 2 rfl rfl)
theorem dX4_water_51 : decode cX4_water 51 = .ok (.iload 4, 2) := dk_21 4 (dk_at dksX4_water_2 5 rfl rfl)
theorem dX4_water_53 : decode cX4_water 53 = .ok (.ifCond .ge 38, 3) := dk_156 0 38 (dk_at dksX4_water_2 7 rfl rfl)
theorem dX4_water_56 : decode cX4_water 56 = .ok (.aload_n 0, 1) := dk_42 (dk_at dksX4_water_2 10 rfl rfl)
theorem dX4_water_57 : decode cX4_water 57 = .ok (.getfield 39, 3) := dk_180 0 39 (dk_at dksX4_water_2 11 rfl rfl)
theorem dX4_water_60 : decode cX4_water 60 = .ok (.iconst 1, 1) := dk_4 (dk_at dksX4_water_2 14 rfl rfl)
theorem dX4_water_61 : decode cX4_water 61 = .ok (.iload 5, 2) := dk_21 5 (dk_at dksX4_water_2 15 rfl rfl)
theorem dX4_water_63 : decode cX4_water 63 = .ok (.iastore, 1) := dk_79 (dk_at dksX4_water_2 17 rfl rfl)
theorem dX4_water_64 : decode cX4_water 64 = .ok (.aload_n 0, 1) := dk_42 (dk_at dksX4_water_2 18 rfl rfl)
theorem dX4_water_65 : decode cX4_water 65 = .ok (.iload_n 1, 1) := dk_27 (dk_at dksX4_water_2 19 rfl rfl)
theorem dX4_water_66 : decode cX4_water 66 = .ok (.invokevirtual 399, 3) := dk_182 1 143 (dk_at dksX4_water_2 20 rfl rfl)
theorem dX4_water_69 : decode cX4_water 69 = .ok (.aload_n 0, 1) := dk_42 (dk_at dksX4_water_2 23 rfl rfl)
theorem dX4_water_70 : decode cX4_water 70 = .ok (.invokevirtual 432, 3) := dk_182 1 176 (dk_at dksX4_water_3 0 rfl rfl)
theorem dX4_water_73 : decode cX4_water 73 = .ok (.iload_n 3, 1) := dk_29 (dk_at dksX4_water_3 3 rfl rfl)
theorem dX4_water_74 : decode cX4_water 74 = .ok (.if_icmp .ne 7, 3) := dk_160 0 7 (dk_at dksX4_water_3 4 rfl rfl)
theorem dX4_water_77 : decode cX4_water 77 = .ok (.iload 5, 2) := dk_21 5 (dk_at dksX4_water_3 7 rfl rfl)
theorem dX4_water_79 : decode cX4_water 79 = .ok (.istore 4, 2) := dk_54 4 (dk_at dksX4_water_3 9 rfl rfl)
theorem dX4_water_81 : decode cX4_water 81 = .ok (.aload_n 0, 1) := dk_42 (dk_at dksX4_water_3 11 rfl rfl)
theorem dX4_water_82 : decode cX4_water 82 = .ok (.invokevirtual 402, 3) := dk_182 1 146 (dk_at dksX4_water_3 12 rfl rfl)
theorem dX4_water_85 : decode cX4_water 85 = .ok (.iinc 5 1, 3) := dk_132 5 1 (dk_at dksX4_water_3 15 rfl rfl)
theorem dX4_water_88 : decode cX4_water 88 = .ok (.goto (-44), 3) := dk_167 255 212 (dk_at dksX4_water_3 18 rfl rfl)
theorem dX4_water_91 : decode cX4_water 91 = .ok (.aload_n 0, 1) := dk_42 (dk_at dksX4_water_3 21 rfl rfl)
theorem dX4_water_92 : decode cX4_water 92 = .ok (.getfield 39, 3) := dk_180 0 39 (dk_at dksX4_water_4 0 rfl rfl)
theorem dX4_water_95 : decode cX4_water 95 = .ok (.iconst 1, 1) := dk_4 (dk_at dksX4_water_4 3 rfl rfl)
theorem dX4_water_96 : decode cX4_water 96 = .ok (.iload_n 2, 1) := dk_28 (dk_at dksX4_water_4 4 rfl rfl)
theorem dX4_water_97 : decode cX4_water 97 = .ok (.iastore, 1) := dk_79 (dk_at dksX4_water_4 5 rfl rfl)
theorem dX4_water_98 : decode cX4_water 98 = .ok (.iload 4, 2) := dk_21 4 (dk_at dksX4_water_4 6 rfl rfl)
theorem dX4_water_100 : decode cX4_water 100 = .ok (.ireturn, 1) := dk_172 (dk_at dksX4_water_4 8 rfl rfl)
abbrev cX4_withWorth : ByteArray := prog_19_method_97_code
def yX4_withWorth : MethodName := ⟨RX4, "withWorth", "()I"⟩
def dkwX4_withWorth_1 : List UInt8 := [28, 120, 167, 0, 4, 3, 128, 60, 132, 2, 1, 167, 255, 225, 27, 172]
abbrev dktX4_withWorth_1 : List UInt8 := dkwX4_withWorth_1 ++ []
def dkwX4_withWorth_0 : List UInt8 := [3, 60, 3, 61, 28, 42, 180, 0, 39, 6, 46, 162, 0, 27, 27, 42, 28, 182, 1, 41, 158, 0, 9, 4]
abbrev dktX4_withWorth_0 : List UInt8 := dkwX4_withWorth_0 ++ dktX4_withWorth_1
theorem dksX4_withWorth_0 : cX4_withWorth.data.toList.drop 0 = dktX4_withWorth_0 := by decide +kernel
theorem dksX4_withWorth_1 : cX4_withWorth.data.toList.drop 24 = dktX4_withWorth_1 := dk_seg dksX4_withWorth_0 24 rfl rfl
theorem dX4_withWorth_0 : decode cX4_withWorth 0 = .ok (.iconst 0, 1) := dk_3 (dk_at dksX4_withWorth_0 0 rfl rfl)
theorem dX4_withWorth_1 : decode cX4_withWorth 1 = .ok (.istore_n 1, 1) := dk_60 (dk_at dksX4_withWorth_0 1 rfl rfl)
theorem dX4_withWorth_2 : decode cX4_withWorth 2 = .ok (.iconst 0, 1) := dk_3 (dk_at dksX4_withWorth_0 2 rfl rfl)
theorem dX4_withWorth_3 : decode cX4_withWorth 3 = .ok (.istore_n 2, 1) := dk_61 (dk_at dksX4_withWorth_0 3 rfl rfl)
theorem dX4_withWorth_4 : decode cX4_withWorth 4 = .ok (.iload_n 2, 1) := dk_28 (dk_at dksX4_withWorth_0 4 rfl rfl)
theorem dX4_withWorth_5 : decode cX4_withWorth 5 = .ok (.aload_n 0, 1) := dk_42 (dk_at dksX4_withWorth_0 5 rfl rfl)
theorem dX4_withWorth_6 : decode cX4_withWorth 6 = .ok (.getfield 39, 3) := dk_180 0 39 (dk_at dksX4_withWorth_0 6 rfl rfl)
theorem dX4_withWorth_9 : decode cX4_withWorth 9 = .ok (.iconst 3, 1) := dk_6 (dk_at dksX4_withWorth_0 9 rfl rfl)
theorem dX4_withWorth_10 : decode cX4_withWorth 10 = .ok (.iaload, 1) := dk_46 (dk_at dksX4_withWorth_0 10 rfl rfl)
theorem dX4_withWorth_11 : decode cX4_withWorth 11 = .ok (.if_icmp .ge 27, 3) := dk_162 0 27 (dk_at dksX4_withWorth_0 11 rfl rfl)
theorem dX4_withWorth_14 : decode cX4_withWorth 14 = .ok (.iload_n 1, 1) := dk_27 (dk_at dksX4_withWorth_0 14 rfl rfl)
theorem dX4_withWorth_15 : decode cX4_withWorth 15 = .ok (.aload_n 0, 1) := dk_42 (dk_at dksX4_withWorth_0 15 rfl rfl)
theorem dX4_withWorth_16 : decode cX4_withWorth 16 = .ok (.iload_n 2, 1) := dk_28 (dk_at dksX4_withWorth_0 16 rfl rfl)
theorem dX4_withWorth_17 : decode cX4_withWorth 17 = .ok (.invokevirtual 297, 3) := dk_182 1 41 (dk_at dksX4_withWorth_0 17 rfl rfl)
theorem dX4_withWorth_20 : decode cX4_withWorth 20 = .ok (.ifCond .le 9, 3) := dk_158 0 9 (dk_at dksX4_withWorth_0 20 rfl rfl)
theorem dX4_withWorth_23 : decode cX4_withWorth 23 = .ok (.iconst 1, 1) := dk_4 (dk_at dksX4_withWorth_0 23 rfl rfl)
theorem dX4_withWorth_24 : decode cX4_withWorth 24 = .ok (.iload_n 2, 1) := dk_28 (dk_at dksX4_withWorth_1 0 rfl rfl)
theorem dX4_withWorth_25 : decode cX4_withWorth 25 = .ok (.ishl, 1) := dk_120 (dk_at dksX4_withWorth_1 1 rfl rfl)
theorem dX4_withWorth_26 : decode cX4_withWorth 26 = .ok (.goto 4, 3) := dk_167 0 4 (dk_at dksX4_withWorth_1 2 rfl rfl)
theorem dX4_withWorth_29 : decode cX4_withWorth 29 = .ok (.iconst 0, 1) := dk_3 (dk_at dksX4_withWorth_1 5 rfl rfl)
theorem dX4_withWorth_30 : decode cX4_withWorth 30 = .ok (.ior, 1) := dk_128 (dk_at dksX4_withWorth_1 6 rfl rfl)
theorem dX4_withWorth_31 : decode cX4_withWorth 31 = .ok (.istore_n 1, 1) := dk_60 (dk_at dksX4_withWorth_1 7 rfl rfl)
theorem dX4_withWorth_32 : decode cX4_withWorth 32 = .ok (.iinc 2 1, 3) := dk_132 2 1 (dk_at dksX4_withWorth_1 8 rfl rfl)
theorem dX4_withWorth_35 : decode cX4_withWorth 35 = .ok (.goto (-31), 3) := dk_167 255 225 (dk_at dksX4_withWorth_1 11 rfl rfl)
theorem dX4_withWorth_38 : decode cX4_withWorth 38 = .ok (.iload_n 1, 1) := dk_27 (dk_at dksX4_withWorth_1 14 rfl rfl)
theorem dX4_withWorth_39 : decode cX4_withWorth 39 = .ok (.ireturn, 1) := dk_172 (dk_at dksX4_withWorth_1 15 rfl rfl)
abbrev cX4_clear : ByteArray := prog_19_method_99_code
def yX4_clear : MethodName := ⟨RX4, "clear", "(II)I"⟩
def dkwX4_clear_6 : List UInt8 := [154, 0, 7, 29, 167, 0, 5, 21, 4, 172]
abbrev dktX4_clear_6 : List UInt8 := dkwX4_clear_6 ++ []
def dkwX4_clear_5 : List UInt8 := [21, 7, 21, 4, 163, 0, 6, 167, 0, 10, 21, 5, 62, 21, 7, 54, 4, 132, 5, 1, 167, 255, 168, 28]
abbrev dktX4_clear_5 : List UInt8 := dkwX4_clear_5 ++ dktX4_clear_6
def dkwX4_clear_4 : List UInt8 := [96, 3, 79, 42, 21, 6, 181, 1, 47, 21, 6, 42, 27, 182, 1, 149, 96, 54, 7, 42, 3, 181, 1, 47]
abbrev dktX4_clear_4 : List UInt8 := dkwX4_clear_4 ++ dktX4_clear_5
def dkwX4_clear_3 : List UInt8 := [180, 0, 39, 16, 14, 7, 21, 5, 104, 96, 3, 79, 42, 180, 0, 39, 16, 14, 7, 21, 5, 104, 96, 4]
abbrev dktX4_clear_3 : List UInt8 := dkwX4_clear_3 ++ dktX4_clear_4
def dkwX4_clear_2 : List UInt8 := [54, 5, 21, 5, 42, 180, 0, 39, 6, 46, 162, 0, 83, 42, 21, 5, 182, 1, 41, 54, 6, 42]
abbrev dktX4_clear_2 : List UInt8 := dkwX4_clear_2 ++ dktX4_clear_3
def dkwX4_clear_1 : List UInt8 := [184, 0, 121, 154, 0, 6, 16, 254, 172, 42, 182, 1, 140, 2, 62, 42, 27, 182, 1, 149, 54, 4, 3]
abbrev dktX4_clear_1 : List UInt8 := dkwX4_clear_1 ++ dktX4_clear_2
def dkwX4_clear_0 : List UInt8 := [42, 182, 1, 60, 153, 0, 25, 27, 133, 10, 20, 1, 164, 184, 0, 121, 153, 0, 13, 28, 133, 9, 10]
abbrev dktX4_clear_0 : List UInt8 := dkwX4_clear_0 ++ dktX4_clear_1
theorem dksX4_clear_0 : cX4_clear.data.toList.drop 0 = dktX4_clear_0 := by decide +kernel
theorem dksX4_clear_1 : cX4_clear.data.toList.drop 23 = dktX4_clear_1 := dk_seg dksX4_clear_0 23 rfl rfl
theorem dksX4_clear_2 : cX4_clear.data.toList.drop 46 = dktX4_clear_2 := dk_seg dksX4_clear_1 23 rfl rfl
theorem dksX4_clear_3 : cX4_clear.data.toList.drop 68 = dktX4_clear_3 := dk_seg dksX4_clear_2 22 rfl rfl
theorem dksX4_clear_4 : cX4_clear.data.toList.drop 92 = dktX4_clear_4 := dk_seg dksX4_clear_3 24 rfl rfl
theorem dksX4_clear_5 : cX4_clear.data.toList.drop 116 = dktX4_clear_5 := dk_seg dksX4_clear_4 24 rfl rfl
theorem dksX4_clear_6 : cX4_clear.data.toList.drop 140 = dktX4_clear_6 := dk_seg dksX4_clear_5 24 rfl rfl
theorem dX4_clear_0 : decode cX4_clear 0 = .ok (.aload_n 0, 1) := dk_42 (dk_at dksX4_clear_0 0 rfl rfl)
theorem dX4_clear_1 : decode cX4_clear 1 = .ok (.invokevirtual 316, 3) := dk_182 1 60 (dk_at dksX4_clear_0 1 rfl rfl)
theorem dX4_clear_4 : decode cX4_clear 4 = .ok (.ifCond .eq 25, 3) := dk_153 0 25 (dk_at dksX4_clear_0 4 rfl rfl)
theorem dX4_clear_7 : decode cX4_clear 7 = .ok (.iload_n 1, 1) := dk_27 (dk_at dksX4_clear_0 7 rfl rfl)
theorem dX4_clear_8 : decode cX4_clear 8 = .ok (.i2l, 1) := dk_133 (dk_at dksX4_clear_0 8 rfl rfl)
theorem dX4_clear_9 : decode cX4_clear 9 = .ok (.lconst 1, 1) := dk_10 (dk_at dksX4_clear_0 9 rfl rfl)
theorem dX4_clear_10 : decode cX4_clear 10 = .ok (.ldc2_w 420, 3) := dk_20 1 164 (dk_at dksX4_clear_0 10 rfl rfl)
theorem dX4_clear_13 : decode cX4_clear 13 = .ok (.invokestatic 121, 3) := dk_184 0 121 (dk_at dksX4_clear_0 13 rfl rfl)
theorem dX4_clear_16 : decode cX4_clear 16 = .ok (.ifCond .eq 13, 3) := dk_153 0 13 (dk_at dksX4_clear_0 16 rfl rfl)
theorem dX4_clear_19 : decode cX4_clear 19 = .ok (.iload_n 2, 1) := dk_28 (dk_at dksX4_clear_0 19 rfl rfl)
theorem dX4_clear_20 : decode cX4_clear 20 = .ok (.i2l, 1) := dk_133 (dk_at dksX4_clear_0 20 rfl rfl)
theorem dX4_clear_21 : decode cX4_clear 21 = .ok (.lconst 0, 1) := dk_9 (dk_at dksX4_clear_0 21 rfl rfl)
theorem dX4_clear_22 : decode cX4_clear 22 = .ok (.lconst 1, 1) := dk_10 (dk_at dksX4_clear_0 22 rfl rfl)
theorem dX4_clear_23 : decode cX4_clear 23 = .ok (.invokestatic 121, 3) := dk_184 0 121 (dk_at dksX4_clear_1 0 rfl rfl)
theorem dX4_clear_26 : decode cX4_clear 26 = .ok (.ifCond .ne 6, 3) := dk_154 0 6 (dk_at dksX4_clear_1 3 rfl rfl)
theorem dX4_clear_29 : decode cX4_clear 29 = .ok (.bipush (-2), 2) := dk_16 254 (dk_at dksX4_clear_1 6 rfl rfl)
theorem dX4_clear_31 : decode cX4_clear 31 = .ok (.ireturn, 1) := dk_172 (dk_at dksX4_clear_1 8 rfl rfl)
theorem dX4_clear_32 : decode cX4_clear 32 = .ok (.aload_n 0, 1) := dk_42 (dk_at dksX4_clear_1 9 rfl rfl)
theorem dX4_clear_33 : decode cX4_clear 33 = .ok (.invokevirtual 396, 3) := dk_182 1 140 (dk_at dksX4_clear_1 10 rfl rfl)
theorem dX4_clear_36 : decode cX4_clear 36 = .ok (.iconst (-1), 1) := dk_2 (dk_at dksX4_clear_1 13 rfl rfl)
theorem dX4_clear_37 : decode cX4_clear 37 = .ok (.istore_n 3, 1) := dk_62 (dk_at dksX4_clear_1 14 rfl rfl)
theorem dX4_clear_38 : decode cX4_clear 38 = .ok (.aload_n 0, 1) := dk_42 (dk_at dksX4_clear_1 15 rfl rfl)
theorem dX4_clear_39 : decode cX4_clear 39 = .ok (.iload_n 1, 1) := dk_27 (dk_at dksX4_clear_1 16 rfl rfl)
theorem dX4_clear_40 : decode cX4_clear 40 = .ok (.invokevirtual 405, 3) := dk_182 1 149 (dk_at dksX4_clear_1 17 rfl rfl)
theorem dX4_clear_43 : decode cX4_clear 43 = .ok (.istore 4, 2) := dk_54 4 (dk_at dksX4_clear_1 20 rfl rfl)
theorem dX4_clear_45 : decode cX4_clear 45 = .ok (.iconst 0, 1) := dk_3 (dk_at dksX4_clear_1 22 rfl rfl)
theorem dX4_clear_46 : decode cX4_clear 46 = .ok (.istore 5, 2) := dk_54 5 (dk_at dksX4_clear_2 0 rfl rfl)
theorem dX4_clear_48 : decode cX4_clear 48 = .ok (.iload 5, 2) := dk_21 5 (dk_at dksX4_clear_2 2 rfl rfl)
theorem dX4_clear_50 : decode cX4_clear 50 = .ok (.aload_n 0, 1) := dk_42 (dk_at dksX4_clear_2 4 rfl rfl)
theorem dX4_clear_51 : decode cX4_clear 51 = .ok (.getfield 39, 3) := dk_180 0 39 (dk_at dksX4_clear_2 5 rfl rfl)
theorem dX4_clear_54 : decode cX4_clear 54 = .ok (.iconst 3, 1) := dk_6 (dk_at dksX4_clear_2 8 rfl rfl)
theorem dX4_clear_55 : decode cX4_clear 55 = .ok (.iaload, 1) := dk_46 (dk_at dksX4_clear_2 9 rfl rfl)
theorem dX4_clear_56 : decode cX4_clear 56 = .ok (.if_icmp .ge 83, 3) := dk_162 0 83 (dk_at dksX4_clear_2 10 rfl rfl)
theorem dX4_clear_59 : decode cX4_clear 59 = .ok (.aload_n 0, 1) := dk_42 (dk_at dksX4_clear_2 13 rfl rfl)
theorem dX4_clear_60 : decode cX4_clear 60 = .ok (.iload 5, 2) := dk_21 5 (dk_at dksX4_clear_2 14 rfl rfl)
theorem dX4_clear_62 : decode cX4_clear 62 = .ok (.invokevirtual 297, 3) := dk_182 1 41 (dk_at dksX4_clear_2 16 rfl rfl)
theorem dX4_clear_65 : decode cX4_clear 65 = .ok (.istore 6, 2) := dk_54 6 (dk_at dksX4_clear_2 19 rfl rfl)
theorem dX4_clear_67 : decode cX4_clear 67 = .ok (.aload_n 0, 1) := dk_42 (dk_at dksX4_clear_2 21 rfl rfl)
theorem dX4_clear_68 : decode cX4_clear 68 = .ok (.getfield 39, 3) := dk_180 0 39 (dk_at dksX4_clear_3 0 rfl rfl)
theorem dX4_clear_71 : decode cX4_clear 71 = .ok (.bipush 14, 2) := dk_16 14 (dk_at dksX4_clear_3 3 rfl rfl)
theorem dX4_clear_73 : decode cX4_clear 73 = .ok (.iconst 4, 1) := dk_7 (dk_at dksX4_clear_3 5 rfl rfl)
theorem dX4_clear_74 : decode cX4_clear 74 = .ok (.iload 5, 2) := dk_21 5 (dk_at dksX4_clear_3 6 rfl rfl)
theorem dX4_clear_76 : decode cX4_clear 76 = .ok (.imul, 1) := dk_104 (dk_at dksX4_clear_3 8 rfl rfl)
theorem dX4_clear_77 : decode cX4_clear 77 = .ok (.iadd, 1) := dk_96 (dk_at dksX4_clear_3 9 rfl rfl)
theorem dX4_clear_78 : decode cX4_clear 78 = .ok (.iconst 0, 1) := dk_3 (dk_at dksX4_clear_3 10 rfl rfl)
theorem dX4_clear_79 : decode cX4_clear 79 = .ok (.iastore, 1) := dk_79 (dk_at dksX4_clear_3 11 rfl rfl)
theorem dX4_clear_80 : decode cX4_clear 80 = .ok (.aload_n 0, 1) := dk_42 (dk_at dksX4_clear_3 12 rfl rfl)
theorem dX4_clear_81 : decode cX4_clear 81 = .ok (.getfield 39, 3) := dk_180 0 39 (dk_at dksX4_clear_3 13 rfl rfl)
theorem dX4_clear_84 : decode cX4_clear 84 = .ok (.bipush 14, 2) := dk_16 14 (dk_at dksX4_clear_3 16 rfl rfl)
theorem dX4_clear_86 : decode cX4_clear 86 = .ok (.iconst 4, 1) := dk_7 (dk_at dksX4_clear_3 18 rfl rfl)
theorem dX4_clear_87 : decode cX4_clear 87 = .ok (.iload 5, 2) := dk_21 5 (dk_at dksX4_clear_3 19 rfl rfl)
theorem dX4_clear_89 : decode cX4_clear 89 = .ok (.imul, 1) := dk_104 (dk_at dksX4_clear_3 21 rfl rfl)
theorem dX4_clear_90 : decode cX4_clear 90 = .ok (.iadd, 1) := dk_96 (dk_at dksX4_clear_3 22 rfl rfl)
theorem dX4_clear_91 : decode cX4_clear 91 = .ok (.iconst 1, 1) := dk_4 (dk_at dksX4_clear_3 23 rfl rfl)
theorem dX4_clear_92 : decode cX4_clear 92 = .ok (.iadd, 1) := dk_96 (dk_at dksX4_clear_4 0 rfl rfl)
theorem dX4_clear_93 : decode cX4_clear 93 = .ok (.iconst 0, 1) := dk_3 (dk_at dksX4_clear_4 1 rfl rfl)
theorem dX4_clear_94 : decode cX4_clear 94 = .ok (.iastore, 1) := dk_79 (dk_at dksX4_clear_4 2 rfl rfl)
theorem dX4_clear_95 : decode cX4_clear 95 = .ok (.aload_n 0, 1) := dk_42 (dk_at dksX4_clear_4 3 rfl rfl)
theorem dX4_clear_96 : decode cX4_clear 96 = .ok (.iload 6, 2) := dk_21 6 (dk_at dksX4_clear_4 4 rfl rfl)
theorem dX4_clear_98 : decode cX4_clear 98 = .ok (.putfield 303, 3) := dk_181 1 47 (dk_at dksX4_clear_4 6 rfl rfl)
theorem dX4_clear_101 : decode cX4_clear 101 = .ok (.iload 6, 2) := dk_21 6 (dk_at dksX4_clear_4 9 rfl rfl)
theorem dX4_clear_103 : decode cX4_clear 103 = .ok (.aload_n 0, 1) := dk_42 (dk_at dksX4_clear_4 11 rfl rfl)
theorem dX4_clear_104 : decode cX4_clear 104 = .ok (.iload_n 1, 1) := dk_27 (dk_at dksX4_clear_4 12 rfl rfl)
theorem dX4_clear_105 : decode cX4_clear 105 = .ok (.invokevirtual 405, 3) := dk_182 1 149 (dk_at dksX4_clear_4 13 rfl rfl)
theorem dX4_clear_108 : decode cX4_clear 108 = .ok (.iadd, 1) := dk_96 (dk_at dksX4_clear_4 16 rfl rfl)
theorem dX4_clear_109 : decode cX4_clear 109 = .ok (.istore 7, 2) := dk_54 7 (dk_at dksX4_clear_4 17 rfl rfl)
theorem dX4_clear_111 : decode cX4_clear 111 = .ok (.aload_n 0, 1) := dk_42 (dk_at dksX4_clear_4 19 rfl rfl)
theorem dX4_clear_112 : decode cX4_clear 112 = .ok (.iconst 0, 1) := dk_3 (dk_at dksX4_clear_4 20 rfl rfl)
theorem dX4_clear_113 : decode cX4_clear 113 = .ok (.putfield 303, 3) := dk_181 1 47 (dk_at dksX4_clear_4 21 rfl rfl)
theorem dX4_clear_116 : decode cX4_clear 116 = .ok (.iload 7, 2) := dk_21 7 (dk_at dksX4_clear_5 0 rfl rfl)
theorem dX4_clear_118 : decode cX4_clear 118 = .ok (.iload 4, 2) := dk_21 4 (dk_at dksX4_clear_5 2 rfl rfl)
theorem dX4_clear_120 : decode cX4_clear 120 = .ok (.if_icmp .gt 6, 3) := dk_163 0 6 (dk_at dksX4_clear_5 4 rfl rfl)
theorem dX4_clear_123 : decode cX4_clear 123 = .ok (.goto 10, 3) := dk_167 0 10 (dk_at dksX4_clear_5 7 rfl rfl)
theorem dX4_clear_126 : decode cX4_clear 126 = .ok (.iload 5, 2) := dk_21 5 (dk_at dksX4_clear_5 10 rfl rfl)
theorem dX4_clear_128 : decode cX4_clear 128 = .ok (.istore_n 3, 1) := dk_62 (dk_at dksX4_clear_5 12 rfl rfl)
theorem dX4_clear_129 : decode cX4_clear 129 = .ok (.iload 7, 2) := dk_21 7 (dk_at dksX4_clear_5 13 rfl rfl)
theorem dX4_clear_131 : decode cX4_clear 131 = .ok (.istore 4, 2) := dk_54 4 (dk_at dksX4_clear_5 15 rfl rfl)
theorem dX4_clear_133 : decode cX4_clear 133 = .ok (.iinc 5 1, 3) := dk_132 5 1 (dk_at dksX4_clear_5 17 rfl rfl)
theorem dX4_clear_136 : decode cX4_clear 136 = .ok (.goto (-88), 3) := dk_167 255 168 (dk_at dksX4_clear_5 20 rfl rfl)
theorem dX4_clear_139 : decode cX4_clear 139 = .ok (.iload_n 2, 1) := dk_28 (dk_at dksX4_clear_5 23 rfl rfl)
theorem dX4_clear_140 : decode cX4_clear 140 = .ok (.ifCond .ne 7, 3) := dk_154 0 7 (dk_at dksX4_clear_6 0 rfl rfl)
theorem dX4_clear_143 : decode cX4_clear 143 = .ok (.iload_n 3, 1) := dk_29 (dk_at dksX4_clear_6 3 rfl rfl)
theorem dX4_clear_144 : decode cX4_clear 144 = .ok (.goto 5, 3) := dk_167 0 5 (dk_at dksX4_clear_6 4 rfl rfl)
theorem dX4_clear_147 : decode cX4_clear 147 = .ok (.iload 4, 2) := dk_21 4 (dk_at dksX4_clear_6 7 rfl rfl)
theorem dX4_clear_149 : decode cX4_clear 149 = .ok (.ireturn, 1) := dk_172 (dk_at dksX4_clear_6 9 rfl rfl)
abbrev cX4_silent : ByteArray := prog_19_method_100_code
def yX4_silent : MethodName := ⟨RX4, "silent", "(II)I"⟩
def dkwX4_silent_7 : List UInt8 := [160, 0, 7, 29, 167, 0, 5, 21, 4, 172]
abbrev dktX4_silent_7 : List UInt8 := dkwX4_silent_7 ++ []
def dkwX4_silent_6 : List UInt8 := [62, 21, 6, 54, 4, 132, 5, 1, 167, 255, 152, 28, 154, 0, 10, 29, 184, 1, 76, 167, 0, 14, 28, 4]
abbrev dktX4_silent_6 : List UInt8 := dkwX4_silent_6 ++ dktX4_silent_7
def dkwX4_silent_5 : List UInt8 := [21, 6, 21, 4, 160, 0, 18, 21, 5, 184, 1, 76, 29, 184, 1, 76, 161, 0, 6, 167, 0, 10, 21, 5]
abbrev dktX4_silent_5 : List UInt8 := dkwX4_silent_5 ++ dktX4_silent_6
def dkwX4_silent_4 : List UInt8 := [5, 96, 3, 79, 132, 6, 1, 167, 255, 217, 42, 27, 182, 1, 149, 54, 6, 21, 6, 21, 4, 161, 0, 32]
abbrev dktX4_silent_4 : List UInt8 := dkwX4_silent_4 ++ dktX4_silent_5
def dkwX4_silent_3 : List UInt8 := [162, 0, 34, 21, 5, 21, 6, 184, 1, 152, 153, 0, 18, 42, 180, 0, 39, 16, 14, 7, 21, 6, 104, 96]
abbrev dktX4_silent_3 : List UInt8 := dkwX4_silent_3 ++ dktX4_silent_4
def dkwX4_silent_2 : List UInt8 := [21, 5, 4, 42, 180, 0, 39, 6, 46, 120, 162, 0, 97, 3, 54, 6, 21, 6, 42, 180, 0, 39, 6, 46]
abbrev dktX4_silent_2 : List UInt8 := dkwX4_silent_2 ++ dktX4_silent_3
def dkwX4_silent_1 : List UInt8 := [20, 1, 138, 184, 0, 121, 154, 0, 5, 2, 172, 3, 62, 2, 54, 4, 42, 182, 1, 140, 3, 54, 5]
abbrev dktX4_silent_1 : List UInt8 := dkwX4_silent_1 ++ dktX4_silent_2
def dkwX4_silent_0 : List UInt8 := [42, 182, 1, 60, 153, 0, 27, 27, 133, 10, 20, 1, 164, 184, 0, 121, 153, 0, 15, 28, 133, 9]
abbrev dktX4_silent_0 : List UInt8 := dkwX4_silent_0 ++ dktX4_silent_1
theorem dksX4_silent_0 : cX4_silent.data.toList.drop 0 = dktX4_silent_0 := by decide +kernel
theorem dksX4_silent_1 : cX4_silent.data.toList.drop 22 = dktX4_silent_1 := dk_seg dksX4_silent_0 22 rfl rfl
theorem dksX4_silent_2 : cX4_silent.data.toList.drop 45 = dktX4_silent_2 := dk_seg dksX4_silent_1 23 rfl rfl
theorem dksX4_silent_3 : cX4_silent.data.toList.drop 69 = dktX4_silent_3 := dk_seg dksX4_silent_2 24 rfl rfl
theorem dksX4_silent_4 : cX4_silent.data.toList.drop 93 = dktX4_silent_4 := dk_seg dksX4_silent_3 24 rfl rfl
theorem dksX4_silent_5 : cX4_silent.data.toList.drop 117 = dktX4_silent_5 := dk_seg dksX4_silent_4 24 rfl rfl
theorem dksX4_silent_6 : cX4_silent.data.toList.drop 141 = dktX4_silent_6 := dk_seg dksX4_silent_5 24 rfl rfl
theorem dksX4_silent_7 : cX4_silent.data.toList.drop 165 = dktX4_silent_7 := dk_seg dksX4_silent_6 24 rfl rfl
theorem dX4_silent_0 : decode cX4_silent 0 = .ok (.aload_n 0, 1) := dk_42 (dk_at dksX4_silent_0 0 rfl rfl)
theorem dX4_silent_1 : decode cX4_silent 1 = .ok (.invokevirtual 316, 3) := dk_182 1 60 (dk_at dksX4_silent_0 1 rfl rfl)
theorem dX4_silent_4 : decode cX4_silent 4 = .ok (.ifCond .eq 27, 3) := dk_153 0 27 (dk_at dksX4_silent_0 4 rfl rfl)
theorem dX4_silent_7 : decode cX4_silent 7 = .ok (.iload_n 1, 1) := dk_27 (dk_at dksX4_silent_0 7 rfl rfl)
theorem dX4_silent_8 : decode cX4_silent 8 = .ok (.i2l, 1) := dk_133 (dk_at dksX4_silent_0 8 rfl rfl)
theorem dX4_silent_9 : decode cX4_silent 9 = .ok (.lconst 1, 1) := dk_10 (dk_at dksX4_silent_0 9 rfl rfl)
theorem dX4_silent_10 : decode cX4_silent 10 = .ok (.ldc2_w 420, 3) := dk_20 1 164 (dk_at dksX4_silent_0 10 rfl rfl)
theorem dX4_silent_13 : decode cX4_silent 13 = .ok (.invokestatic 121, 3) := dk_184 0 121 (dk_at dksX4_silent_0 13 rfl rfl)
theorem dX4_silent_16 : decode cX4_silent 16 = .ok (.ifCond .eq 15, 3) := dk_153 0 15 (dk_at dksX4_silent_0 16 rfl rfl)
theorem dX4_silent_19 : decode cX4_silent 19 = .ok (.iload_n 2, 1) := dk_28 (dk_at dksX4_silent_0 19 rfl rfl)
theorem dX4_silent_20 : decode cX4_silent 20 = .ok (.i2l, 1) := dk_133 (dk_at dksX4_silent_0 20 rfl rfl)
theorem dX4_silent_21 : decode cX4_silent 21 = .ok (.lconst 0, 1) := dk_9 (dk_at dksX4_silent_0 21 rfl rfl)
theorem dX4_silent_22 : decode cX4_silent 22 = .ok (.ldc2_w 394, 3) := dk_20 1 138 (dk_at dksX4_silent_1 0 rfl rfl)
theorem dX4_silent_25 : decode cX4_silent 25 = .ok (.invokestatic 121, 3) := dk_184 0 121 (dk_at dksX4_silent_1 3 rfl rfl)
theorem dX4_silent_28 : decode cX4_silent 28 = .ok (.ifCond .ne 5, 3) := dk_154 0 5 (dk_at dksX4_silent_1 6 rfl rfl)
theorem dX4_silent_31 : decode cX4_silent 31 = .ok (.iconst (-1), 1) := dk_2 (dk_at dksX4_silent_1 9 rfl rfl)
theorem dX4_silent_32 : decode cX4_silent 32 = .ok (.ireturn, 1) := dk_172 (dk_at dksX4_silent_1 10 rfl rfl)
theorem dX4_silent_33 : decode cX4_silent 33 = .ok (.iconst 0, 1) := dk_3 (dk_at dksX4_silent_1 11 rfl rfl)
theorem dX4_silent_34 : decode cX4_silent 34 = .ok (.istore_n 3, 1) := dk_62 (dk_at dksX4_silent_1 12 rfl rfl)
theorem dX4_silent_35 : decode cX4_silent 35 = .ok (.iconst (-1), 1) := dk_2 (dk_at dksX4_silent_1 13 rfl rfl)
theorem dX4_silent_36 : decode cX4_silent 36 = .ok (.istore 4, 2) := dk_54 4 (dk_at dksX4_silent_1 14 rfl rfl)
theorem dX4_silent_38 : decode cX4_silent 38 = .ok (.aload_n 0, 1) := dk_42 (dk_at dksX4_silent_1 16 rfl rfl)
theorem dX4_silent_39 : decode cX4_silent 39 = .ok (.invokevirtual 396, 3) := dk_182 1 140 (dk_at dksX4_silent_1 17 rfl rfl)
theorem dX4_silent_42 : decode cX4_silent 42 = .ok (.iconst 0, 1) := dk_3 (dk_at dksX4_silent_1 20 rfl rfl)
theorem dX4_silent_43 : decode cX4_silent 43 = .ok (.istore 5, 2) := dk_54 5 (dk_at dksX4_silent_1 21 rfl rfl)
theorem dX4_silent_45 : decode cX4_silent 45 = .ok (.iload 5, 2) := dk_21 5 (dk_at dksX4_silent_2 0 rfl rfl)
theorem dX4_silent_47 : decode cX4_silent 47 = .ok (.iconst 1, 1) := dk_4 (dk_at dksX4_silent_2 2 rfl rfl)
theorem dX4_silent_48 : decode cX4_silent 48 = .ok (.aload_n 0, 1) := dk_42 (dk_at dksX4_silent_2 3 rfl rfl)
theorem dX4_silent_49 : decode cX4_silent 49 = .ok (.getfield 39, 3) := dk_180 0 39 (dk_at dksX4_silent_2 4 rfl rfl)
theorem dX4_silent_52 : decode cX4_silent 52 = .ok (.iconst 3, 1) := dk_6 (dk_at dksX4_silent_2 7 rfl rfl)
theorem dX4_silent_53 : decode cX4_silent 53 = .ok (.iaload, 1) := dk_46 (dk_at dksX4_silent_2 8 rfl rfl)
theorem dX4_silent_54 : decode cX4_silent 54 = .ok (.ishl, 1) := dk_120 (dk_at dksX4_silent_2 9 rfl rfl)
theorem dX4_silent_55 : decode cX4_silent 55 = .ok (.if_icmp .ge 97, 3) := dk_162 0 97 (dk_at dksX4_silent_2 10 rfl rfl)
theorem dX4_silent_58 : decode cX4_silent 58 = .ok (.iconst 0, 1) := dk_3 (dk_at dksX4_silent_2 13 rfl rfl)
theorem dX4_silent_59 : decode cX4_silent 59 = .ok (.istore 6, 2) := dk_54 6 (dk_at dksX4_silent_2 14 rfl rfl)
theorem dX4_silent_61 : decode cX4_silent 61 = .ok (.iload 6, 2) := dk_21 6 (dk_at dksX4_silent_2 16 rfl rfl)
theorem dX4_silent_63 : decode cX4_silent 63 = .ok (.aload_n 0, 1) := dk_42 (dk_at dksX4_silent_2 18 rfl rfl)
theorem dX4_silent_64 : decode cX4_silent 64 = .ok (.getfield 39, 3) := dk_180 0 39 (dk_at dksX4_silent_2 19 rfl rfl)
theorem dX4_silent_67 : decode cX4_silent 67 = .ok (.iconst 3, 1) := dk_6 (dk_at dksX4_silent_2 22 rfl rfl)
theorem dX4_silent_68 : decode cX4_silent 68 = .ok (.iaload, 1) := dk_46 (dk_at dksX4_silent_2 23 rfl rfl)
theorem dX4_silent_69 : decode cX4_silent 69 = .ok (.if_icmp .ge 34, 3) := dk_162 0 34 (dk_at dksX4_silent_3 0 rfl rfl)
theorem dX4_silent_72 : decode cX4_silent 72 = .ok (.iload 5, 2) := dk_21 5 (dk_at dksX4_silent_3 3 rfl rfl)
theorem dX4_silent_74 : decode cX4_silent 74 = .ok (.iload 6, 2) := dk_21 6 (dk_at dksX4_silent_3 5 rfl rfl)
theorem dX4_silent_76 : decode cX4_silent 76 = .ok (.invokestatic 408, 3) := dk_184 1 152 (dk_at dksX4_silent_3 7 rfl rfl)
theorem dX4_silent_79 : decode cX4_silent 79 = .ok (.ifCond .eq 18, 3) := dk_153 0 18 (dk_at dksX4_silent_3 10 rfl rfl)
theorem dX4_silent_82 : decode cX4_silent 82 = .ok (.aload_n 0, 1) := dk_42 (dk_at dksX4_silent_3 13 rfl rfl)
theorem dX4_silent_83 : decode cX4_silent 83 = .ok (.getfield 39, 3) := dk_180 0 39 (dk_at dksX4_silent_3 14 rfl rfl)
theorem dX4_silent_86 : decode cX4_silent 86 = .ok (.bipush 14, 2) := dk_16 14 (dk_at dksX4_silent_3 17 rfl rfl)
theorem dX4_silent_88 : decode cX4_silent 88 = .ok (.iconst 4, 1) := dk_7 (dk_at dksX4_silent_3 19 rfl rfl)
theorem dX4_silent_89 : decode cX4_silent 89 = .ok (.iload 6, 2) := dk_21 6 (dk_at dksX4_silent_3 20 rfl rfl)
theorem dX4_silent_91 : decode cX4_silent 91 = .ok (.imul, 1) := dk_104 (dk_at dksX4_silent_3 22 rfl rfl)
theorem dX4_silent_92 : decode cX4_silent 92 = .ok (.iadd, 1) := dk_96 (dk_at dksX4_silent_3 23 rfl rfl)
theorem dX4_silent_93 : decode cX4_silent 93 = .ok (.iconst 2, 1) := dk_5 (dk_at dksX4_silent_4 0 rfl rfl)
theorem dX4_silent_94 : decode cX4_silent 94 = .ok (.iadd, 1) := dk_96 (dk_at dksX4_silent_4 1 rfl rfl)
theorem dX4_silent_95 : decode cX4_silent 95 = .ok (.iconst 0, 1) := dk_3 (dk_at dksX4_silent_4 2 rfl rfl)
theorem dX4_silent_96 : decode cX4_silent 96 = .ok (.iastore, 1) := dk_79 (dk_at dksX4_silent_4 3 rfl rfl)
theorem dX4_silent_97 : decode cX4_silent 97 = .ok (.iinc 6 1, 3) := dk_132 6 1 (dk_at dksX4_silent_4 4 rfl rfl)
theorem dX4_silent_100 : decode cX4_silent 100 = .ok (.goto (-39), 3) := dk_167 255 217 (dk_at dksX4_silent_4 7 rfl rfl)
theorem dX4_silent_103 : decode cX4_silent 103 = .ok (.aload_n 0, 1) := dk_42 (dk_at dksX4_silent_4 10 rfl rfl)
theorem dX4_silent_104 : decode cX4_silent 104 = .ok (.iload_n 1, 1) := dk_27 (dk_at dksX4_silent_4 11 rfl rfl)
theorem dX4_silent_105 : decode cX4_silent 105 = .ok (.invokevirtual 405, 3) := dk_182 1 149 (dk_at dksX4_silent_4 12 rfl rfl)
theorem dX4_silent_108 : decode cX4_silent 108 = .ok (.istore 6, 2) := dk_54 6 (dk_at dksX4_silent_4 15 rfl rfl)
theorem dX4_silent_110 : decode cX4_silent 110 = .ok (.iload 6, 2) := dk_21 6 (dk_at dksX4_silent_4 17 rfl rfl)
theorem dX4_silent_112 : decode cX4_silent 112 = .ok (.iload 4, 2) := dk_21 4 (dk_at dksX4_silent_4 19 rfl rfl)
theorem dX4_silent_114 : decode cX4_silent 114 = .ok (.if_icmp .lt 32, 3) := dk_161 0 32 (dk_at dksX4_silent_4 21 rfl rfl)
theorem dX4_silent_117 : decode cX4_silent 117 = .ok (.iload 6, 2) := dk_21 6 (dk_at dksX4_silent_5 0 rfl rfl)
theorem dX4_silent_119 : decode cX4_silent 119 = .ok (.iload 4, 2) := dk_21 4 (dk_at dksX4_silent_5 2 rfl rfl)
theorem dX4_silent_121 : decode cX4_silent 121 = .ok (.if_icmp .ne 18, 3) := dk_160 0 18 (dk_at dksX4_silent_5 4 rfl rfl)
theorem dX4_silent_124 : decode cX4_silent 124 = .ok (.iload 5, 2) := dk_21 5 (dk_at dksX4_silent_5 7 rfl rfl)
theorem dX4_silent_126 : decode cX4_silent 126 = .ok (.invokestatic 332, 3) := dk_184 1 76 (dk_at dksX4_silent_5 9 rfl rfl)
theorem dX4_silent_129 : decode cX4_silent 129 = .ok (.iload_n 3, 1) := dk_29 (dk_at dksX4_silent_5 12 rfl rfl)
theorem dX4_silent_130 : decode cX4_silent 130 = .ok (.invokestatic 332, 3) := dk_184 1 76 (dk_at dksX4_silent_5 13 rfl rfl)
theorem dX4_silent_133 : decode cX4_silent 133 = .ok (.if_icmp .lt 6, 3) := dk_161 0 6 (dk_at dksX4_silent_5 16 rfl rfl)
theorem dX4_silent_136 : decode cX4_silent 136 = .ok (.goto 10, 3) := dk_167 0 10 (dk_at dksX4_silent_5 19 rfl rfl)
theorem dX4_silent_139 : decode cX4_silent 139 = .ok (.iload 5, 2) := dk_21 5 (dk_at dksX4_silent_5 22 rfl rfl)
theorem dX4_silent_141 : decode cX4_silent 141 = .ok (.istore_n 3, 1) := dk_62 (dk_at dksX4_silent_6 0 rfl rfl)
theorem dX4_silent_142 : decode cX4_silent 142 = .ok (.iload 6, 2) := dk_21 6 (dk_at dksX4_silent_6 1 rfl rfl)
theorem dX4_silent_144 : decode cX4_silent 144 = .ok (.istore 4, 2) := dk_54 4 (dk_at dksX4_silent_6 3 rfl rfl)
theorem dX4_silent_146 : decode cX4_silent 146 = .ok (.iinc 5 1, 3) := dk_132 5 1 (dk_at dksX4_silent_6 5 rfl rfl)
theorem dX4_silent_149 : decode cX4_silent 149 = .ok (.goto (-104), 3) := dk_167 255 152 (dk_at dksX4_silent_6 8 rfl rfl)
theorem dX4_silent_152 : decode cX4_silent 152 = .ok (.iload_n 2, 1) := dk_28 (dk_at dksX4_silent_6 11 rfl rfl)
theorem dX4_silent_153 : decode cX4_silent 153 = .ok (.ifCond .ne 10, 3) := dk_154 0 10 (dk_at dksX4_silent_6 12 rfl rfl)
theorem dX4_silent_156 : decode cX4_silent 156 = .ok (.iload_n 3, 1) := dk_29 (dk_at dksX4_silent_6 15 rfl rfl)
theorem dX4_silent_157 : decode cX4_silent 157 = .ok (.invokestatic 332, 3) := dk_184 1 76 (dk_at dksX4_silent_6 16 rfl rfl)
theorem dX4_silent_160 : decode cX4_silent 160 = .ok (.goto 14, 3) := dk_167 0 14 (dk_at dksX4_silent_6 19 rfl rfl)
theorem dX4_silent_163 : decode cX4_silent 163 = .ok (.iload_n 2, 1) := dk_28 (dk_at dksX4_silent_6 22 rfl rfl)
theorem dX4_silent_164 : decode cX4_silent 164 = .ok (.iconst 1, 1) := dk_4 (dk_at dksX4_silent_6 23 rfl rfl)
theorem dX4_silent_165 : decode cX4_silent 165 = .ok (.if_icmp .ne 7, 3) := dk_160 0 7 (dk_at dksX4_silent_7 0 rfl rfl)
theorem dX4_silent_168 : decode cX4_silent 168 = .ok (.iload_n 3, 1) := dk_29 (dk_at dksX4_silent_7 3 rfl rfl)
theorem dX4_silent_169 : decode cX4_silent 169 = .ok (.goto 5, 3) := dk_167 0 5 (dk_at dksX4_silent_7 4 rfl rfl)
theorem dX4_silent_172 : decode cX4_silent 172 = .ok (.iload 4, 2) := dk_21 4 (dk_at dksX4_silent_7 7 rfl rfl)
theorem dX4_silent_174 : decode cX4_silent 174 = .ok (.ireturn, 1) := dk_172 (dk_at dksX4_silent_7 9 rfl rfl)
abbrev cX4_pence : ByteArray := prog_19_method_101_code
def yX4_pence : MethodName := ⟨RX4, "pence", "(II)I"⟩
def dkwX4_pence_6 : List UInt8 := [96, 172]
abbrev dktX4_pence_6 : List UInt8 := dkwX4_pence_6 ++ []
def dkwX4_pence_5 : List UInt8 := [54, 6, 132, 7, 1, 167, 255, 185, 21, 4, 29, 108, 21, 6, 21, 5, 162, 0, 7, 4, 167, 0, 4, 3]
abbrev dktX4_pence_5 : List UInt8 := dkwX4_pence_5 ++ dktX4_pence_6
def dkwX4_pence_4 : List UInt8 := [21, 8, 29, 112, 21, 4, 29, 112, 160, 0, 13, 21, 7, 28, 162, 0, 7, 4, 167, 0, 4, 3, 96]
abbrev dktX4_pence_4 : List UInt8 := dkwX4_pence_4 ++ dktX4_pence_5
def dkwX4_pence_3 : List UInt8 := [54, 8, 21, 5, 21, 8, 29, 108, 100, 54, 5, 21, 6, 21, 8, 29, 112, 21, 4, 29, 112, 163, 0, 20]
abbrev dktX4_pence_3 : List UInt8 := dkwX4_pence_3 ++ dktX4_pence_4
def dkwX4_pence_2 : List UInt8 := [54, 6, 3, 54, 7, 21, 7, 42, 180, 0, 39, 6, 46, 162, 0, 66, 27, 42, 21, 7, 182, 1, 44, 104]
abbrev dktX4_pence_2 : List UInt8 := dkwX4_pence_2 ++ dktX4_pence_3
def dkwX4_pence_1 : List UInt8 := [182, 1, 79, 62, 29, 154, 0, 5, 3, 172, 27, 42, 28, 182, 1, 44, 104, 54, 4, 27, 54, 5, 3]
abbrev dktX4_pence_1 : List UInt8 := dkwX4_pence_1 ++ dktX4_pence_2
def dkwX4_pence_0 : List UInt8 := [42, 28, 182, 1, 57, 153, 0, 15, 27, 133, 9, 20, 1, 179, 184, 0, 121, 154, 0, 5, 2, 172, 42]
abbrev dktX4_pence_0 : List UInt8 := dkwX4_pence_0 ++ dktX4_pence_1
theorem dksX4_pence_0 : cX4_pence.data.toList.drop 0 = dktX4_pence_0 := by decide +kernel
theorem dksX4_pence_1 : cX4_pence.data.toList.drop 23 = dktX4_pence_1 := dk_seg dksX4_pence_0 23 rfl rfl
theorem dksX4_pence_2 : cX4_pence.data.toList.drop 46 = dktX4_pence_2 := dk_seg dksX4_pence_1 23 rfl rfl
theorem dksX4_pence_3 : cX4_pence.data.toList.drop 70 = dktX4_pence_3 := dk_seg dksX4_pence_2 24 rfl rfl
theorem dksX4_pence_4 : cX4_pence.data.toList.drop 94 = dktX4_pence_4 := dk_seg dksX4_pence_3 24 rfl rfl
theorem dksX4_pence_5 : cX4_pence.data.toList.drop 117 = dktX4_pence_5 := dk_seg dksX4_pence_4 23 rfl rfl
theorem dksX4_pence_6 : cX4_pence.data.toList.drop 141 = dktX4_pence_6 := dk_seg dksX4_pence_5 24 rfl rfl
theorem dX4_pence_0 : decode cX4_pence 0 = .ok (.aload_n 0, 1) := dk_42 (dk_at dksX4_pence_0 0 rfl rfl)
theorem dX4_pence_1 : decode cX4_pence 1 = .ok (.iload_n 2, 1) := dk_28 (dk_at dksX4_pence_0 1 rfl rfl)
theorem dX4_pence_2 : decode cX4_pence 2 = .ok (.invokevirtual 313, 3) := dk_182 1 57 (dk_at dksX4_pence_0 2 rfl rfl)
theorem dX4_pence_5 : decode cX4_pence 5 = .ok (.ifCond .eq 15, 3) := dk_153 0 15 (dk_at dksX4_pence_0 5 rfl rfl)
theorem dX4_pence_8 : decode cX4_pence 8 = .ok (.iload_n 1, 1) := dk_27 (dk_at dksX4_pence_0 8 rfl rfl)
theorem dX4_pence_9 : decode cX4_pence 9 = .ok (.i2l, 1) := dk_133 (dk_at dksX4_pence_0 9 rfl rfl)
theorem dX4_pence_10 : decode cX4_pence 10 = .ok (.lconst 0, 1) := dk_9 (dk_at dksX4_pence_0 10 rfl rfl)
theorem dX4_pence_11 : decode cX4_pence 11 = .ok (.ldc2_w 435, 3) := dk_20 1 179 (dk_at dksX4_pence_0 11 rfl rfl)
theorem dX4_pence_14 : decode cX4_pence 14 = .ok (.invokestatic 121, 3) := dk_184 0 121 (dk_at dksX4_pence_0 14 rfl rfl)
theorem dX4_pence_17 : decode cX4_pence 17 = .ok (.ifCond .ne 5, 3) := dk_154 0 5 (dk_at dksX4_pence_0 17 rfl rfl)
theorem dX4_pence_20 : decode cX4_pence 20 = .ok (.iconst (-1), 1) := dk_2 (dk_at dksX4_pence_0 20 rfl rfl)
theorem dX4_pence_21 : decode cX4_pence 21 = .ok (.ireturn, 1) := dk_172 (dk_at dksX4_pence_0 21 rfl rfl)
theorem dX4_pence_22 : decode cX4_pence 22 = .ok (.aload_n 0, 1) := dk_42 (dk_at dksX4_pence_0 22 rfl rfl)
theorem dX4_pence_23 : decode cX4_pence 23 = .ok (.invokevirtual 335, 3) := dk_182 1 79 (dk_at dksX4_pence_1 0 rfl rfl)
theorem dX4_pence_26 : decode cX4_pence 26 = .ok (.istore_n 3, 1) := dk_62 (dk_at dksX4_pence_1 3 rfl rfl)
theorem dX4_pence_27 : decode cX4_pence 27 = .ok (.iload_n 3, 1) := dk_29 (dk_at dksX4_pence_1 4 rfl rfl)
theorem dX4_pence_28 : decode cX4_pence 28 = .ok (.ifCond .ne 5, 3) := dk_154 0 5 (dk_at dksX4_pence_1 5 rfl rfl)
theorem dX4_pence_31 : decode cX4_pence 31 = .ok (.iconst 0, 1) := dk_3 (dk_at dksX4_pence_1 8 rfl rfl)
theorem dX4_pence_32 : decode cX4_pence 32 = .ok (.ireturn, 1) := dk_172 (dk_at dksX4_pence_1 9 rfl rfl)
theorem dX4_pence_33 : decode cX4_pence 33 = .ok (.iload_n 1, 1) := dk_27 (dk_at dksX4_pence_1 10 rfl rfl)
theorem dX4_pence_34 : decode cX4_pence 34 = .ok (.aload_n 0, 1) := dk_42 (dk_at dksX4_pence_1 11 rfl rfl)
theorem dX4_pence_35 : decode cX4_pence 35 = .ok (.iload_n 2, 1) := dk_28 (dk_at dksX4_pence_1 12 rfl rfl)
theorem dX4_pence_36 : decode cX4_pence 36 = .ok (.invokevirtual 300, 3) := dk_182 1 44 (dk_at dksX4_pence_1 13 rfl rfl)
theorem dX4_pence_39 : decode cX4_pence 39 = .ok (.imul, 1) := dk_104 (dk_at dksX4_pence_1 16 rfl rfl)
theorem dX4_pence_40 : decode cX4_pence 40 = .ok (.istore 4, 2) := dk_54 4 (dk_at dksX4_pence_1 17 rfl rfl)
theorem dX4_pence_42 : decode cX4_pence 42 = .ok (.iload_n 1, 1) := dk_27 (dk_at dksX4_pence_1 19 rfl rfl)
theorem dX4_pence_43 : decode cX4_pence 43 = .ok (.istore 5, 2) := dk_54 5 (dk_at dksX4_pence_1 20 rfl rfl)
theorem dX4_pence_45 : decode cX4_pence 45 = .ok (.iconst 0, 1) := dk_3 (dk_at dksX4_pence_1 22 rfl rfl)
theorem dX4_pence_46 : decode cX4_pence 46 = .ok (.istore 6, 2) := dk_54 6 (dk_at dksX4_pence_2 0 rfl rfl)
theorem dX4_pence_48 : decode cX4_pence 48 = .ok (.iconst 0, 1) := dk_3 (dk_at dksX4_pence_2 2 rfl rfl)
theorem dX4_pence_49 : decode cX4_pence 49 = .ok (.istore 7, 2) := dk_54 7 (dk_at dksX4_pence_2 3 rfl rfl)
theorem dX4_pence_51 : decode cX4_pence 51 = .ok (.iload 7, 2) := dk_21 7 (dk_at dksX4_pence_2 5 rfl rfl)
theorem dX4_pence_53 : decode cX4_pence 53 = .ok (.aload_n 0, 1) := dk_42 (dk_at dksX4_pence_2 7 rfl rfl)
theorem dX4_pence_54 : decode cX4_pence 54 = .ok (.getfield 39, 3) := dk_180 0 39 (dk_at dksX4_pence_2 8 rfl rfl)
theorem dX4_pence_57 : decode cX4_pence 57 = .ok (.iconst 3, 1) := dk_6 (dk_at dksX4_pence_2 11 rfl rfl)
theorem dX4_pence_58 : decode cX4_pence 58 = .ok (.iaload, 1) := dk_46 (dk_at dksX4_pence_2 12 rfl rfl)
theorem dX4_pence_59 : decode cX4_pence 59 = .ok (.if_icmp .ge 66, 3) := dk_162 0 66 (dk_at dksX4_pence_2 13 rfl rfl)
theorem dX4_pence_62 : decode cX4_pence 62 = .ok (.iload_n 1, 1) := dk_27 (dk_at dksX4_pence_2 16 rfl rfl)
theorem dX4_pence_63 : decode cX4_pence 63 = .ok (.aload_n 0, 1) := dk_42 (dk_at dksX4_pence_2 17 rfl rfl)
theorem dX4_pence_64 : decode cX4_pence 64 = .ok (.iload 7, 2) := dk_21 7 (dk_at dksX4_pence_2 18 rfl rfl)
theorem dX4_pence_66 : decode cX4_pence 66 = .ok (.invokevirtual 300, 3) := dk_182 1 44 (dk_at dksX4_pence_2 20 rfl rfl)
theorem dX4_pence_69 : decode cX4_pence 69 = .ok (.imul, 1) := dk_104 (dk_at dksX4_pence_2 23 rfl rfl)
theorem dX4_pence_70 : decode cX4_pence 70 = .ok (.istore 8, 2) := dk_54 8 (dk_at dksX4_pence_3 0 rfl rfl)
theorem dX4_pence_72 : decode cX4_pence 72 = .ok (.iload 5, 2) := dk_21 5 (dk_at dksX4_pence_3 2 rfl rfl)
theorem dX4_pence_74 : decode cX4_pence 74 = .ok (.iload 8, 2) := dk_21 8 (dk_at dksX4_pence_3 4 rfl rfl)
theorem dX4_pence_76 : decode cX4_pence 76 = .ok (.iload_n 3, 1) := dk_29 (dk_at dksX4_pence_3 6 rfl rfl)
theorem dX4_pence_77 : decode cX4_pence 77 = .ok (.idiv, 1) := dk_108 (dk_at dksX4_pence_3 7 rfl rfl)
theorem dX4_pence_78 : decode cX4_pence 78 = .ok (.isub, 1) := dk_100 (dk_at dksX4_pence_3 8 rfl rfl)
theorem dX4_pence_79 : decode cX4_pence 79 = .ok (.istore 5, 2) := dk_54 5 (dk_at dksX4_pence_3 9 rfl rfl)
theorem dX4_pence_81 : decode cX4_pence 81 = .ok (.iload 6, 2) := dk_21 6 (dk_at dksX4_pence_3 11 rfl rfl)
theorem dX4_pence_83 : decode cX4_pence 83 = .ok (.iload 8, 2) := dk_21 8 (dk_at dksX4_pence_3 13 rfl rfl)
theorem dX4_pence_85 : decode cX4_pence 85 = .ok (.iload_n 3, 1) := dk_29 (dk_at dksX4_pence_3 15 rfl rfl)
theorem dX4_pence_86 : decode cX4_pence 86 = .ok (.irem, 1) := dk_112 (dk_at dksX4_pence_3 16 rfl rfl)
theorem dX4_pence_87 : decode cX4_pence 87 = .ok (.iload 4, 2) := dk_21 4 (dk_at dksX4_pence_3 17 rfl rfl)
theorem dX4_pence_89 : decode cX4_pence 89 = .ok (.iload_n 3, 1) := dk_29 (dk_at dksX4_pence_3 19 rfl rfl)
theorem dX4_pence_90 : decode cX4_pence 90 = .ok (.irem, 1) := dk_112 (dk_at dksX4_pence_3 20 rfl rfl)
theorem dX4_pence_91 : decode cX4_pence 91 = .ok (.if_icmp .gt 20, 3) := dk_163 0 20 (dk_at dksX4_pence_3 21 rfl rfl)
theorem dX4_pence_94 : decode cX4_pence 94 = .ok (.iload 8, 2) := dk_21 8 (dk_at dksX4_pence_4 0 rfl rfl)
theorem dX4_pence_96 : decode cX4_pence 96 = .ok (.iload_n 3, 1) := dk_29 (dk_at dksX4_pence_4 2 rfl rfl)
theorem dX4_pence_97 : decode cX4_pence 97 = .ok (.irem, 1) := dk_112 (dk_at dksX4_pence_4 3 rfl rfl)
theorem dX4_pence_98 : decode cX4_pence 98 = .ok (.iload 4, 2) := dk_21 4 (dk_at dksX4_pence_4 4 rfl rfl)
theorem dX4_pence_100 : decode cX4_pence 100 = .ok (.iload_n 3, 1) := dk_29 (dk_at dksX4_pence_4 6 rfl rfl)
theorem dX4_pence_101 : decode cX4_pence 101 = .ok (.irem, 1) := dk_112 (dk_at dksX4_pence_4 7 rfl rfl)
theorem dX4_pence_102 : decode cX4_pence 102 = .ok (.if_icmp .ne 13, 3) := dk_160 0 13 (dk_at dksX4_pence_4 8 rfl rfl)
theorem dX4_pence_105 : decode cX4_pence 105 = .ok (.iload 7, 2) := dk_21 7 (dk_at dksX4_pence_4 11 rfl rfl)
theorem dX4_pence_107 : decode cX4_pence 107 = .ok (.iload_n 2, 1) := dk_28 (dk_at dksX4_pence_4 13 rfl rfl)
theorem dX4_pence_108 : decode cX4_pence 108 = .ok (.if_icmp .ge 7, 3) := dk_162 0 7 (dk_at dksX4_pence_4 14 rfl rfl)
theorem dX4_pence_111 : decode cX4_pence 111 = .ok (.iconst 1, 1) := dk_4 (dk_at dksX4_pence_4 17 rfl rfl)
theorem dX4_pence_112 : decode cX4_pence 112 = .ok (.goto 4, 3) := dk_167 0 4 (dk_at dksX4_pence_4 18 rfl rfl)
theorem dX4_pence_115 : decode cX4_pence 115 = .ok (.iconst 0, 1) := dk_3 (dk_at dksX4_pence_4 21 rfl rfl)
theorem dX4_pence_116 : decode cX4_pence 116 = .ok (.iadd, 1) := dk_96 (dk_at dksX4_pence_4 22 rfl rfl)
theorem dX4_pence_117 : decode cX4_pence 117 = .ok (.istore 6, 2) := dk_54 6 (dk_at dksX4_pence_5 0 rfl rfl)
theorem dX4_pence_119 : decode cX4_pence 119 = .ok (.iinc 7 1, 3) := dk_132 7 1 (dk_at dksX4_pence_5 2 rfl rfl)
theorem dX4_pence_122 : decode cX4_pence 122 = .ok (.goto (-71), 3) := dk_167 255 185 (dk_at dksX4_pence_5 5 rfl rfl)
theorem dX4_pence_125 : decode cX4_pence 125 = .ok (.iload 4, 2) := dk_21 4 (dk_at dksX4_pence_5 8 rfl rfl)
theorem dX4_pence_127 : decode cX4_pence 127 = .ok (.iload_n 3, 1) := dk_29 (dk_at dksX4_pence_5 10 rfl rfl)
theorem dX4_pence_128 : decode cX4_pence 128 = .ok (.idiv, 1) := dk_108 (dk_at dksX4_pence_5 11 rfl rfl)
theorem dX4_pence_129 : decode cX4_pence 129 = .ok (.iload 6, 2) := dk_21 6 (dk_at dksX4_pence_5 12 rfl rfl)
theorem dX4_pence_131 : decode cX4_pence 131 = .ok (.iload 5, 2) := dk_21 5 (dk_at dksX4_pence_5 14 rfl rfl)
theorem dX4_pence_133 : decode cX4_pence 133 = .ok (.if_icmp .ge 7, 3) := dk_162 0 7 (dk_at dksX4_pence_5 16 rfl rfl)
theorem dX4_pence_136 : decode cX4_pence 136 = .ok (.iconst 1, 1) := dk_4 (dk_at dksX4_pence_5 19 rfl rfl)
theorem dX4_pence_137 : decode cX4_pence 137 = .ok (.goto 4, 3) := dk_167 0 4 (dk_at dksX4_pence_5 20 rfl rfl)
theorem dX4_pence_140 : decode cX4_pence 140 = .ok (.iconst 0, 1) := dk_3 (dk_at dksX4_pence_5 23 rfl rfl)
theorem dX4_pence_141 : decode cX4_pence 141 = .ok (.iadd, 1) := dk_96 (dk_at dksX4_pence_6 0 rfl rfl)
theorem dX4_pence_142 : decode cX4_pence 142 = .ok (.ireturn, 1) := dk_172 (dk_at dksX4_pence_6 1 rfl rfl)
abbrev cX4_rests : ByteArray := prog_19_method_103_code
def yX4_rests : MethodName := ⟨RX4, "rests", "(IIII)I"⟩
def dkwX4_rests_10 : List UInt8 := [112, 104, 172]
abbrev dktX4_rests_10 : List UInt8 := dkwX4_rests_10 ++ []
def dkwX4_rests_9 : List UInt8 := [16, 254, 167, 0, 24, 21, 4, 4, 160, 0, 12, 8, 21, 6, 8, 108, 104, 167, 0, 9, 8, 21, 6, 8]
abbrev dktX4_rests_9 : List UInt8 := dkwX4_rests_9 ++ dktX4_rests_10
def dkwX4_rests_8 : List UInt8 := [54, 6, 132, 5, 1, 132, 7, 255, 167, 255, 223, 21, 4, 154, 0, 6, 21, 5, 172, 21, 6, 156, 0, 8]
abbrev dktX4_rests_8 : List UInt8 := dkwX4_rests_8 ++ dktX4_rests_9
def dkwX4_rests_7 : List UInt8 := [155, 0, 34, 42, 21, 7, 8, 108, 21, 7, 8, 112, 182, 1, 181, 154, 0, 6, 167, 0, 10, 21, 7]
abbrev dktX4_rests_7 : List UInt8 := dkwX4_rests_7 ++ dktX4_rests_8
def dkwX4_rests_6 : List UInt8 := [79, 42, 182, 1, 146, 132, 5, 1, 167, 255, 159, 3, 54, 5, 2, 54, 6, 16, 24, 54, 7, 21, 7]
abbrev dktX4_rests_6 : List UInt8 := dkwX4_rests_6 ++ dktX4_rests_7
def dkwX4_rests_5 : List UInt8 := [8, 108, 100, 79, 42, 180, 0, 61, 5, 21, 5, 104, 4, 96, 42, 28, 182, 1, 41, 21, 5, 8, 112, 100]
abbrev dktX4_rests_5 : List UInt8 := dkwX4_rests_5 ++ dktX4_rests_6
def dkwX4_rests_4 : List UInt8 := [8, 112, 104, 79, 42, 29, 182, 1, 143, 42, 180, 0, 61, 5, 21, 5, 104, 42, 27, 182, 1, 41, 21, 5]
abbrev dktX4_rests_4 : List UInt8 := dkwX4_rests_4 ++ dktX4_rests_5
def dkwX4_rests_3 : List UInt8 := [5, 96, 8, 21, 5, 8, 108, 104, 79, 42, 180, 0, 39, 16, 14, 7, 28, 104, 96, 5, 96, 8, 21, 5]
abbrev dktX4_rests_3 : List UInt8 := dkwX4_rests_3 ++ dktX4_rests_4
def dkwX4_rests_2 : List UInt8 := [42, 182, 1, 140, 3, 54, 5, 21, 5, 16, 25, 162, 0, 96, 42, 180, 0, 39, 16, 14, 7, 27, 104, 96]
abbrev dktX4_rests_2 : List UInt8 := dkwX4_rests_2 ++ dktX4_rests_3
def dkwX4_rests_1 : List UInt8 := [20, 1, 134, 184, 0, 121, 153, 0, 16, 21, 4, 133, 9, 20, 1, 138, 184, 0, 121, 154, 0, 5, 2, 172]
abbrev dktX4_rests_1 : List UInt8 := dkwX4_rests_1 ++ dktX4_rests_2
def dkwX4_rests_0 : List UInt8 := [42, 27, 182, 1, 57, 153, 0, 41, 42, 28, 182, 1, 57, 153, 0, 33, 27, 28, 159, 0, 28, 29, 133, 10]
abbrev dktX4_rests_0 : List UInt8 := dkwX4_rests_0 ++ dktX4_rests_1
theorem dksX4_rests_0 : cX4_rests.data.toList.drop 0 = dktX4_rests_0 := by decide +kernel
theorem dksX4_rests_1 : cX4_rests.data.toList.drop 24 = dktX4_rests_1 := dk_seg dksX4_rests_0 24 rfl rfl
theorem dksX4_rests_2 : cX4_rests.data.toList.drop 48 = dktX4_rests_2 := dk_seg dksX4_rests_1 24 rfl rfl
theorem dksX4_rests_3 : cX4_rests.data.toList.drop 72 = dktX4_rests_3 := dk_seg dksX4_rests_2 24 rfl rfl
theorem dksX4_rests_4 : cX4_rests.data.toList.drop 96 = dktX4_rests_4 := dk_seg dksX4_rests_3 24 rfl rfl
theorem dksX4_rests_5 : cX4_rests.data.toList.drop 120 = dktX4_rests_5 := dk_seg dksX4_rests_4 24 rfl rfl
theorem dksX4_rests_6 : cX4_rests.data.toList.drop 144 = dktX4_rests_6 := dk_seg dksX4_rests_5 24 rfl rfl
theorem dksX4_rests_7 : cX4_rests.data.toList.drop 167 = dktX4_rests_7 := dk_seg dksX4_rests_6 23 rfl rfl
theorem dksX4_rests_8 : cX4_rests.data.toList.drop 190 = dktX4_rests_8 := dk_seg dksX4_rests_7 23 rfl rfl
theorem dksX4_rests_9 : cX4_rests.data.toList.drop 214 = dktX4_rests_9 := dk_seg dksX4_rests_8 24 rfl rfl
theorem dksX4_rests_10 : cX4_rests.data.toList.drop 238 = dktX4_rests_10 := dk_seg dksX4_rests_9 24 rfl rfl
theorem dX4_rests_0 : decode cX4_rests 0 = .ok (.aload_n 0, 1) := dk_42 (dk_at dksX4_rests_0 0 rfl rfl)
theorem dX4_rests_1 : decode cX4_rests 1 = .ok (.iload_n 1, 1) := dk_27 (dk_at dksX4_rests_0 1 rfl rfl)
theorem dX4_rests_2 : decode cX4_rests 2 = .ok (.invokevirtual 313, 3) := dk_182 1 57 (dk_at dksX4_rests_0 2 rfl rfl)
theorem dX4_rests_5 : decode cX4_rests 5 = .ok (.ifCond .eq 41, 3) := dk_153 0 41 (dk_at dksX4_rests_0 5 rfl rfl)
theorem dX4_rests_8 : decode cX4_rests 8 = .ok (.aload_n 0, 1) := dk_42 (dk_at dksX4_rests_0 8 rfl rfl)
theorem dX4_rests_9 : decode cX4_rests 9 = .ok (.iload_n 2, 1) := dk_28 (dk_at dksX4_rests_0 9 rfl rfl)
theorem dX4_rests_10 : decode cX4_rests 10 = .ok (.invokevirtual 313, 3) := dk_182 1 57 (dk_at dksX4_rests_0 10 rfl rfl)
theorem dX4_rests_13 : decode cX4_rests 13 = .ok (.ifCond .eq 33, 3) := dk_153 0 33 (dk_at dksX4_rests_0 13 rfl rfl)
theorem dX4_rests_16 : decode cX4_rests 16 = .ok (.iload_n 1, 1) := dk_27 (dk_at dksX4_rests_0 16 rfl rfl)
theorem dX4_rests_17 : decode cX4_rests 17 = .ok (.iload_n 2, 1) := dk_28 (dk_at dksX4_rests_0 17 rfl rfl)
theorem dX4_rests_18 : decode cX4_rests 18 = .ok (.if_icmp .eq 28, 3) := dk_159 0 28 (dk_at dksX4_rests_0 18 rfl rfl)
theorem dX4_rests_21 : decode cX4_rests 21 = .ok (.iload_n 3, 1) := dk_29 (dk_at dksX4_rests_0 21 rfl rfl)
theorem dX4_rests_22 : decode cX4_rests 22 = .ok (.i2l, 1) := dk_133 (dk_at dksX4_rests_0 22 rfl rfl)
theorem dX4_rests_23 : decode cX4_rests 23 = .ok (.lconst 1, 1) := dk_10 (dk_at dksX4_rests_0 23 rfl rfl)
theorem dX4_rests_24 : decode cX4_rests 24 = .ok (.ldc2_w 390, 3) := dk_20 1 134 (dk_at dksX4_rests_1 0 rfl rfl)
theorem dX4_rests_27 : decode cX4_rests 27 = .ok (.invokestatic 121, 3) := dk_184 0 121 (dk_at dksX4_rests_1 3 rfl rfl)
theorem dX4_rests_30 : decode cX4_rests 30 = .ok (.ifCond .eq 16, 3) := dk_153 0 16 (dk_at dksX4_rests_1 6 rfl rfl)
theorem dX4_rests_33 : decode cX4_rests 33 = .ok (.iload 4, 2) := dk_21 4 (dk_at dksX4_rests_1 9 rfl rfl)
theorem dX4_rests_35 : decode cX4_rests 35 = .ok (.i2l, 1) := dk_133 (dk_at dksX4_rests_1 11 rfl rfl)
theorem dX4_rests_36 : decode cX4_rests 36 = .ok (.lconst 0, 1) := dk_9 (dk_at dksX4_rests_1 12 rfl rfl)
theorem dX4_rests_37 : decode cX4_rests 37 = .ok (.ldc2_w 394, 3) := dk_20 1 138 (dk_at dksX4_rests_1 13 rfl rfl)
theorem dX4_rests_40 : decode cX4_rests 40 = .ok (.invokestatic 121, 3) := dk_184 0 121 (dk_at dksX4_rests_1 16 rfl rfl)
theorem dX4_rests_43 : decode cX4_rests 43 = .ok (.ifCond .ne 5, 3) := dk_154 0 5 (dk_at dksX4_rests_1 19 rfl rfl)
theorem dX4_rests_46 : decode cX4_rests 46 = .ok (.iconst (-1), 1) := dk_2 (dk_at dksX4_rests_1 22 rfl rfl)
theorem dX4_rests_47 : decode cX4_rests 47 = .ok (.ireturn, 1) := dk_172 (dk_at dksX4_rests_1 23 rfl rfl)
theorem dX4_rests_48 : decode cX4_rests 48 = .ok (.aload_n 0, 1) := dk_42 (dk_at dksX4_rests_2 0 rfl rfl)
theorem dX4_rests_49 : decode cX4_rests 49 = .ok (.invokevirtual 396, 3) := dk_182 1 140 (dk_at dksX4_rests_2 1 rfl rfl)
theorem dX4_rests_52 : decode cX4_rests 52 = .ok (.iconst 0, 1) := dk_3 (dk_at dksX4_rests_2 4 rfl rfl)
theorem dX4_rests_53 : decode cX4_rests 53 = .ok (.istore 5, 2) := dk_54 5 (dk_at dksX4_rests_2 5 rfl rfl)
theorem dX4_rests_55 : decode cX4_rests 55 = .ok (.iload 5, 2) := dk_21 5 (dk_at dksX4_rests_2 7 rfl rfl)
theorem dX4_rests_57 : decode cX4_rests 57 = .ok (.bipush 25, 2) := dk_16 25 (dk_at dksX4_rests_2 9 rfl rfl)
theorem dX4_rests_59 : decode cX4_rests 59 = .ok (.if_icmp .ge 96, 3) := dk_162 0 96 (dk_at dksX4_rests_2 11 rfl rfl)
theorem dX4_rests_62 : decode cX4_rests 62 = .ok (.aload_n 0, 1) := dk_42 (dk_at dksX4_rests_2 14 rfl rfl)
theorem dX4_rests_63 : decode cX4_rests 63 = .ok (.getfield 39, 3) := dk_180 0 39 (dk_at dksX4_rests_2 15 rfl rfl)
theorem dX4_rests_66 : decode cX4_rests 66 = .ok (.bipush 14, 2) := dk_16 14 (dk_at dksX4_rests_2 18 rfl rfl)
theorem dX4_rests_68 : decode cX4_rests 68 = .ok (.iconst 4, 1) := dk_7 (dk_at dksX4_rests_2 20 rfl rfl)
theorem dX4_rests_69 : decode cX4_rests 69 = .ok (.iload_n 1, 1) := dk_27 (dk_at dksX4_rests_2 21 rfl rfl)
theorem dX4_rests_70 : decode cX4_rests 70 = .ok (.imul, 1) := dk_104 (dk_at dksX4_rests_2 22 rfl rfl)
theorem dX4_rests_71 : decode cX4_rests 71 = .ok (.iadd, 1) := dk_96 (dk_at dksX4_rests_2 23 rfl rfl)
theorem dX4_rests_72 : decode cX4_rests 72 = .ok (.iconst 2, 1) := dk_5 (dk_at dksX4_rests_3 0 rfl rfl)
theorem dX4_rests_73 : decode cX4_rests 73 = .ok (.iadd, 1) := dk_96 (dk_at dksX4_rests_3 1 rfl rfl)
theorem dX4_rests_74 : decode cX4_rests 74 = .ok (.iconst 5, 1) := dk_8 (dk_at dksX4_rests_3 2 rfl rfl)
theorem dX4_rests_75 : decode cX4_rests 75 = .ok (.iload 5, 2) := dk_21 5 (dk_at dksX4_rests_3 3 rfl rfl)
theorem dX4_rests_77 : decode cX4_rests 77 = .ok (.iconst 5, 1) := dk_8 (dk_at dksX4_rests_3 5 rfl rfl)
theorem dX4_rests_78 : decode cX4_rests 78 = .ok (.idiv, 1) := dk_108 (dk_at dksX4_rests_3 6 rfl rfl)
theorem dX4_rests_79 : decode cX4_rests 79 = .ok (.imul, 1) := dk_104 (dk_at dksX4_rests_3 7 rfl rfl)
theorem dX4_rests_80 : decode cX4_rests 80 = .ok (.iastore, 1) := dk_79 (dk_at dksX4_rests_3 8 rfl rfl)
theorem dX4_rests_81 : decode cX4_rests 81 = .ok (.aload_n 0, 1) := dk_42 (dk_at dksX4_rests_3 9 rfl rfl)
theorem dX4_rests_82 : decode cX4_rests 82 = .ok (.getfield 39, 3) := dk_180 0 39 (dk_at dksX4_rests_3 10 rfl rfl)
theorem dX4_rests_85 : decode cX4_rests 85 = .ok (.bipush 14, 2) := dk_16 14 (dk_at dksX4_rests_3 13 rfl rfl)
theorem dX4_rests_87 : decode cX4_rests 87 = .ok (.iconst 4, 1) := dk_7 (dk_at dksX4_rests_3 15 rfl rfl)
theorem dX4_rests_88 : decode cX4_rests 88 = .ok (.iload_n 2, 1) := dk_28 (dk_at dksX4_rests_3 16 rfl rfl)
theorem dX4_rests_89 : decode cX4_rests 89 = .ok (.imul, 1) := dk_104 (dk_at dksX4_rests_3 17 rfl rfl)
theorem dX4_rests_90 : decode cX4_rests 90 = .ok (.iadd, 1) := dk_96 (dk_at dksX4_rests_3 18 rfl rfl)
theorem dX4_rests_91 : decode cX4_rests 91 = .ok (.iconst 2, 1) := dk_5 (dk_at dksX4_rests_3 19 rfl rfl)
theorem dX4_rests_92 : decode cX4_rests 92 = .ok (.iadd, 1) := dk_96 (dk_at dksX4_rests_3 20 rfl rfl)
theorem dX4_rests_93 : decode cX4_rests 93 = .ok (.iconst 5, 1) := dk_8 (dk_at dksX4_rests_3 21 rfl rfl)
theorem dX4_rests_94 : decode cX4_rests 94 = .ok (.iload 5, 2) := dk_21 5 (dk_at dksX4_rests_3 22 rfl rfl)
theorem dX4_rests_96 : decode cX4_rests 96 = .ok (.iconst 5, 1) := dk_8 (dk_at dksX4_rests_4 0 rfl rfl)
theorem dX4_rests_97 : decode cX4_rests 97 = .ok (.irem, 1) := dk_112 (dk_at dksX4_rests_4 1 rfl rfl)
theorem dX4_rests_98 : decode cX4_rests 98 = .ok (.imul, 1) := dk_104 (dk_at dksX4_rests_4 2 rfl rfl)
theorem dX4_rests_99 : decode cX4_rests 99 = .ok (.iastore, 1) := dk_79 (dk_at dksX4_rests_4 3 rfl rfl)
theorem dX4_rests_100 : decode cX4_rests 100 = .ok (.aload_n 0, 1) := dk_42 (dk_at dksX4_rests_4 4 rfl rfl)
theorem dX4_rests_101 : decode cX4_rests 101 = .ok (.iload_n 3, 1) := dk_29 (dk_at dksX4_rests_4 5 rfl rfl)
theorem dX4_rests_102 : decode cX4_rests 102 = .ok (.invokevirtual 399, 3) := dk_182 1 143 (dk_at dksX4_rests_4 6 rfl rfl)
theorem dX4_rests_105 : decode cX4_rests 105 = .ok (.aload_n 0, 1) := dk_42 (dk_at dksX4_rests_4 9 rfl rfl)
theorem dX4_rests_106 : decode cX4_rests 106 = .ok (.getfield 61, 3) := dk_180 0 61 (dk_at dksX4_rests_4 10 rfl rfl)
theorem dX4_rests_109 : decode cX4_rests 109 = .ok (.iconst 2, 1) := dk_5 (dk_at dksX4_rests_4 13 rfl rfl)
theorem dX4_rests_110 : decode cX4_rests 110 = .ok (.iload 5, 2) := dk_21 5 (dk_at dksX4_rests_4 14 rfl rfl)
theorem dX4_rests_112 : decode cX4_rests 112 = .ok (.imul, 1) := dk_104 (dk_at dksX4_rests_4 16 rfl rfl)
theorem dX4_rests_113 : decode cX4_rests 113 = .ok (.aload_n 0, 1) := dk_42 (dk_at dksX4_rests_4 17 rfl rfl)
theorem dX4_rests_114 : decode cX4_rests 114 = .ok (.iload_n 1, 1) := dk_27 (dk_at dksX4_rests_4 18 rfl rfl)
theorem dX4_rests_115 : decode cX4_rests 115 = .ok (.invokevirtual 297, 3) := dk_182 1 41 (dk_at dksX4_rests_4 19 rfl rfl)
theorem dX4_rests_118 : decode cX4_rests 118 = .ok (.iload 5, 2) := dk_21 5 (dk_at dksX4_rests_4 22 rfl rfl)
theorem dX4_rests_120 : decode cX4_rests 120 = .ok (.iconst 5, 1) := dk_8 (dk_at dksX4_rests_5 0 rfl rfl)
theorem dX4_rests_121 : decode cX4_rests 121 = .ok (.idiv, 1) := dk_108 (dk_at dksX4_rests_5 1 rfl rfl)
theorem dX4_rests_122 : decode cX4_rests 122 = .ok (.isub, 1) := dk_100 (dk_at dksX4_rests_5 2 rfl rfl)
theorem dX4_rests_123 : decode cX4_rests 123 = .ok (.iastore, 1) := dk_79 (dk_at dksX4_rests_5 3 rfl rfl)
theorem dX4_rests_124 : decode cX4_rests 124 = .ok (.aload_n 0, 1) := dk_42 (dk_at dksX4_rests_5 4 rfl rfl)
theorem dX4_rests_125 : decode cX4_rests 125 = .ok (.getfield 61, 3) := dk_180 0 61 (dk_at dksX4_rests_5 5 rfl rfl)
theorem dX4_rests_128 : decode cX4_rests 128 = .ok (.iconst 2, 1) := dk_5 (dk_at dksX4_rests_5 8 rfl rfl)
theorem dX4_rests_129 : decode cX4_rests 129 = .ok (.iload 5, 2) := dk_21 5 (dk_at dksX4_rests_5 9 rfl rfl)
theorem dX4_rests_131 : decode cX4_rests 131 = .ok (.imul, 1) := dk_104 (dk_at dksX4_rests_5 11 rfl rfl)
theorem dX4_rests_132 : decode cX4_rests 132 = .ok (.iconst 1, 1) := dk_4 (dk_at dksX4_rests_5 12 rfl rfl)
theorem dX4_rests_133 : decode cX4_rests 133 = .ok (.iadd, 1) := dk_96 (dk_at dksX4_rests_5 13 rfl rfl)
theorem dX4_rests_134 : decode cX4_rests 134 = .ok (.aload_n 0, 1) := dk_42 (dk_at dksX4_rests_5 14 rfl rfl)
theorem dX4_rests_135 : decode cX4_rests 135 = .ok (.iload_n 2, 1) := dk_28 (dk_at dksX4_rests_5 15 rfl rfl)
theorem dX4_rests_136 : decode cX4_rests 136 = .ok (.invokevirtual 297, 3) := dk_182 1 41 (dk_at dksX4_rests_5 16 rfl rfl)
theorem dX4_rests_139 : decode cX4_rests 139 = .ok (.iload 5, 2) := dk_21 5 (dk_at dksX4_rests_5 19 rfl rfl)
theorem dX4_rests_141 : decode cX4_rests 141 = .ok (.iconst 5, 1) := dk_8 (dk_at dksX4_rests_5 21 rfl rfl)
theorem dX4_rests_142 : decode cX4_rests 142 = .ok (.irem, 1) := dk_112 (dk_at dksX4_rests_5 22 rfl rfl)
theorem dX4_rests_143 : decode cX4_rests 143 = .ok (.isub, 1) := dk_100 (dk_at dksX4_rests_5 23 rfl rfl)
theorem dX4_rests_144 : decode cX4_rests 144 = .ok (.iastore, 1) := dk_79 (dk_at dksX4_rests_6 0 rfl rfl)
theorem dX4_rests_145 : decode cX4_rests 145 = .ok (.aload_n 0, 1) := dk_42 (dk_at dksX4_rests_6 1 rfl rfl)
theorem dX4_rests_146 : decode cX4_rests 146 = .ok (.invokevirtual 402, 3) := dk_182 1 146 (dk_at dksX4_rests_6 2 rfl rfl)
theorem dX4_rests_149 : decode cX4_rests 149 = .ok (.iinc 5 1, 3) := dk_132 5 1 (dk_at dksX4_rests_6 5 rfl rfl)
theorem dX4_rests_152 : decode cX4_rests 152 = .ok (.goto (-97), 3) := dk_167 255 159 (dk_at dksX4_rests_6 8 rfl rfl)
theorem dX4_rests_155 : decode cX4_rests 155 = .ok (.iconst 0, 1) := dk_3 (dk_at dksX4_rests_6 11 rfl rfl)
theorem dX4_rests_156 : decode cX4_rests 156 = .ok (.istore 5, 2) := dk_54 5 (dk_at dksX4_rests_6 12 rfl rfl)
theorem dX4_rests_158 : decode cX4_rests 158 = .ok (.iconst (-1), 1) := dk_2 (dk_at dksX4_rests_6 14 rfl rfl)
theorem dX4_rests_159 : decode cX4_rests 159 = .ok (.istore 6, 2) := dk_54 6 (dk_at dksX4_rests_6 15 rfl rfl)
theorem dX4_rests_161 : decode cX4_rests 161 = .ok (.bipush 24, 2) := dk_16 24 (dk_at dksX4_rests_6 17 rfl rfl)
theorem dX4_rests_163 : decode cX4_rests 163 = .ok (.istore 7, 2) := dk_54 7 (dk_at dksX4_rests_6 19 rfl rfl)
theorem dX4_rests_165 : decode cX4_rests 165 = .ok (.iload 7, 2) := dk_21 7 (dk_at dksX4_rests_6 21 rfl rfl)
theorem dX4_rests_167 : decode cX4_rests 167 = .ok (.ifCond .lt 34, 3) := dk_155 0 34 (dk_at dksX4_rests_7 0 rfl rfl)
theorem dX4_rests_170 : decode cX4_rests 170 = .ok (.aload_n 0, 1) := dk_42 (dk_at dksX4_rests_7 3 rfl rfl)
theorem dX4_rests_171 : decode cX4_rests 171 = .ok (.iload 7, 2) := dk_21 7 (dk_at dksX4_rests_7 4 rfl rfl)
theorem dX4_rests_173 : decode cX4_rests 173 = .ok (.iconst 5, 1) := dk_8 (dk_at dksX4_rests_7 6 rfl rfl)
theorem dX4_rests_174 : decode cX4_rests 174 = .ok (.idiv, 1) := dk_108 (dk_at dksX4_rests_7 7 rfl rfl)
theorem dX4_rests_175 : decode cX4_rests 175 = .ok (.iload 7, 2) := dk_21 7 (dk_at dksX4_rests_7 8 rfl rfl)
theorem dX4_rests_177 : decode cX4_rests 177 = .ok (.iconst 5, 1) := dk_8 (dk_at dksX4_rests_7 10 rfl rfl)
theorem dX4_rests_178 : decode cX4_rests 178 = .ok (.irem, 1) := dk_112 (dk_at dksX4_rests_7 11 rfl rfl)
theorem dX4_rests_179 : decode cX4_rests 179 = .ok (.invokevirtual 437, 3) := dk_182 1 181 (dk_at dksX4_rests_7 12 rfl rfl)
theorem dX4_rests_182 : decode cX4_rests 182 = .ok (.ifCond .ne 6, 3) := dk_154 0 6 (dk_at dksX4_rests_7 15 rfl rfl)
theorem dX4_rests_185 : decode cX4_rests 185 = .ok (.goto 10, 3) := dk_167 0 10 (dk_at dksX4_rests_7 18 rfl rfl)
theorem dX4_rests_188 : decode cX4_rests 188 = .ok (.iload 7, 2) := dk_21 7 (dk_at dksX4_rests_7 21 rfl rfl)
theorem dX4_rests_190 : decode cX4_rests 190 = .ok (.istore 6, 2) := dk_54 6 (dk_at dksX4_rests_8 0 rfl rfl)
theorem dX4_rests_192 : decode cX4_rests 192 = .ok (.iinc 5 1, 3) := dk_132 5 1 (dk_at dksX4_rests_8 2 rfl rfl)
theorem dX4_rests_195 : decode cX4_rests 195 = .ok (.iinc 7 (-1), 3) := dk_132 7 255 (dk_at dksX4_rests_8 5 rfl rfl)
theorem dX4_rests_198 : decode cX4_rests 198 = .ok (.goto (-33), 3) := dk_167 255 223 (dk_at dksX4_rests_8 8 rfl rfl)
theorem dX4_rests_201 : decode cX4_rests 201 = .ok (.iload 4, 2) := dk_21 4 (dk_at dksX4_rests_8 11 rfl rfl)
theorem dX4_rests_203 : decode cX4_rests 203 = .ok (.ifCond .ne 6, 3) := dk_154 0 6 (dk_at dksX4_rests_8 13 rfl rfl)
theorem dX4_rests_206 : decode cX4_rests 206 = .ok (.iload 5, 2) := dk_21 5 (dk_at dksX4_rests_8 16 rfl rfl)
theorem dX4_rests_208 : decode cX4_rests 208 = .ok (.ireturn, 1) := dk_172 (dk_at dksX4_rests_8 18 rfl rfl)
theorem dX4_rests_209 : decode cX4_rests 209 = .ok (.iload 6, 2) := dk_21 6 (dk_at dksX4_rests_8 19 rfl rfl)
theorem dX4_rests_211 : decode cX4_rests 211 = .ok (.ifCond .ge 8, 3) := dk_156 0 8 (dk_at dksX4_rests_8 21 rfl rfl)
theorem dX4_rests_214 : decode cX4_rests 214 = .ok (.bipush (-2), 2) := dk_16 254 (dk_at dksX4_rests_9 0 rfl rfl)
theorem dX4_rests_216 : decode cX4_rests 216 = .ok (.goto 24, 3) := dk_167 0 24 (dk_at dksX4_rests_9 2 rfl rfl)
theorem dX4_rests_219 : decode cX4_rests 219 = .ok (.iload 4, 2) := dk_21 4 (dk_at dksX4_rests_9 5 rfl rfl)
theorem dX4_rests_221 : decode cX4_rests 221 = .ok (.iconst 1, 1) := dk_4 (dk_at dksX4_rests_9 7 rfl rfl)
theorem dX4_rests_222 : decode cX4_rests 222 = .ok (.if_icmp .ne 12, 3) := dk_160 0 12 (dk_at dksX4_rests_9 8 rfl rfl)
theorem dX4_rests_225 : decode cX4_rests 225 = .ok (.iconst 5, 1) := dk_8 (dk_at dksX4_rests_9 11 rfl rfl)
theorem dX4_rests_226 : decode cX4_rests 226 = .ok (.iload 6, 2) := dk_21 6 (dk_at dksX4_rests_9 12 rfl rfl)
theorem dX4_rests_228 : decode cX4_rests 228 = .ok (.iconst 5, 1) := dk_8 (dk_at dksX4_rests_9 14 rfl rfl)
theorem dX4_rests_229 : decode cX4_rests 229 = .ok (.idiv, 1) := dk_108 (dk_at dksX4_rests_9 15 rfl rfl)
theorem dX4_rests_230 : decode cX4_rests 230 = .ok (.imul, 1) := dk_104 (dk_at dksX4_rests_9 16 rfl rfl)
theorem dX4_rests_231 : decode cX4_rests 231 = .ok (.goto 9, 3) := dk_167 0 9 (dk_at dksX4_rests_9 17 rfl rfl)
theorem dX4_rests_234 : decode cX4_rests 234 = .ok (.iconst 5, 1) := dk_8 (dk_at dksX4_rests_9 20 rfl rfl)
theorem dX4_rests_235 : decode cX4_rests 235 = .ok (.iload 6, 2) := dk_21 6 (dk_at dksX4_rests_9 21 rfl rfl)
theorem dX4_rests_237 : decode cX4_rests 237 = .ok (.iconst 5, 1) := dk_8 (dk_at dksX4_rests_9 23 rfl rfl)
theorem dX4_rests_238 : decode cX4_rests 238 = .ok (.irem, 1) := dk_112 (dk_at dksX4_rests_10 0 rfl rfl)
theorem dX4_rests_239 : decode cX4_rests 239 = .ok (.imul, 1) := dk_104 (dk_at dksX4_rests_10 1 rfl rfl)
theorem dX4_rests_240 : decode cX4_rests 240 = .ok (.ireturn, 1) := dk_172 (dk_at dksX4_rests_10 2 rfl rfl)
abbrev cX4_isRest : ByteArray := prog_19_method_102_code
def yX4_isRest : MethodName := ⟨RX4, "isRest", "(II)Z"⟩
def dkwX4_isRest_3 : List UInt8 := [167, 255, 188, 4, 172]
abbrev dktX4_isRest_3 : List UInt8 := dkwX4_isRest_3 ++ []
def dkwX4_isRest_2 : List UInt8 := [42, 180, 0, 61, 5, 8, 27, 104, 28, 96, 104, 4, 96, 46, 164, 0, 5, 3, 172, 132, 3, 1]
abbrev dktX4_isRest_2 : List UInt8 := dkwX4_isRest_2 ++ dktX4_isRest_3
def dkwX4_isRest_1 : List UInt8 := [8, 27, 104, 28, 96, 104, 46, 163, 0, 34, 42, 180, 0, 61, 5, 8, 27, 104, 29, 96, 104, 4, 96, 46]
abbrev dktX4_isRest_1 : List UInt8 := dkwX4_isRest_1 ++ dktX4_isRest_2
def dkwX4_isRest_0 : List UInt8 := [3, 62, 29, 8, 162, 0, 69, 42, 180, 0, 61, 5, 8, 29, 104, 28, 96, 104, 46, 42, 180, 0, 61, 5]
abbrev dktX4_isRest_0 : List UInt8 := dkwX4_isRest_0 ++ dktX4_isRest_1
theorem dksX4_isRest_0 : cX4_isRest.data.toList.drop 0 = dktX4_isRest_0 := by decide +kernel
theorem dksX4_isRest_1 : cX4_isRest.data.toList.drop 24 = dktX4_isRest_1 := dk_seg dksX4_isRest_0 24 rfl rfl
theorem dksX4_isRest_2 : cX4_isRest.data.toList.drop 48 = dktX4_isRest_2 := dk_seg dksX4_isRest_1 24 rfl rfl
theorem dksX4_isRest_3 : cX4_isRest.data.toList.drop 70 = dktX4_isRest_3 := dk_seg dksX4_isRest_2 22 rfl rfl
theorem dX4_isRest_0 : decode cX4_isRest 0 = .ok (.iconst 0, 1) := dk_3 (dk_at dksX4_isRest_0 0 rfl rfl)
theorem dX4_isRest_1 : decode cX4_isRest 1 = .ok (.istore_n 3, 1) := dk_62 (dk_at dksX4_isRest_0 1 rfl rfl)
theorem dX4_isRest_2 : decode cX4_isRest 2 = .ok (.iload_n 3, 1) := dk_29 (dk_at dksX4_isRest_0 2 rfl rfl)
theorem dX4_isRest_3 : decode cX4_isRest 3 = .ok (.iconst 5, 1) := dk_8 (dk_at dksX4_isRest_0 3 rfl rfl)
theorem dX4_isRest_4 : decode cX4_isRest 4 = .ok (.if_icmp .ge 69, 3) := dk_162 0 69 (dk_at dksX4_isRest_0 4 rfl rfl)
theorem dX4_isRest_7 : decode cX4_isRest 7 = .ok (.aload_n 0, 1) := dk_42 (dk_at dksX4_isRest_0 7 rfl rfl)
theorem dX4_isRest_8 : decode cX4_isRest 8 = .ok (.getfield 61, 3) := dk_180 0 61 (dk_at dksX4_isRest_0 8 rfl rfl)
theorem dX4_isRest_11 : decode cX4_isRest 11 = .ok (.iconst 2, 1) := dk_5 (dk_at dksX4_isRest_0 11 rfl rfl)
theorem dX4_isRest_12 : decode cX4_isRest 12 = .ok (.iconst 5, 1) := dk_8 (dk_at dksX4_isRest_0 12 rfl rfl)
theorem dX4_isRest_13 : decode cX4_isRest 13 = .ok (.iload_n 3, 1) := dk_29 (dk_at dksX4_isRest_0 13 rfl rfl)
theorem dX4_isRest_14 : decode cX4_isRest 14 = .ok (.imul, 1) := dk_104 (dk_at dksX4_isRest_0 14 rfl rfl)
theorem dX4_isRest_15 : decode cX4_isRest 15 = .ok (.iload_n 2, 1) := dk_28 (dk_at dksX4_isRest_0 15 rfl rfl)
theorem dX4_isRest_16 : decode cX4_isRest 16 = .ok (.iadd, 1) := dk_96 (dk_at dksX4_isRest_0 16 rfl rfl)
theorem dX4_isRest_17 : decode cX4_isRest 17 = .ok (.imul, 1) := dk_104 (dk_at dksX4_isRest_0 17 rfl rfl)
theorem dX4_isRest_18 : decode cX4_isRest 18 = .ok (.iaload, 1) := dk_46 (dk_at dksX4_isRest_0 18 rfl rfl)
theorem dX4_isRest_19 : decode cX4_isRest 19 = .ok (.aload_n 0, 1) := dk_42 (dk_at dksX4_isRest_0 19 rfl rfl)
theorem dX4_isRest_20 : decode cX4_isRest 20 = .ok (.getfield 61, 3) := dk_180 0 61 (dk_at dksX4_isRest_0 20 rfl rfl)
theorem dX4_isRest_23 : decode cX4_isRest 23 = .ok (.iconst 2, 1) := dk_5 (dk_at dksX4_isRest_0 23 rfl rfl)
theorem dX4_isRest_24 : decode cX4_isRest 24 = .ok (.iconst 5, 1) := dk_8 (dk_at dksX4_isRest_1 0 rfl rfl)
theorem dX4_isRest_25 : decode cX4_isRest 25 = .ok (.iload_n 1, 1) := dk_27 (dk_at dksX4_isRest_1 1 rfl rfl)
theorem dX4_isRest_26 : decode cX4_isRest 26 = .ok (.imul, 1) := dk_104 (dk_at dksX4_isRest_1 2 rfl rfl)
theorem dX4_isRest_27 : decode cX4_isRest 27 = .ok (.iload_n 2, 1) := dk_28 (dk_at dksX4_isRest_1 3 rfl rfl)
theorem dX4_isRest_28 : decode cX4_isRest 28 = .ok (.iadd, 1) := dk_96 (dk_at dksX4_isRest_1 4 rfl rfl)
theorem dX4_isRest_29 : decode cX4_isRest 29 = .ok (.imul, 1) := dk_104 (dk_at dksX4_isRest_1 5 rfl rfl)
theorem dX4_isRest_30 : decode cX4_isRest 30 = .ok (.iaload, 1) := dk_46 (dk_at dksX4_isRest_1 6 rfl rfl)
theorem dX4_isRest_31 : decode cX4_isRest 31 = .ok (.if_icmp .gt 34, 3) := dk_163 0 34 (dk_at dksX4_isRest_1 7 rfl rfl)
theorem dX4_isRest_34 : decode cX4_isRest 34 = .ok (.aload_n 0, 1) := dk_42 (dk_at dksX4_isRest_1 10 rfl rfl)
theorem dX4_isRest_35 : decode cX4_isRest 35 = .ok (.getfield 61, 3) := dk_180 0 61 (dk_at dksX4_isRest_1 11 rfl rfl)
theorem dX4_isRest_38 : decode cX4_isRest 38 = .ok (.iconst 2, 1) := dk_5 (dk_at dksX4_isRest_1 14 rfl rfl)
theorem dX4_isRest_39 : decode cX4_isRest 39 = .ok (.iconst 5, 1) := dk_8 (dk_at dksX4_isRest_1 15 rfl rfl)
theorem dX4_isRest_40 : decode cX4_isRest 40 = .ok (.iload_n 1, 1) := dk_27 (dk_at dksX4_isRest_1 16 rfl rfl)
theorem dX4_isRest_41 : decode cX4_isRest 41 = .ok (.imul, 1) := dk_104 (dk_at dksX4_isRest_1 17 rfl rfl)
theorem dX4_isRest_42 : decode cX4_isRest 42 = .ok (.iload_n 3, 1) := dk_29 (dk_at dksX4_isRest_1 18 rfl rfl)
theorem dX4_isRest_43 : decode cX4_isRest 43 = .ok (.iadd, 1) := dk_96 (dk_at dksX4_isRest_1 19 rfl rfl)
theorem dX4_isRest_44 : decode cX4_isRest 44 = .ok (.imul, 1) := dk_104 (dk_at dksX4_isRest_1 20 rfl rfl)
theorem dX4_isRest_45 : decode cX4_isRest 45 = .ok (.iconst 1, 1) := dk_4 (dk_at dksX4_isRest_1 21 rfl rfl)
theorem dX4_isRest_46 : decode cX4_isRest 46 = .ok (.iadd, 1) := dk_96 (dk_at dksX4_isRest_1 22 rfl rfl)
theorem dX4_isRest_47 : decode cX4_isRest 47 = .ok (.iaload, 1) := dk_46 (dk_at dksX4_isRest_1 23 rfl rfl)
theorem dX4_isRest_48 : decode cX4_isRest 48 = .ok (.aload_n 0, 1) := dk_42 (dk_at dksX4_isRest_2 0 rfl rfl)
theorem dX4_isRest_49 : decode cX4_isRest 49 = .ok (.getfield 61, 3) := dk_180 0 61 (dk_at dksX4_isRest_2 1 rfl rfl)
theorem dX4_isRest_52 : decode cX4_isRest 52 = .ok (.iconst 2, 1) := dk_5 (dk_at dksX4_isRest_2 4 rfl rfl)
theorem dX4_isRest_53 : decode cX4_isRest 53 = .ok (.iconst 5, 1) := dk_8 (dk_at dksX4_isRest_2 5 rfl rfl)
theorem dX4_isRest_54 : decode cX4_isRest 54 = .ok (.iload_n 1, 1) := dk_27 (dk_at dksX4_isRest_2 6 rfl rfl)
theorem dX4_isRest_55 : decode cX4_isRest 55 = .ok (.imul, 1) := dk_104 (dk_at dksX4_isRest_2 7 rfl rfl)
theorem dX4_isRest_56 : decode cX4_isRest 56 = .ok (.iload_n 2, 1) := dk_28 (dk_at dksX4_isRest_2 8 rfl rfl)
theorem dX4_isRest_57 : decode cX4_isRest 57 = .ok (.iadd, 1) := dk_96 (dk_at dksX4_isRest_2 9 rfl rfl)
theorem dX4_isRest_58 : decode cX4_isRest 58 = .ok (.imul, 1) := dk_104 (dk_at dksX4_isRest_2 10 rfl rfl)
theorem dX4_isRest_59 : decode cX4_isRest 59 = .ok (.iconst 1, 1) := dk_4 (dk_at dksX4_isRest_2 11 rfl rfl)
theorem dX4_isRest_60 : decode cX4_isRest 60 = .ok (.iadd, 1) := dk_96 (dk_at dksX4_isRest_2 12 rfl rfl)
theorem dX4_isRest_61 : decode cX4_isRest 61 = .ok (.iaload, 1) := dk_46 (dk_at dksX4_isRest_2 13 rfl rfl)
theorem dX4_isRest_62 : decode cX4_isRest 62 = .ok (.if_icmp .le 5, 3) := dk_164 0 5 (dk_at dksX4_isRest_2 14 rfl rfl)
theorem dX4_isRest_65 : decode cX4_isRest 65 = .ok (.iconst 0, 1) := dk_3 (dk_at dksX4_isRest_2 17 rfl rfl)
theorem dX4_isRest_66 : decode cX4_isRest 66 = .ok (.ireturn, 1) := dk_172 (dk_at dksX4_isRest_2 18 rfl rfl)
theorem dX4_isRest_67 : decode cX4_isRest 67 = .ok (.iinc 3 1, 3) := dk_132 3 1 (dk_at dksX4_isRest_2 19 rfl rfl)
theorem dX4_isRest_70 : decode cX4_isRest 70 = .ok (.goto (-68), 3) := dk_167 255 188 (dk_at dksX4_isRest_3 0 rfl rfl)
theorem dX4_isRest_73 : decode cX4_isRest 73 = .ok (.iconst 1, 1) := dk_4 (dk_at dksX4_isRest_3 3 rfl rfl)
theorem dX4_isRest_74 : decode cX4_isRest 74 = .ok (.ireturn, 1) := dk_172 (dk_at dksX4_isRest_3 4 rfl rfl)
abbrev cX4_first : ByteArray := prog_19_method_104_code
def yX4_first : MethodName := ⟨RX4, "first", "(I)I"⟩
def dkwX4_first_3 : List UInt8 := [21, 4, 61, 132, 3, 1, 167, 255, 208, 42, 182, 1, 146, 28, 172]
abbrev dktX4_first_3 : List UInt8 := dkwX4_first_3 ++ []
def dkwX4_first_2 : List UInt8 := [42, 182, 1, 125, 87, 42, 180, 1, 119, 155, 0, 17, 27, 154, 0, 10, 42, 180, 1, 119, 167, 0, 5]
abbrev dktX4_first_2 : List UInt8 := dkwX4_first_2 ++ dktX4_first_3
def dkwX4_first_1 : List UInt8 := [182, 1, 140, 3, 62, 29, 16, 60, 162, 0, 48, 28, 156, 0, 44, 42, 180, 0, 39, 16, 10, 46, 54, 4]
abbrev dktX4_first_1 : List UInt8 := dkwX4_first_1 ++ dktX4_first_2
def dkwX4_first_0 : List UInt8 := [42, 182, 1, 60, 153, 0, 13, 27, 133, 9, 10, 184, 0, 121, 154, 0, 5, 2, 172, 16, 254, 61, 42]
abbrev dktX4_first_0 : List UInt8 := dkwX4_first_0 ++ dktX4_first_1
theorem dksX4_first_0 : cX4_first.data.toList.drop 0 = dktX4_first_0 := by decide +kernel
theorem dksX4_first_1 : cX4_first.data.toList.drop 23 = dktX4_first_1 := dk_seg dksX4_first_0 23 rfl rfl
theorem dksX4_first_2 : cX4_first.data.toList.drop 47 = dktX4_first_2 := dk_seg dksX4_first_1 24 rfl rfl
theorem dksX4_first_3 : cX4_first.data.toList.drop 70 = dktX4_first_3 := dk_seg dksX4_first_2 23 rfl rfl
theorem dX4_first_0 : decode cX4_first 0 = .ok (.aload_n 0, 1) := dk_42 (dk_at dksX4_first_0 0 rfl rfl)
theorem dX4_first_1 : decode cX4_first 1 = .ok (.invokevirtual 316, 3) := dk_182 1 60 (dk_at dksX4_first_0 1 rfl rfl)
theorem dX4_first_4 : decode cX4_first 4 = .ok (.ifCond .eq 13, 3) := dk_153 0 13 (dk_at dksX4_first_0 4 rfl rfl)
theorem dX4_first_7 : decode cX4_first 7 = .ok (.iload_n 1, 1) := dk_27 (dk_at dksX4_first_0 7 rfl rfl)
theorem dX4_first_8 : decode cX4_first 8 = .ok (.i2l, 1) := dk_133 (dk_at dksX4_first_0 8 rfl rfl)
theorem dX4_first_9 : decode cX4_first 9 = .ok (.lconst 0, 1) := dk_9 (dk_at dksX4_first_0 9 rfl rfl)
theorem dX4_first_10 : decode cX4_first 10 = .ok (.lconst 1, 1) := dk_10 (dk_at dksX4_first_0 10 rfl rfl)
theorem dX4_first_11 : decode cX4_first 11 = .ok (.invokestatic 121, 3) := dk_184 0 121 (dk_at dksX4_first_0 11 rfl rfl)
theorem dX4_first_14 : decode cX4_first 14 = .ok (.ifCond .ne 5, 3) := dk_154 0 5 (dk_at dksX4_first_0 14 rfl rfl)
theorem dX4_first_17 : decode cX4_first 17 = .ok (.iconst (-1), 1) := dk_2 (dk_at dksX4_first_0 17 rfl rfl)
theorem dX4_first_18 : decode cX4_first 18 = .ok (.ireturn, 1) := dk_172 (dk_at dksX4_first_0 18 rfl rfl)
theorem dX4_first_19 : decode cX4_first 19 = .ok (.bipush (-2), 2) := dk_16 254 (dk_at dksX4_first_0 19 rfl rfl)
theorem dX4_first_21 : decode cX4_first 21 = .ok (.istore_n 2, 1) := dk_61 (dk_at dksX4_first_0 21 rfl rfl)
theorem dX4_first_22 : decode cX4_first 22 = .ok (.aload_n 0, 1) := dk_42 (dk_at dksX4_first_0 22 rfl rfl)
theorem dX4_first_23 : decode cX4_first 23 = .ok (.invokevirtual 396, 3) := dk_182 1 140 (dk_at dksX4_first_1 0 rfl rfl)
theorem dX4_first_26 : decode cX4_first 26 = .ok (.iconst 0, 1) := dk_3 (dk_at dksX4_first_1 3 rfl rfl)
theorem dX4_first_27 : decode cX4_first 27 = .ok (.istore_n 3, 1) := dk_62 (dk_at dksX4_first_1 4 rfl rfl)
theorem dX4_first_28 : decode cX4_first 28 = .ok (.iload_n 3, 1) := dk_29 (dk_at dksX4_first_1 5 rfl rfl)
theorem dX4_first_29 : decode cX4_first 29 = .ok (.bipush 60, 2) := dk_16 60 (dk_at dksX4_first_1 6 rfl rfl)
theorem dX4_first_31 : decode cX4_first 31 = .ok (.if_icmp .ge 48, 3) := dk_162 0 48 (dk_at dksX4_first_1 8 rfl rfl)
theorem dX4_first_34 : decode cX4_first 34 = .ok (.iload_n 2, 1) := dk_28 (dk_at dksX4_first_1 11 rfl rfl)
theorem dX4_first_35 : decode cX4_first 35 = .ok (.ifCond .ge 44, 3) := dk_156 0 44 (dk_at dksX4_first_1 12 rfl rfl)
theorem dX4_first_38 : decode cX4_first 38 = .ok (.aload_n 0, 1) := dk_42 (dk_at dksX4_first_1 15 rfl rfl)
theorem dX4_first_39 : decode cX4_first 39 = .ok (.getfield 39, 3) := dk_180 0 39 (dk_at dksX4_first_1 16 rfl rfl)
theorem dX4_first_42 : decode cX4_first 42 = .ok (.bipush 10, 2) := dk_16 10 (dk_at dksX4_first_1 19 rfl rfl)
theorem dX4_first_44 : decode cX4_first 44 = .ok (.iaload, 1) := dk_46 (dk_at dksX4_first_1 21 rfl rfl)
theorem dX4_first_45 : decode cX4_first 45 = .ok (.istore 4, 2) := dk_54 4 (dk_at dksX4_first_1 22 rfl rfl)
theorem dX4_first_47 : decode cX4_first 47 = .ok (.aload_n 0, 1) := dk_42 (dk_at dksX4_first_2 0 rfl rfl)
theorem dX4_first_48 : decode cX4_first 48 = .ok (.invokevirtual 381, 3) := dk_182 1 125 (dk_at dksX4_first_2 1 rfl rfl)
theorem dX4_first_51 : decode cX4_first 51 = .ok (.pop, 1) := dk_87 (dk_at dksX4_first_2 4 rfl rfl)
theorem dX4_first_52 : decode cX4_first 52 = .ok (.aload_n 0, 1) := dk_42 (dk_at dksX4_first_2 5 rfl rfl)
theorem dX4_first_53 : decode cX4_first 53 = .ok (.getfield 375, 3) := dk_180 1 119 (dk_at dksX4_first_2 6 rfl rfl)
theorem dX4_first_56 : decode cX4_first 56 = .ok (.ifCond .lt 17, 3) := dk_155 0 17 (dk_at dksX4_first_2 9 rfl rfl)
theorem dX4_first_59 : decode cX4_first 59 = .ok (.iload_n 1, 1) := dk_27 (dk_at dksX4_first_2 12 rfl rfl)
theorem dX4_first_60 : decode cX4_first 60 = .ok (.ifCond .ne 10, 3) := dk_154 0 10 (dk_at dksX4_first_2 13 rfl rfl)
theorem dX4_first_63 : decode cX4_first 63 = .ok (.aload_n 0, 1) := dk_42 (dk_at dksX4_first_2 16 rfl rfl)
theorem dX4_first_64 : decode cX4_first 64 = .ok (.getfield 375, 3) := dk_180 1 119 (dk_at dksX4_first_2 17 rfl rfl)
theorem dX4_first_67 : decode cX4_first 67 = .ok (.goto 5, 3) := dk_167 0 5 (dk_at dksX4_first_2 20 rfl rfl)
theorem dX4_first_70 : decode cX4_first 70 = .ok (.iload 4, 2) := dk_21 4 (dk_at dksX4_first_3 0 rfl rfl)
theorem dX4_first_72 : decode cX4_first 72 = .ok (.istore_n 2, 1) := dk_61 (dk_at dksX4_first_3 2 rfl rfl)
theorem dX4_first_73 : decode cX4_first 73 = .ok (.iinc 3 1, 3) := dk_132 3 1 (dk_at dksX4_first_3 3 rfl rfl)
theorem dX4_first_76 : decode cX4_first 76 = .ok (.goto (-48), 3) := dk_167 255 208 (dk_at dksX4_first_3 6 rfl rfl)
theorem dX4_first_79 : decode cX4_first 79 = .ok (.aload_n 0, 1) := dk_42 (dk_at dksX4_first_3 9 rfl rfl)
theorem dX4_first_80 : decode cX4_first 80 = .ok (.invokevirtual 402, 3) := dk_182 1 146 (dk_at dksX4_first_3 10 rfl rfl)
theorem dX4_first_83 : decode cX4_first 83 = .ok (.iload_n 2, 1) := dk_28 (dk_at dksX4_first_3 13 rfl rfl)
theorem dX4_first_84 : decode cX4_first 84 = .ok (.ireturn, 1) := dk_172 (dk_at dksX4_first_3 14 rfl rfl)
abbrev cX4_note : ByteArray := prog_19_method_105_code
def yX4_note : MethodName := ⟨RX4, "note", "(II)I"⟩
def dkwX4_note_4 : List UInt8 := [42, 180, 0, 39, 17, 0, 131, 46, 172]
abbrev dktX4_note_4 : List UInt8 := dkwX4_note_4 ++ []
def dkwX4_note_3 : List UInt8 := [29, 27, 79, 42, 180, 0, 39, 29, 4, 96, 28, 79, 42, 180, 0, 39, 17, 0, 131, 92, 46, 4, 96, 79]
abbrev dktX4_note_3 : List UInt8 := dkwX4_note_3 ++ dktX4_note_4
def dkwX4_note_2 : List UInt8 := [160, 0, 6, 16, 254, 172, 16, 111, 5, 42, 180, 0, 39, 17, 0, 131, 46, 104, 96, 62, 42, 180, 0, 39]
abbrev dktX4_note_2 : List UInt8 := dkwX4_note_2 ++ dktX4_note_3
def dkwX4_note_1 : List UInt8 := [184, 0, 121, 153, 0, 24, 42, 28, 182, 1, 63, 153, 0, 16, 42, 180, 0, 39, 17, 0, 131, 46, 16, 10]
abbrev dktX4_note_1 : List UInt8 := dkwX4_note_1 ++ dktX4_note_2
def dkwX4_note_0 : List UInt8 := [27, 2, 160, 0, 14, 42, 180, 0, 39, 17, 0, 131, 3, 79, 3, 172, 27, 133, 9, 20, 1, 164]
abbrev dktX4_note_0 : List UInt8 := dkwX4_note_0 ++ dktX4_note_1
theorem dksX4_note_0 : cX4_note.data.toList.drop 0 = dktX4_note_0 := by decide +kernel
theorem dksX4_note_1 : cX4_note.data.toList.drop 22 = dktX4_note_1 := dk_seg dksX4_note_0 22 rfl rfl
theorem dksX4_note_2 : cX4_note.data.toList.drop 46 = dktX4_note_2 := dk_seg dksX4_note_1 24 rfl rfl
theorem dksX4_note_3 : cX4_note.data.toList.drop 70 = dktX4_note_3 := dk_seg dksX4_note_2 24 rfl rfl
theorem dksX4_note_4 : cX4_note.data.toList.drop 94 = dktX4_note_4 := dk_seg dksX4_note_3 24 rfl rfl
theorem dX4_note_0 : decode cX4_note 0 = .ok (.iload_n 1, 1) := dk_27 (dk_at dksX4_note_0 0 rfl rfl)
theorem dX4_note_1 : decode cX4_note 1 = .ok (.iconst (-1), 1) := dk_2 (dk_at dksX4_note_0 1 rfl rfl)
theorem dX4_note_2 : decode cX4_note 2 = .ok (.if_icmp .ne 14, 3) := dk_160 0 14 (dk_at dksX4_note_0 2 rfl rfl)
theorem dX4_note_5 : decode cX4_note 5 = .ok (.aload_n 0, 1) := dk_42 (dk_at dksX4_note_0 5 rfl rfl)
theorem dX4_note_6 : decode cX4_note 6 = .ok (.getfield 39, 3) := dk_180 0 39 (dk_at dksX4_note_0 6 rfl rfl)
theorem dX4_note_9 : decode cX4_note 9 = .ok (.sipush 131, 3) := dk_17 0 131 (dk_at dksX4_note_0 9 rfl rfl)
theorem dX4_note_12 : decode cX4_note 12 = .ok (.iconst 0, 1) := dk_3 (dk_at dksX4_note_0 12 rfl rfl)
theorem dX4_note_13 : decode cX4_note 13 = .ok (.iastore, 1) := dk_79 (dk_at dksX4_note_0 13 rfl rfl)
theorem dX4_note_14 : decode cX4_note 14 = .ok (.iconst 0, 1) := dk_3 (dk_at dksX4_note_0 14 rfl rfl)
theorem dX4_note_15 : decode cX4_note 15 = .ok (.ireturn, 1) := dk_172 (dk_at dksX4_note_0 15 rfl rfl)
theorem dX4_note_16 : decode cX4_note 16 = .ok (.iload_n 1, 1) := dk_27 (dk_at dksX4_note_0 16 rfl rfl)
theorem dX4_note_17 : decode cX4_note 17 = .ok (.i2l, 1) := dk_133 (dk_at dksX4_note_0 17 rfl rfl)
theorem dX4_note_18 : decode cX4_note 18 = .ok (.lconst 0, 1) := dk_9 (dk_at dksX4_note_0 18 rfl rfl)
theorem dX4_note_19 : decode cX4_note 19 = .ok (.ldc2_w 420, 3) := dk_20 1 164 (dk_at dksX4_note_0 19 rfl rfl)
theorem dX4_note_22 : decode cX4_note 22 = .ok (.invokestatic 121, 3) := dk_184 0 121 (dk_at dksX4_note_1 0 rfl rfl)
theorem dX4_note_25 : decode cX4_note 25 = .ok (.ifCond .eq 24, 3) := dk_153 0 24 (dk_at dksX4_note_1 3 rfl rfl)
theorem dX4_note_28 : decode cX4_note 28 = .ok (.aload_n 0, 1) := dk_42 (dk_at dksX4_note_1 6 rfl rfl)
theorem dX4_note_29 : decode cX4_note 29 = .ok (.iload_n 2, 1) := dk_28 (dk_at dksX4_note_1 7 rfl rfl)
theorem dX4_note_30 : decode cX4_note 30 = .ok (.invokevirtual 319, 3) := dk_182 1 63 (dk_at dksX4_note_1 8 rfl rfl)
theorem dX4_note_33 : decode cX4_note 33 = .ok (.ifCond .eq 16, 3) := dk_153 0 16 (dk_at dksX4_note_1 11 rfl rfl)
theorem dX4_note_36 : decode cX4_note 36 = .ok (.aload_n 0, 1) := dk_42 (dk_at dksX4_note_1 14 rfl rfl)
theorem dX4_note_37 : decode cX4_note 37 = .ok (.getfield 39, 3) := dk_180 0 39 (dk_at dksX4_note_1 15 rfl rfl)
theorem dX4_note_40 : decode cX4_note 40 = .ok (.sipush 131, 3) := dk_17 0 131 (dk_at dksX4_note_1 18 rfl rfl)
theorem dX4_note_43 : decode cX4_note 43 = .ok (.iaload, 1) := dk_46 (dk_at dksX4_note_1 21 rfl rfl)
theorem dX4_note_44 : decode cX4_note 44 = .ok (.bipush 10, 2) := dk_16 10 (dk_at dksX4_note_1 22 rfl rfl)
theorem dX4_note_46 : decode cX4_note 46 = .ok (.if_icmp .ne 6, 3) := dk_160 0 6 (dk_at dksX4_note_2 0 rfl rfl)
theorem dX4_note_49 : decode cX4_note 49 = .ok (.bipush (-2), 2) := dk_16 254 (dk_at dksX4_note_2 3 rfl rfl)
theorem dX4_note_51 : decode cX4_note 51 = .ok (.ireturn, 1) := dk_172 (dk_at dksX4_note_2 5 rfl rfl)
theorem dX4_note_52 : decode cX4_note 52 = .ok (.bipush 111, 2) := dk_16 111 (dk_at dksX4_note_2 6 rfl rfl)
theorem dX4_note_54 : decode cX4_note 54 = .ok (.iconst 2, 1) := dk_5 (dk_at dksX4_note_2 8 rfl rfl)
theorem dX4_note_55 : decode cX4_note 55 = .ok (.aload_n 0, 1) := dk_42 (dk_at dksX4_note_2 9 rfl rfl)
theorem dX4_note_56 : decode cX4_note 56 = .ok (.getfield 39, 3) := dk_180 0 39 (dk_at dksX4_note_2 10 rfl rfl)
theorem dX4_note_59 : decode cX4_note 59 = .ok (.sipush 131, 3) := dk_17 0 131 (dk_at dksX4_note_2 13 rfl rfl)
theorem dX4_note_62 : decode cX4_note 62 = .ok (.iaload, 1) := dk_46 (dk_at dksX4_note_2 16 rfl rfl)
theorem dX4_note_63 : decode cX4_note 63 = .ok (.imul, 1) := dk_104 (dk_at dksX4_note_2 17 rfl rfl)
theorem dX4_note_64 : decode cX4_note 64 = .ok (.iadd, 1) := dk_96 (dk_at dksX4_note_2 18 rfl rfl)
theorem dX4_note_65 : decode cX4_note 65 = .ok (.istore_n 3, 1) := dk_62 (dk_at dksX4_note_2 19 rfl rfl)
theorem dX4_note_66 : decode cX4_note 66 = .ok (.aload_n 0, 1) := dk_42 (dk_at dksX4_note_2 20 rfl rfl)
theorem dX4_note_67 : decode cX4_note 67 = .ok (.getfield 39, 3) := dk_180 0 39 (dk_at dksX4_note_2 21 rfl rfl)
theorem dX4_note_70 : decode cX4_note 70 = .ok (.iload_n 3, 1) := dk_29 (dk_at dksX4_note_3 0 rfl rfl)
theorem dX4_note_71 : decode cX4_note 71 = .ok (.iload_n 1, 1) := dk_27 (dk_at dksX4_note_3 1 rfl rfl)
theorem dX4_note_72 : decode cX4_note 72 = .ok (.iastore, 1) := dk_79 (dk_at dksX4_note_3 2 rfl rfl)
theorem dX4_note_73 : decode cX4_note 73 = .ok (.aload_n 0, 1) := dk_42 (dk_at dksX4_note_3 3 rfl rfl)
theorem dX4_note_74 : decode cX4_note 74 = .ok (.getfield 39, 3) := dk_180 0 39 (dk_at dksX4_note_3 4 rfl rfl)
theorem dX4_note_77 : decode cX4_note 77 = .ok (.iload_n 3, 1) := dk_29 (dk_at dksX4_note_3 7 rfl rfl)
theorem dX4_note_78 : decode cX4_note 78 = .ok (.iconst 1, 1) := dk_4 (dk_at dksX4_note_3 8 rfl rfl)
theorem dX4_note_79 : decode cX4_note 79 = .ok (.iadd, 1) := dk_96 (dk_at dksX4_note_3 9 rfl rfl)
theorem dX4_note_80 : decode cX4_note 80 = .ok (.iload_n 2, 1) := dk_28 (dk_at dksX4_note_3 10 rfl rfl)
theorem dX4_note_81 : decode cX4_note 81 = .ok (.iastore, 1) := dk_79 (dk_at dksX4_note_3 11 rfl rfl)
theorem dX4_note_82 : decode cX4_note 82 = .ok (.aload_n 0, 1) := dk_42 (dk_at dksX4_note_3 12 rfl rfl)
theorem dX4_note_83 : decode cX4_note 83 = .ok (.getfield 39, 3) := dk_180 0 39 (dk_at dksX4_note_3 13 rfl rfl)
theorem dX4_note_86 : decode cX4_note 86 = .ok (.sipush 131, 3) := dk_17 0 131 (dk_at dksX4_note_3 16 rfl rfl)
theorem dX4_note_89 : decode cX4_note 89 = .ok (.dup2, 1) := dk_92 (dk_at dksX4_note_3 19 rfl rfl)
theorem dX4_note_90 : decode cX4_note 90 = .ok (.iaload, 1) := dk_46 (dk_at dksX4_note_3 20 rfl rfl)
theorem dX4_note_91 : decode cX4_note 91 = .ok (.iconst 1, 1) := dk_4 (dk_at dksX4_note_3 21 rfl rfl)
theorem dX4_note_92 : decode cX4_note 92 = .ok (.iadd, 1) := dk_96 (dk_at dksX4_note_3 22 rfl rfl)
theorem dX4_note_93 : decode cX4_note 93 = .ok (.iastore, 1) := dk_79 (dk_at dksX4_note_3 23 rfl rfl)
theorem dX4_note_94 : decode cX4_note 94 = .ok (.aload_n 0, 1) := dk_42 (dk_at dksX4_note_4 0 rfl rfl)
theorem dX4_note_95 : decode cX4_note 95 = .ok (.getfield 39, 3) := dk_180 0 39 (dk_at dksX4_note_4 1 rfl rfl)
theorem dX4_note_98 : decode cX4_note 98 = .ok (.sipush 131, 3) := dk_17 0 131 (dk_at dksX4_note_4 4 rfl rfl)
theorem dX4_note_101 : decode cX4_note 101 = .ok (.iaload, 1) := dk_46 (dk_at dksX4_note_4 7 rfl rfl)
theorem dX4_note_102 : decode cX4_note 102 = .ok (.ireturn, 1) := dk_172 (dk_at dksX4_note_4 8 rfl rfl)
abbrev cX4_ruled : ByteArray := prog_19_method_109_code
def yX4_ruled : MethodName := ⟨RX4, "ruled", "(I)I"⟩
def dkwX4_ruled_3 : List UInt8 := [28, 167, 0, 4, 29, 172]
abbrev dktX4_ruled_3 : List UInt8 := dkwX4_ruled_3 ++ []
def dkwX4_ruled_2 : List UInt8 := [154, 0, 6, 167, 0, 11, 21, 4, 4, 100, 62, 132, 2, 1, 132, 4, 255, 167, 255, 227, 27, 154, 0, 7]
abbrev dktX4_ruled_2 : List UInt8 := dkwX4_ruled_2 ++ dktX4_ruled_3
def dkwX4_ruled_1 : List UInt8 := [3, 61, 16, 254, 62, 42, 180, 1, 8, 54, 4, 21, 4, 155, 0, 30, 42, 180, 0, 64, 21, 4, 51]
abbrev dktX4_ruled_1 : List UInt8 := dkwX4_ruled_1 ++ dktX4_ruled_2
def dkwX4_ruled_0 : List UInt8 := [42, 182, 1, 60, 153, 0, 13, 27, 133, 9, 10, 184, 0, 121, 154, 0, 6, 16, 253, 172, 42, 182, 1, 190]
abbrev dktX4_ruled_0 : List UInt8 := dkwX4_ruled_0 ++ dktX4_ruled_1
theorem dksX4_ruled_0 : cX4_ruled.data.toList.drop 0 = dktX4_ruled_0 := by decide +kernel
theorem dksX4_ruled_1 : cX4_ruled.data.toList.drop 24 = dktX4_ruled_1 := dk_seg dksX4_ruled_0 24 rfl rfl
theorem dksX4_ruled_2 : cX4_ruled.data.toList.drop 47 = dktX4_ruled_2 := dk_seg dksX4_ruled_1 23 rfl rfl
theorem dksX4_ruled_3 : cX4_ruled.data.toList.drop 71 = dktX4_ruled_3 := dk_seg dksX4_ruled_2 24 rfl rfl
theorem dX4_ruled_0 : decode cX4_ruled 0 = .ok (.aload_n 0, 1) := dk_42 (dk_at dksX4_ruled_0 0 rfl rfl)
theorem dX4_ruled_1 : decode cX4_ruled 1 = .ok (.invokevirtual 316, 3) := dk_182 1 60 (dk_at dksX4_ruled_0 1 rfl rfl)
theorem dX4_ruled_4 : decode cX4_ruled 4 = .ok (.ifCond .eq 13, 3) := dk_153 0 13 (dk_at dksX4_ruled_0 4 rfl rfl)
theorem dX4_ruled_7 : decode cX4_ruled 7 = .ok (.iload_n 1, 1) := dk_27 (dk_at dksX4_ruled_0 7 rfl rfl)
theorem dX4_ruled_8 : decode cX4_ruled 8 = .ok (.i2l, 1) := dk_133 (dk_at dksX4_ruled_0 8 rfl rfl)
theorem dX4_ruled_9 : decode cX4_ruled 9 = .ok (.lconst 0, 1) := dk_9 (dk_at dksX4_ruled_0 9 rfl rfl)
theorem dX4_ruled_10 : decode cX4_ruled 10 = .ok (.lconst 1, 1) := dk_10 (dk_at dksX4_ruled_0 10 rfl rfl)
theorem dX4_ruled_11 : decode cX4_ruled 11 = .ok (.invokestatic 121, 3) := dk_184 0 121 (dk_at dksX4_ruled_0 11 rfl rfl)
theorem dX4_ruled_14 : decode cX4_ruled 14 = .ok (.ifCond .ne 6, 3) := dk_154 0 6 (dk_at dksX4_ruled_0 14 rfl rfl)
theorem dX4_ruled_17 : decode cX4_ruled 17 = .ok (.bipush (-3), 2) := dk_16 253 (dk_at dksX4_ruled_0 17 rfl rfl)
theorem dX4_ruled_19 : decode cX4_ruled 19 = .ok (.ireturn, 1) := dk_172 (dk_at dksX4_ruled_0 19 rfl rfl)
theorem dX4_ruled_20 : decode cX4_ruled 20 = .ok (.aload_n 0, 1) := dk_42 (dk_at dksX4_ruled_0 20 rfl rfl)
theorem dX4_ruled_21 : decode cX4_ruled 21 = .ok (.invokevirtual 446, 3) := dk_182 1 190 (dk_at dksX4_ruled_0 21 rfl rfl)
theorem dX4_ruled_24 : decode cX4_ruled 24 = .ok (.iconst 0, 1) := dk_3 (dk_at dksX4_ruled_1 0 rfl rfl)
theorem dX4_ruled_25 : decode cX4_ruled 25 = .ok (.istore_n 2, 1) := dk_61 (dk_at dksX4_ruled_1 1 rfl rfl)
theorem dX4_ruled_26 : decode cX4_ruled 26 = .ok (.bipush (-2), 2) := dk_16 254 (dk_at dksX4_ruled_1 2 rfl rfl)
theorem dX4_ruled_28 : decode cX4_ruled 28 = .ok (.istore_n 3, 1) := dk_62 (dk_at dksX4_ruled_1 4 rfl rfl)
theorem dX4_ruled_29 : decode cX4_ruled 29 = .ok (.aload_n 0, 1) := dk_42 (dk_at dksX4_ruled_1 5 rfl rfl)
theorem dX4_ruled_30 : decode cX4_ruled 30 = .ok (.getfield 264, 3) := dk_180 1 8 (dk_at dksX4_ruled_1 6 rfl rfl)
theorem dX4_ruled_33 : decode cX4_ruled 33 = .ok (.istore 4, 2) := dk_54 4 (dk_at dksX4_ruled_1 9 rfl rfl)
theorem dX4_ruled_35 : decode cX4_ruled 35 = .ok (.iload 4, 2) := dk_21 4 (dk_at dksX4_ruled_1 11 rfl rfl)
theorem dX4_ruled_37 : decode cX4_ruled 37 = .ok (.ifCond .lt 30, 3) := dk_155 0 30 (dk_at dksX4_ruled_1 13 rfl rfl)
theorem dX4_ruled_40 : decode cX4_ruled 40 = .ok (.aload_n 0, 1) := dk_42 (dk_at dksX4_ruled_1 16 rfl rfl)
theorem dX4_ruled_41 : decode cX4_ruled 41 = .ok (.getfield 64, 3) := dk_180 0 64 (dk_at dksX4_ruled_1 17 rfl rfl)
theorem dX4_ruled_44 : decode cX4_ruled 44 = .ok (.iload 4, 2) := dk_21 4 (dk_at dksX4_ruled_1 20 rfl rfl)
theorem dX4_ruled_46 : decode cX4_ruled 46 = .ok (.baload, 1) := dk_51 (dk_at dksX4_ruled_1 22 rfl rfl)
theorem dX4_ruled_47 : decode cX4_ruled 47 = .ok (.ifCond .ne 6, 3) := dk_154 0 6 (dk_at dksX4_ruled_2 0 rfl rfl)
theorem dX4_ruled_50 : decode cX4_ruled 50 = .ok (.goto 11, 3) := dk_167 0 11 (dk_at dksX4_ruled_2 3 rfl rfl)
theorem dX4_ruled_53 : decode cX4_ruled 53 = .ok (.iload 4, 2) := dk_21 4 (dk_at dksX4_ruled_2 6 rfl rfl)
theorem dX4_ruled_55 : decode cX4_ruled 55 = .ok (.iconst 1, 1) := dk_4 (dk_at dksX4_ruled_2 8 rfl rfl)
theorem dX4_ruled_56 : decode cX4_ruled 56 = .ok (.isub, 1) := dk_100 (dk_at dksX4_ruled_2 9 rfl rfl)
theorem dX4_ruled_57 : decode cX4_ruled 57 = .ok (.istore_n 3, 1) := dk_62 (dk_at dksX4_ruled_2 10 rfl rfl)
theorem dX4_ruled_58 : decode cX4_ruled 58 = .ok (.iinc 2 1, 3) := dk_132 2 1 (dk_at dksX4_ruled_2 11 rfl rfl)
theorem dX4_ruled_61 : decode cX4_ruled 61 = .ok (.iinc 4 (-1), 3) := dk_132 4 255 (dk_at dksX4_ruled_2 14 rfl rfl)
theorem dX4_ruled_64 : decode cX4_ruled 64 = .ok (.goto (-29), 3) := dk_167 255 227 (dk_at dksX4_ruled_2 17 rfl rfl)
theorem dX4_ruled_67 : decode cX4_ruled 67 = .ok (.iload_n 1, 1) := dk_27 (dk_at dksX4_ruled_2 20 rfl rfl)
theorem dX4_ruled_68 : decode cX4_ruled 68 = .ok (.ifCond .ne 7, 3) := dk_154 0 7 (dk_at dksX4_ruled_2 21 rfl rfl)
theorem dX4_ruled_71 : decode cX4_ruled 71 = .ok (.iload_n 2, 1) := dk_28 (dk_at dksX4_ruled_3 0 rfl rfl)
theorem dX4_ruled_72 : decode cX4_ruled 72 = .ok (.goto 4, 3) := dk_167 0 4 (dk_at dksX4_ruled_3 1 rfl rfl)
theorem dX4_ruled_75 : decode cX4_ruled 75 = .ok (.iload_n 3, 1) := dk_29 (dk_at dksX4_ruled_3 4 rfl rfl)
theorem dX4_ruled_76 : decode cX4_ruled 76 = .ok (.ireturn, 1) := dk_172 (dk_at dksX4_ruled_3 5 rfl rfl)
abbrev cX4_fillsFits : ByteArray := prog_19_method_108_code
def yX4_fillsFits : MethodName := ⟨RX4, "fillsFits", "()V"⟩
def dkwX4_fillsFits_3 : List UInt8 := [42, 28, 182, 1, 187, 84, 132, 2, 1, 167, 255, 187, 42, 27, 181, 0, 42, 42, 182, 1, 146, 177]
abbrev dktX4_fillsFits_3 : List UInt8 := dkwX4_fillsFits_3 ++ []
def dkwX4_fillsFits_2 : List UInt8 := [42, 180, 0, 39, 16, 11, 46, 79, 42, 182, 1, 125, 87, 132, 3, 1, 167, 255, 225, 42, 180, 0, 64, 28]
abbrev dktX4_fillsFits_2 : List UInt8 := dkwX4_fillsFits_2 ++ dktX4_fillsFits_3
def dkwX4_fillsFits_1 : List UInt8 := [181, 0, 42, 42, 182, 1, 17, 3, 62, 29, 16, 60, 163, 0, 31, 42, 180, 0, 68, 28, 29, 184, 1, 184]
abbrev dktX4_fillsFits_1 : List UInt8 := dkwX4_fillsFits_1 ++ dktX4_fillsFits_2
def dkwX4_fillsFits_0 : List UInt8 := [42, 180, 0, 42, 60, 42, 182, 1, 140, 3, 61, 28, 42, 180, 1, 8, 163, 0, 67, 42, 28, 4, 100]
abbrev dktX4_fillsFits_0 : List UInt8 := dkwX4_fillsFits_0 ++ dktX4_fillsFits_1
theorem dksX4_fillsFits_0 : cX4_fillsFits.data.toList.drop 0 = dktX4_fillsFits_0 := by decide +kernel
theorem dksX4_fillsFits_1 : cX4_fillsFits.data.toList.drop 23 = dktX4_fillsFits_1 := dk_seg dksX4_fillsFits_0 23 rfl rfl
theorem dksX4_fillsFits_2 : cX4_fillsFits.data.toList.drop 47 = dktX4_fillsFits_2 := dk_seg dksX4_fillsFits_1 24 rfl rfl
theorem dksX4_fillsFits_3 : cX4_fillsFits.data.toList.drop 71 = dktX4_fillsFits_3 := dk_seg dksX4_fillsFits_2 24 rfl rfl
theorem dX4_fillsFits_0 : decode cX4_fillsFits 0 = .ok (.aload_n 0, 1) := dk_42 (dk_at dksX4_fillsFits_0 0 rfl rfl)
theorem dX4_fillsFits_1 : decode cX4_fillsFits 1 = .ok (.getfield 42, 3) := dk_180 0 42 (dk_at dksX4_fillsFits_0 1 rfl rfl)
theorem dX4_fillsFits_4 : decode cX4_fillsFits 4 = .ok (.istore_n 1, 1) := dk_60 (dk_at dksX4_fillsFits_0 4 rfl rfl)
theorem dX4_fillsFits_5 : decode cX4_fillsFits 5 = .ok (.aload_n 0, 1) := dk_42 (dk_at dksX4_fillsFits_0 5 rfl rfl)
theorem dX4_fillsFits_6 : decode cX4_fillsFits 6 = .ok (.invokevirtual 396, 3) := dk_182 1 140 (dk_at dksX4_fillsFits_0 6 rfl rfl)
theorem dX4_fillsFits_9 : decode cX4_fillsFits 9 = .ok (.iconst 0, 1) := dk_3 (dk_at dksX4_fillsFits_0 9 rfl rfl)
theorem dX4_fillsFits_10 : decode cX4_fillsFits 10 = .ok (.istore_n 2, 1) := dk_61 (dk_at dksX4_fillsFits_0 10 rfl rfl)
theorem dX4_fillsFits_11 : decode cX4_fillsFits 11 = .ok (.iload_n 2, 1) := dk_28 (dk_at dksX4_fillsFits_0 11 rfl rfl)
theorem dX4_fillsFits_12 : decode cX4_fillsFits 12 = .ok (.aload_n 0, 1) := dk_42 (dk_at dksX4_fillsFits_0 12 rfl rfl)
theorem dX4_fillsFits_13 : decode cX4_fillsFits 13 = .ok (.getfield 264, 3) := dk_180 1 8 (dk_at dksX4_fillsFits_0 13 rfl rfl)
theorem dX4_fillsFits_16 : decode cX4_fillsFits 16 = .ok (.if_icmp .gt 67, 3) := dk_163 0 67 (dk_at dksX4_fillsFits_0 16 rfl rfl)
theorem dX4_fillsFits_19 : decode cX4_fillsFits 19 = .ok (.aload_n 0, 1) := dk_42 (dk_at dksX4_fillsFits_0 19 rfl rfl)
theorem dX4_fillsFits_20 : decode cX4_fillsFits 20 = .ok (.iload_n 2, 1) := dk_28 (dk_at dksX4_fillsFits_0 20 rfl rfl)
theorem dX4_fillsFits_21 : decode cX4_fillsFits 21 = .ok (.iconst 1, 1) := dk_4 (dk_at dksX4_fillsFits_0 21 rfl rfl)
theorem dX4_fillsFits_22 : decode cX4_fillsFits 22 = .ok (.isub, 1) := dk_100 (dk_at dksX4_fillsFits_0 22 rfl rfl)
theorem dX4_fillsFits_23 : decode cX4_fillsFits 23 = .ok (.putfield 42, 3) := dk_181 0 42 (dk_at dksX4_fillsFits_1 0 rfl rfl)
theorem dX4_fillsFits_26 : decode cX4_fillsFits 26 = .ok (.aload_n 0, 1) := dk_42 (dk_at dksX4_fillsFits_1 3 rfl rfl)
theorem dX4_fillsFits_27 : decode cX4_fillsFits 27 = .ok (.invokevirtual 273, 3) := dk_182 1 17 (dk_at dksX4_fillsFits_1 4 rfl rfl)
theorem dX4_fillsFits_30 : decode cX4_fillsFits 30 = .ok (.iconst 0, 1) := dk_3 (dk_at dksX4_fillsFits_1 7 rfl rfl)
theorem dX4_fillsFits_31 : decode cX4_fillsFits 31 = .ok (.istore_n 3, 1) := dk_62 (dk_at dksX4_fillsFits_1 8 rfl rfl)
theorem dX4_fillsFits_32 : decode cX4_fillsFits 32 = .ok (.iload_n 3, 1) := dk_29 (dk_at dksX4_fillsFits_1 9 rfl rfl)
theorem dX4_fillsFits_33 : decode cX4_fillsFits 33 = .ok (.bipush 60, 2) := dk_16 60 (dk_at dksX4_fillsFits_1 10 rfl rfl)
theorem dX4_fillsFits_35 : decode cX4_fillsFits 35 = .ok (.if_icmp .gt 31, 3) := dk_163 0 31 (dk_at dksX4_fillsFits_1 12 rfl rfl)
theorem dX4_fillsFits_38 : decode cX4_fillsFits 38 = .ok (.aload_n 0, 1) := dk_42 (dk_at dksX4_fillsFits_1 15 rfl rfl)
theorem dX4_fillsFits_39 : decode cX4_fillsFits 39 = .ok (.getfield 68, 3) := dk_180 0 68 (dk_at dksX4_fillsFits_1 16 rfl rfl)
theorem dX4_fillsFits_42 : decode cX4_fillsFits 42 = .ok (.iload_n 2, 1) := dk_28 (dk_at dksX4_fillsFits_1 19 rfl rfl)
theorem dX4_fillsFits_43 : decode cX4_fillsFits 43 = .ok (.iload_n 3, 1) := dk_29 (dk_at dksX4_fillsFits_1 20 rfl rfl)
theorem dX4_fillsFits_44 : decode cX4_fillsFits 44 = .ok (.invokestatic 440, 3) := dk_184 1 184 (dk_at dksX4_fillsFits_1 21 rfl rfl)
theorem dX4_fillsFits_47 : decode cX4_fillsFits 47 = .ok (.aload_n 0, 1) := dk_42 (dk_at dksX4_fillsFits_2 0 rfl rfl)
theorem dX4_fillsFits_48 : decode cX4_fillsFits 48 = .ok (.getfield 39, 3) := dk_180 0 39 (dk_at dksX4_fillsFits_2 1 rfl rfl)
theorem dX4_fillsFits_51 : decode cX4_fillsFits 51 = .ok (.bipush 11, 2) := dk_16 11 (dk_at dksX4_fillsFits_2 4 rfl rfl)
theorem dX4_fillsFits_53 : decode cX4_fillsFits 53 = .ok (.iaload, 1) := dk_46 (dk_at dksX4_fillsFits_2 6 rfl rfl)
theorem dX4_fillsFits_54 : decode cX4_fillsFits 54 = .ok (.iastore, 1) := dk_79 (dk_at dksX4_fillsFits_2 7 rfl rfl)
theorem dX4_fillsFits_55 : decode cX4_fillsFits 55 = .ok (.aload_n 0, 1) := dk_42 (dk_at dksX4_fillsFits_2 8 rfl rfl)
theorem dX4_fillsFits_56 : decode cX4_fillsFits 56 = .ok (.invokevirtual 381, 3) := dk_182 1 125 (dk_at dksX4_fillsFits_2 9 rfl rfl)
theorem dX4_fillsFits_59 : decode cX4_fillsFits 59 = .ok (.pop, 1) := dk_87 (dk_at dksX4_fillsFits_2 12 rfl rfl)
theorem dX4_fillsFits_60 : decode cX4_fillsFits 60 = .ok (.iinc 3 1, 3) := dk_132 3 1 (dk_at dksX4_fillsFits_2 13 rfl rfl)
theorem dX4_fillsFits_63 : decode cX4_fillsFits 63 = .ok (.goto (-31), 3) := dk_167 255 225 (dk_at dksX4_fillsFits_2 16 rfl rfl)
theorem dX4_fillsFits_66 : decode cX4_fillsFits 66 = .ok (.aload_n 0, 1) := dk_42 (dk_at dksX4_fillsFits_2 19 rfl rfl)
theorem dX4_fillsFits_67 : decode cX4_fillsFits 67 = .ok (.getfield 64, 3) := dk_180 0 64 (dk_at dksX4_fillsFits_2 20 rfl rfl)
theorem dX4_fillsFits_70 : decode cX4_fillsFits 70 = .ok (.iload_n 2, 1) := dk_28 (dk_at dksX4_fillsFits_2 23 rfl rfl)
theorem dX4_fillsFits_71 : decode cX4_fillsFits 71 = .ok (.aload_n 0, 1) := dk_42 (dk_at dksX4_fillsFits_3 0 rfl rfl)
theorem dX4_fillsFits_72 : decode cX4_fillsFits 72 = .ok (.iload_n 2, 1) := dk_28 (dk_at dksX4_fillsFits_3 1 rfl rfl)
theorem dX4_fillsFits_73 : decode cX4_fillsFits 73 = .ok (.invokevirtual 443, 3) := dk_182 1 187 (dk_at dksX4_fillsFits_3 2 rfl rfl)
theorem dX4_fillsFits_76 : decode cX4_fillsFits 76 = .ok (.bastore, 1) := dk_84 (dk_at dksX4_fillsFits_3 5 rfl rfl)
theorem dX4_fillsFits_77 : decode cX4_fillsFits 77 = .ok (.iinc 2 1, 3) := dk_132 2 1 (dk_at dksX4_fillsFits_3 6 rfl rfl)
theorem dX4_fillsFits_80 : decode cX4_fillsFits 80 = .ok (.goto (-69), 3) := dk_167 255 187 (dk_at dksX4_fillsFits_3 9 rfl rfl)
theorem dX4_fillsFits_83 : decode cX4_fillsFits 83 = .ok (.aload_n 0, 1) := dk_42 (dk_at dksX4_fillsFits_3 12 rfl rfl)
theorem dX4_fillsFits_84 : decode cX4_fillsFits 84 = .ok (.iload_n 1, 1) := dk_27 (dk_at dksX4_fillsFits_3 13 rfl rfl)
theorem dX4_fillsFits_85 : decode cX4_fillsFits 85 = .ok (.putfield 42, 3) := dk_181 0 42 (dk_at dksX4_fillsFits_3 14 rfl rfl)
theorem dX4_fillsFits_88 : decode cX4_fillsFits 88 = .ok (.aload_n 0, 1) := dk_42 (dk_at dksX4_fillsFits_3 17 rfl rfl)
theorem dX4_fillsFits_89 : decode cX4_fillsFits 89 = .ok (.invokevirtual 402, 3) := dk_182 1 146 (dk_at dksX4_fillsFits_3 18 rfl rfl)
theorem dX4_fillsFits_92 : decode cX4_fillsFits 92 = .ok (.return_, 1) := dk_177 (dk_at dksX4_fillsFits_3 21 rfl rfl)
abbrev cX4_spot : ByteArray := prog_19_method_106_code
def yX4_spot : MethodName := ⟨RX4, "spot", "(II)I"⟩
def dkwX4_spot_0 : List UInt8 := [16, 61, 26, 104, 27, 96, 172]
abbrev dktX4_spot_0 : List UInt8 := dkwX4_spot_0 ++ []
theorem dksX4_spot_0 : cX4_spot.data.toList.drop 0 = dktX4_spot_0 := by decide +kernel
theorem dX4_spot_0 : decode cX4_spot 0 = .ok (.bipush 61, 2) := dk_16 61 (dk_at dksX4_spot_0 0 rfl rfl)
theorem dX4_spot_2 : decode cX4_spot 2 = .ok (.iload_n 0, 1) := dk_26 (dk_at dksX4_spot_0 2 rfl rfl)
theorem dX4_spot_3 : decode cX4_spot 3 = .ok (.imul, 1) := dk_104 (dk_at dksX4_spot_0 3 rfl rfl)
theorem dX4_spot_4 : decode cX4_spot 4 = .ok (.iload_n 1, 1) := dk_27 (dk_at dksX4_spot_0 4 rfl rfl)
theorem dX4_spot_5 : decode cX4_spot 5 = .ok (.iadd, 1) := dk_96 (dk_at dksX4_spot_0 5 rfl rfl)
theorem dX4_spot_6 : decode cX4_spot 6 = .ok (.ireturn, 1) := dk_172 (dk_at dksX4_spot_0 6 rfl rfl)
abbrev cX4_areNotesSo : ByteArray := prog_19_method_107_code
def yX4_areNotesSo : MethodName := ⟨RX4, "areNotesSo", "(I)Z"⟩
def dkwX4_areNotesSo_2 : List UInt8 := [159, 0, 5, 3, 172, 132, 2, 2, 167, 255, 205, 4, 172]
abbrev dktX4_areNotesSo_2 : List UInt8 := dkwX4_areNotesSo_2 ++ []
def dkwX4_areNotesSo_1 : List UInt8 := [180, 0, 39, 16, 111, 28, 96, 46, 184, 1, 184, 46, 42, 180, 0, 39, 16, 111, 28, 96, 4, 96, 46]
abbrev dktX4_areNotesSo_1 : List UInt8 := dkwX4_areNotesSo_1 ++ dktX4_areNotesSo_2
def dkwX4_areNotesSo_0 : List UInt8 := [3, 61, 28, 5, 42, 180, 0, 39, 17, 0, 131, 46, 104, 162, 0, 43, 42, 180, 0, 68, 27, 42]
abbrev dktX4_areNotesSo_0 : List UInt8 := dkwX4_areNotesSo_0 ++ dktX4_areNotesSo_1
theorem dksX4_areNotesSo_0 : cX4_areNotesSo.data.toList.drop 0 = dktX4_areNotesSo_0 := by decide +kernel
theorem dksX4_areNotesSo_1 : cX4_areNotesSo.data.toList.drop 22 = dktX4_areNotesSo_1 := dk_seg dksX4_areNotesSo_0 22 rfl rfl
theorem dksX4_areNotesSo_2 : cX4_areNotesSo.data.toList.drop 45 = dktX4_areNotesSo_2 := dk_seg dksX4_areNotesSo_1 23 rfl rfl
theorem dX4_areNotesSo_0 : decode cX4_areNotesSo 0 = .ok (.iconst 0, 1) := dk_3 (dk_at dksX4_areNotesSo_0 0 rfl rfl)
theorem dX4_areNotesSo_1 : decode cX4_areNotesSo 1 = .ok (.istore_n 2, 1) := dk_61 (dk_at dksX4_areNotesSo_0 1 rfl rfl)
theorem dX4_areNotesSo_2 : decode cX4_areNotesSo 2 = .ok (.iload_n 2, 1) := dk_28 (dk_at dksX4_areNotesSo_0 2 rfl rfl)
theorem dX4_areNotesSo_3 : decode cX4_areNotesSo 3 = .ok (.iconst 2, 1) := dk_5 (dk_at dksX4_areNotesSo_0 3 rfl rfl)
theorem dX4_areNotesSo_4 : decode cX4_areNotesSo 4 = .ok (.aload_n 0, 1) := dk_42 (dk_at dksX4_areNotesSo_0 4 rfl rfl)
theorem dX4_areNotesSo_5 : decode cX4_areNotesSo 5 = .ok (.getfield 39, 3) := dk_180 0 39 (dk_at dksX4_areNotesSo_0 5 rfl rfl)
theorem dX4_areNotesSo_8 : decode cX4_areNotesSo 8 = .ok (.sipush 131, 3) := dk_17 0 131 (dk_at dksX4_areNotesSo_0 8 rfl rfl)
theorem dX4_areNotesSo_11 : decode cX4_areNotesSo 11 = .ok (.iaload, 1) := dk_46 (dk_at dksX4_areNotesSo_0 11 rfl rfl)
theorem dX4_areNotesSo_12 : decode cX4_areNotesSo 12 = .ok (.imul, 1) := dk_104 (dk_at dksX4_areNotesSo_0 12 rfl rfl)
theorem dX4_areNotesSo_13 : decode cX4_areNotesSo 13 = .ok (.if_icmp .ge 43, 3) := dk_162 0 43 (dk_at dksX4_areNotesSo_0 13 rfl rfl)
theorem dX4_areNotesSo_16 : decode cX4_areNotesSo 16 = .ok (.aload_n 0, 1) := dk_42 (dk_at dksX4_areNotesSo_0 16 rfl rfl)
theorem dX4_areNotesSo_17 : decode cX4_areNotesSo 17 = .ok (.getfield 68, 3) := dk_180 0 68 (dk_at dksX4_areNotesSo_0 17 rfl rfl)
theorem dX4_areNotesSo_20 : decode cX4_areNotesSo 20 = .ok (.iload_n 1, 1) := dk_27 (dk_at dksX4_areNotesSo_0 20 rfl rfl)
theorem dX4_areNotesSo_21 : decode cX4_areNotesSo 21 = .ok (.aload_n 0, 1) := dk_42 (dk_at dksX4_areNotesSo_0 21 rfl rfl)
theorem dX4_areNotesSo_22 : decode cX4_areNotesSo 22 = .ok (.getfield 39, 3) := dk_180 0 39 (dk_at dksX4_areNotesSo_1 0 rfl rfl)
theorem dX4_areNotesSo_25 : decode cX4_areNotesSo 25 = .ok (.bipush 111, 2) := dk_16 111 (dk_at dksX4_areNotesSo_1 3 rfl rfl)
theorem dX4_areNotesSo_27 : decode cX4_areNotesSo 27 = .ok (.iload_n 2, 1) := dk_28 (dk_at dksX4_areNotesSo_1 5 rfl rfl)
theorem dX4_areNotesSo_28 : decode cX4_areNotesSo 28 = .ok (.iadd, 1) := dk_96 (dk_at dksX4_areNotesSo_1 6 rfl rfl)
theorem dX4_areNotesSo_29 : decode cX4_areNotesSo 29 = .ok (.iaload, 1) := dk_46 (dk_at dksX4_areNotesSo_1 7 rfl rfl)
theorem dX4_areNotesSo_30 : decode cX4_areNotesSo 30 = .ok (.invokestatic 440, 3) := dk_184 1 184 (dk_at dksX4_areNotesSo_1 8 rfl rfl)
theorem dX4_areNotesSo_33 : decode cX4_areNotesSo 33 = .ok (.iaload, 1) := dk_46 (dk_at dksX4_areNotesSo_1 11 rfl rfl)
theorem dX4_areNotesSo_34 : decode cX4_areNotesSo 34 = .ok (.aload_n 0, 1) := dk_42 (dk_at dksX4_areNotesSo_1 12 rfl rfl)
theorem dX4_areNotesSo_35 : decode cX4_areNotesSo 35 = .ok (.getfield 39, 3) := dk_180 0 39 (dk_at dksX4_areNotesSo_1 13 rfl rfl)
theorem dX4_areNotesSo_38 : decode cX4_areNotesSo 38 = .ok (.bipush 111, 2) := dk_16 111 (dk_at dksX4_areNotesSo_1 16 rfl rfl)
theorem dX4_areNotesSo_40 : decode cX4_areNotesSo 40 = .ok (.iload_n 2, 1) := dk_28 (dk_at dksX4_areNotesSo_1 18 rfl rfl)
theorem dX4_areNotesSo_41 : decode cX4_areNotesSo 41 = .ok (.iadd, 1) := dk_96 (dk_at dksX4_areNotesSo_1 19 rfl rfl)
theorem dX4_areNotesSo_42 : decode cX4_areNotesSo 42 = .ok (.iconst 1, 1) := dk_4 (dk_at dksX4_areNotesSo_1 20 rfl rfl)
theorem dX4_areNotesSo_43 : decode cX4_areNotesSo 43 = .ok (.iadd, 1) := dk_96 (dk_at dksX4_areNotesSo_1 21 rfl rfl)
theorem dX4_areNotesSo_44 : decode cX4_areNotesSo 44 = .ok (.iaload, 1) := dk_46 (dk_at dksX4_areNotesSo_1 22 rfl rfl)
theorem dX4_areNotesSo_45 : decode cX4_areNotesSo 45 = .ok (.if_icmp .eq 5, 3) := dk_159 0 5 (dk_at dksX4_areNotesSo_2 0 rfl rfl)
theorem dX4_areNotesSo_48 : decode cX4_areNotesSo 48 = .ok (.iconst 0, 1) := dk_3 (dk_at dksX4_areNotesSo_2 3 rfl rfl)
theorem dX4_areNotesSo_49 : decode cX4_areNotesSo 49 = .ok (.ireturn, 1) := dk_172 (dk_at dksX4_areNotesSo_2 4 rfl rfl)
theorem dX4_areNotesSo_50 : decode cX4_areNotesSo 50 = .ok (.iinc 2 2, 3) := dk_132 2 2 (dk_at dksX4_areNotesSo_2 5 rfl rfl)
theorem dX4_areNotesSo_53 : decode cX4_areNotesSo 53 = .ok (.goto (-51), 3) := dk_167 255 205 (dk_at dksX4_areNotesSo_2 8 rfl rfl)
theorem dX4_areNotesSo_56 : decode cX4_areNotesSo 56 = .ok (.iconst 1, 1) := dk_4 (dk_at dksX4_areNotesSo_2 11 rfl rfl)
theorem dX4_areNotesSo_57 : decode cX4_areNotesSo 57 = .ok (.ireturn, 1) := dk_172 (dk_at dksX4_areNotesSo_2 12 rfl rfl)
abbrev cX4_look : ByteArray := prog_19_method_111_code
def yX4_look : MethodName := ⟨RX4, "look", "(I)I"⟩
def dkwX4_look_3 : List UInt8 := [167, 0, 8, 42, 28, 182, 1, 193, 172]
abbrev dktX4_look_3 : List UInt8 := dkwX4_look_3 ++ []
def dkwX4_look_2 : List UInt8 := [132, 3, 1, 167, 255, 232, 42, 28, 182, 1, 193, 154, 0, 8, 16, 254, 167, 0, 16, 27, 154, 0, 7, 28]
abbrev dktX4_look_2 : List UInt8 := dkwX4_look_2 ++ dktX4_look_3
def dkwX4_look_1 : List UInt8 := [61, 4, 62, 29, 16, 60, 163, 0, 24, 42, 29, 182, 1, 193, 42, 28, 182, 1, 193, 162, 0, 5, 29, 61]
abbrev dktX4_look_1 : List UInt8 := dkwX4_look_1 ++ dktX4_look_2
def dkwX4_look_0 : List UInt8 := [42, 182, 1, 60, 153, 0, 13, 27, 133, 9, 10, 184, 0, 121, 154, 0, 5, 2, 172, 42, 182, 1, 190, 3]
abbrev dktX4_look_0 : List UInt8 := dkwX4_look_0 ++ dktX4_look_1
theorem dksX4_look_0 : cX4_look.data.toList.drop 0 = dktX4_look_0 := by decide +kernel
theorem dksX4_look_1 : cX4_look.data.toList.drop 24 = dktX4_look_1 := dk_seg dksX4_look_0 24 rfl rfl
theorem dksX4_look_2 : cX4_look.data.toList.drop 48 = dktX4_look_2 := dk_seg dksX4_look_1 24 rfl rfl
theorem dksX4_look_3 : cX4_look.data.toList.drop 72 = dktX4_look_3 := dk_seg dksX4_look_2 24 rfl rfl
theorem dX4_look_0 : decode cX4_look 0 = .ok (.aload_n 0, 1) := dk_42 (dk_at dksX4_look_0 0 rfl rfl)
theorem dX4_look_1 : decode cX4_look 1 = .ok (.invokevirtual 316, 3) := dk_182 1 60 (dk_at dksX4_look_0 1 rfl rfl)
theorem dX4_look_4 : decode cX4_look 4 = .ok (.ifCond .eq 13, 3) := dk_153 0 13 (dk_at dksX4_look_0 4 rfl rfl)
theorem dX4_look_7 : decode cX4_look 7 = .ok (.iload_n 1, 1) := dk_27 (dk_at dksX4_look_0 7 rfl rfl)
theorem dX4_look_8 : decode cX4_look 8 = .ok (.i2l, 1) := dk_133 (dk_at dksX4_look_0 8 rfl rfl)
theorem dX4_look_9 : decode cX4_look 9 = .ok (.lconst 0, 1) := dk_9 (dk_at dksX4_look_0 9 rfl rfl)
theorem dX4_look_10 : decode cX4_look 10 = .ok (.lconst 1, 1) := dk_10 (dk_at dksX4_look_0 10 rfl rfl)
theorem dX4_look_11 : decode cX4_look 11 = .ok (.invokestatic 121, 3) := dk_184 0 121 (dk_at dksX4_look_0 11 rfl rfl)
theorem dX4_look_14 : decode cX4_look 14 = .ok (.ifCond .ne 5, 3) := dk_154 0 5 (dk_at dksX4_look_0 14 rfl rfl)
theorem dX4_look_17 : decode cX4_look 17 = .ok (.iconst (-1), 1) := dk_2 (dk_at dksX4_look_0 17 rfl rfl)
theorem dX4_look_18 : decode cX4_look 18 = .ok (.ireturn, 1) := dk_172 (dk_at dksX4_look_0 18 rfl rfl)
theorem dX4_look_19 : decode cX4_look 19 = .ok (.aload_n 0, 1) := dk_42 (dk_at dksX4_look_0 19 rfl rfl)
theorem dX4_look_20 : decode cX4_look 20 = .ok (.invokevirtual 446, 3) := dk_182 1 190 (dk_at dksX4_look_0 20 rfl rfl)
theorem dX4_look_23 : decode cX4_look 23 = .ok (.iconst 0, 1) := dk_3 (dk_at dksX4_look_0 23 rfl rfl)
theorem dX4_look_24 : decode cX4_look 24 = .ok (.istore_n 2, 1) := dk_61 (dk_at dksX4_look_1 0 rfl rfl)
theorem dX4_look_25 : decode cX4_look 25 = .ok (.iconst 1, 1) := dk_4 (dk_at dksX4_look_1 1 rfl rfl)
theorem dX4_look_26 : decode cX4_look 26 = .ok (.istore_n 3, 1) := dk_62 (dk_at dksX4_look_1 2 rfl rfl)
theorem dX4_look_27 : decode cX4_look 27 = .ok (.iload_n 3, 1) := dk_29 (dk_at dksX4_look_1 3 rfl rfl)
theorem dX4_look_28 : decode cX4_look 28 = .ok (.bipush 60, 2) := dk_16 60 (dk_at dksX4_look_1 4 rfl rfl)
theorem dX4_look_30 : decode cX4_look 30 = .ok (.if_icmp .gt 24, 3) := dk_163 0 24 (dk_at dksX4_look_1 6 rfl rfl)
theorem dX4_look_33 : decode cX4_look 33 = .ok (.aload_n 0, 1) := dk_42 (dk_at dksX4_look_1 9 rfl rfl)
theorem dX4_look_34 : decode cX4_look 34 = .ok (.iload_n 3, 1) := dk_29 (dk_at dksX4_look_1 10 rfl rfl)
theorem dX4_look_35 : decode cX4_look 35 = .ok (.invokevirtual 449, 3) := dk_182 1 193 (dk_at dksX4_look_1 11 rfl rfl)
theorem dX4_look_38 : decode cX4_look 38 = .ok (.aload_n 0, 1) := dk_42 (dk_at dksX4_look_1 14 rfl rfl)
theorem dX4_look_39 : decode cX4_look 39 = .ok (.iload_n 2, 1) := dk_28 (dk_at dksX4_look_1 15 rfl rfl)
theorem dX4_look_40 : decode cX4_look 40 = .ok (.invokevirtual 449, 3) := dk_182 1 193 (dk_at dksX4_look_1 16 rfl rfl)
theorem dX4_look_43 : decode cX4_look 43 = .ok (.if_icmp .ge 5, 3) := dk_162 0 5 (dk_at dksX4_look_1 19 rfl rfl)
theorem dX4_look_46 : decode cX4_look 46 = .ok (.iload_n 3, 1) := dk_29 (dk_at dksX4_look_1 22 rfl rfl)
theorem dX4_look_47 : decode cX4_look 47 = .ok (.istore_n 2, 1) := dk_61 (dk_at dksX4_look_1 23 rfl rfl)
theorem dX4_look_48 : decode cX4_look 48 = .ok (.iinc 3 1, 3) := dk_132 3 1 (dk_at dksX4_look_2 0 rfl rfl)
theorem dX4_look_51 : decode cX4_look 51 = .ok (.goto (-24), 3) := dk_167 255 232 (dk_at dksX4_look_2 3 rfl rfl)
theorem dX4_look_54 : decode cX4_look 54 = .ok (.aload_n 0, 1) := dk_42 (dk_at dksX4_look_2 6 rfl rfl)
theorem dX4_look_55 : decode cX4_look 55 = .ok (.iload_n 2, 1) := dk_28 (dk_at dksX4_look_2 7 rfl rfl)
theorem dX4_look_56 : decode cX4_look 56 = .ok (.invokevirtual 449, 3) := dk_182 1 193 (dk_at dksX4_look_2 8 rfl rfl)
theorem dX4_look_59 : decode cX4_look 59 = .ok (.ifCond .ne 8, 3) := dk_154 0 8 (dk_at dksX4_look_2 11 rfl rfl)
theorem dX4_look_62 : decode cX4_look 62 = .ok (.bipush (-2), 2) := dk_16 254 (dk_at dksX4_look_2 14 rfl rfl)
theorem dX4_look_64 : decode cX4_look 64 = .ok (.goto 16, 3) := dk_167 0 16 (dk_at dksX4_look_2 16 rfl rfl)
theorem dX4_look_67 : decode cX4_look 67 = .ok (.iload_n 1, 1) := dk_27 (dk_at dksX4_look_2 19 rfl rfl)
theorem dX4_look_68 : decode cX4_look 68 = .ok (.ifCond .ne 7, 3) := dk_154 0 7 (dk_at dksX4_look_2 20 rfl rfl)
theorem dX4_look_71 : decode cX4_look 71 = .ok (.iload_n 2, 1) := dk_28 (dk_at dksX4_look_2 23 rfl rfl)
theorem dX4_look_72 : decode cX4_look 72 = .ok (.goto 8, 3) := dk_167 0 8 (dk_at dksX4_look_3 0 rfl rfl)
theorem dX4_look_75 : decode cX4_look 75 = .ok (.aload_n 0, 1) := dk_42 (dk_at dksX4_look_3 3 rfl rfl)
theorem dX4_look_76 : decode cX4_look 76 = .ok (.iload_n 2, 1) := dk_28 (dk_at dksX4_look_3 4 rfl rfl)
theorem dX4_look_77 : decode cX4_look 77 = .ok (.invokevirtual 449, 3) := dk_182 1 193 (dk_at dksX4_look_3 5 rfl rfl)
theorem dX4_look_80 : decode cX4_look 80 = .ok (.ireturn, 1) := dk_172 (dk_at dksX4_look_3 8 rfl rfl)
abbrev cX4_alikeAt : ByteArray := prog_19_method_110_code
def yX4_alikeAt : MethodName := ⟨RX4, "alikeAt", "(I)I"⟩
def dkwX4_alikeAt_4 : List UInt8 := [167, 0, 4, 28, 61, 132, 3, 1, 167, 255, 158, 28, 172]
abbrev dktX4_alikeAt_4 : List UInt8 := dkwX4_alikeAt_4 ++ []
def dkwX4_alikeAt_3 : List UInt8 := [4, 167, 0, 4, 3, 96, 54, 4, 132, 5, 1, 167, 255, 191, 21, 4, 28, 164, 0, 8, 21, 4]
abbrev dktX4_alikeAt_3 : List UInt8 := dkwX4_alikeAt_3 ++ dktX4_alikeAt_4
def dkwX4_alikeAt_2 : List UInt8 := [42, 180, 0, 68, 29, 27, 184, 1, 184, 46, 42, 180, 0, 68, 21, 5, 27, 184, 1, 184, 46, 160, 0, 7]
abbrev dktX4_alikeAt_2 : List UInt8 := dkwX4_alikeAt_2 ++ dktX4_alikeAt_3
def dkwX4_alikeAt_1 : List UInt8 := [163, 0, 62, 42, 180, 0, 64, 29, 51, 153, 0, 53, 21, 4, 42, 180, 0, 64, 21, 5, 51, 153, 0, 31]
abbrev dktX4_alikeAt_1 : List UInt8 := dkwX4_alikeAt_1 ++ dktX4_alikeAt_2
def dkwX4_alikeAt_0 : List UInt8 := [3, 61, 3, 62, 29, 42, 180, 1, 8, 163, 0, 96, 3, 54, 4, 3, 54, 5, 21, 5, 42, 180, 1, 8]
abbrev dktX4_alikeAt_0 : List UInt8 := dkwX4_alikeAt_0 ++ dktX4_alikeAt_1
theorem dksX4_alikeAt_0 : cX4_alikeAt.data.toList.drop 0 = dktX4_alikeAt_0 := by decide +kernel
theorem dksX4_alikeAt_1 : cX4_alikeAt.data.toList.drop 24 = dktX4_alikeAt_1 := dk_seg dksX4_alikeAt_0 24 rfl rfl
theorem dksX4_alikeAt_2 : cX4_alikeAt.data.toList.drop 48 = dktX4_alikeAt_2 := dk_seg dksX4_alikeAt_1 24 rfl rfl
theorem dksX4_alikeAt_3 : cX4_alikeAt.data.toList.drop 72 = dktX4_alikeAt_3 := dk_seg dksX4_alikeAt_2 24 rfl rfl
theorem dksX4_alikeAt_4 : cX4_alikeAt.data.toList.drop 94 = dktX4_alikeAt_4 := dk_seg dksX4_alikeAt_3 22 rfl rfl
theorem dX4_alikeAt_0 : decode cX4_alikeAt 0 = .ok (.iconst 0, 1) := dk_3 (dk_at dksX4_alikeAt_0 0 rfl rfl)
theorem dX4_alikeAt_1 : decode cX4_alikeAt 1 = .ok (.istore_n 2, 1) := dk_61 (dk_at dksX4_alikeAt_0 1 rfl rfl)
theorem dX4_alikeAt_2 : decode cX4_alikeAt 2 = .ok (.iconst 0, 1) := dk_3 (dk_at dksX4_alikeAt_0 2 rfl rfl)
theorem dX4_alikeAt_3 : decode cX4_alikeAt 3 = .ok (.istore_n 3, 1) := dk_62 (dk_at dksX4_alikeAt_0 3 rfl rfl)
theorem dX4_alikeAt_4 : decode cX4_alikeAt 4 = .ok (.iload_n 3, 1) := dk_29 (dk_at dksX4_alikeAt_0 4 rfl rfl)
theorem dX4_alikeAt_5 : decode cX4_alikeAt 5 = .ok (.aload_n 0, 1) := dk_42 (dk_at dksX4_alikeAt_0 5 rfl rfl)
theorem dX4_alikeAt_6 : decode cX4_alikeAt 6 = .ok (.getfield 264, 3) := dk_180 1 8 (dk_at dksX4_alikeAt_0 6 rfl rfl)
theorem dX4_alikeAt_9 : decode cX4_alikeAt 9 = .ok (.if_icmp .gt 96, 3) := dk_163 0 96 (dk_at dksX4_alikeAt_0 9 rfl rfl)
theorem dX4_alikeAt_12 : decode cX4_alikeAt 12 = .ok (.iconst 0, 1) := dk_3 (dk_at dksX4_alikeAt_0 12 rfl rfl)
theorem dX4_alikeAt_13 : decode cX4_alikeAt 13 = .ok (.istore 4, 2) := dk_54 4 (dk_at dksX4_alikeAt_0 13 rfl rfl)
theorem dX4_alikeAt_15 : decode cX4_alikeAt 15 = .ok (.iconst 0, 1) := dk_3 (dk_at dksX4_alikeAt_0 15 rfl rfl)
theorem dX4_alikeAt_16 : decode cX4_alikeAt 16 = .ok (.istore 5, 2) := dk_54 5 (dk_at dksX4_alikeAt_0 16 rfl rfl)
theorem dX4_alikeAt_18 : decode cX4_alikeAt 18 = .ok (.iload 5, 2) := dk_21 5 (dk_at dksX4_alikeAt_0 18 rfl rfl)
theorem dX4_alikeAt_20 : decode cX4_alikeAt 20 = .ok (.aload_n 0, 1) := dk_42 (dk_at dksX4_alikeAt_0 20 rfl rfl)
theorem dX4_alikeAt_21 : decode cX4_alikeAt 21 = .ok (.getfield 264, 3) := dk_180 1 8 (dk_at dksX4_alikeAt_0 21 rfl rfl)
theorem dX4_alikeAt_24 : decode cX4_alikeAt 24 = .ok (.if_icmp .gt 62, 3) := dk_163 0 62 (dk_at dksX4_alikeAt_1 0 rfl rfl)
theorem dX4_alikeAt_27 : decode cX4_alikeAt 27 = .ok (.aload_n 0, 1) := dk_42 (dk_at dksX4_alikeAt_1 3 rfl rfl)
theorem dX4_alikeAt_28 : decode cX4_alikeAt 28 = .ok (.getfield 64, 3) := dk_180 0 64 (dk_at dksX4_alikeAt_1 4 rfl rfl)
theorem dX4_alikeAt_31 : decode cX4_alikeAt 31 = .ok (.iload_n 3, 1) := dk_29 (dk_at dksX4_alikeAt_1 7 rfl rfl)
theorem dX4_alikeAt_32 : decode cX4_alikeAt 32 = .ok (.baload, 1) := dk_51 (dk_at dksX4_alikeAt_1 8 rfl rfl)
theorem dX4_alikeAt_33 : decode cX4_alikeAt 33 = .ok (.ifCond .eq 53, 3) := dk_153 0 53 (dk_at dksX4_alikeAt_1 9 rfl rfl)
theorem dX4_alikeAt_36 : decode cX4_alikeAt 36 = .ok (.iload 4, 2) := dk_21 4 (dk_at dksX4_alikeAt_1 12 rfl rfl)
theorem dX4_alikeAt_38 : decode cX4_alikeAt 38 = .ok (.aload_n 0, 1) := dk_42 (dk_at dksX4_alikeAt_1 14 rfl rfl)
theorem dX4_alikeAt_39 : decode cX4_alikeAt 39 = .ok (.getfield 64, 3) := dk_180 0 64 (dk_at dksX4_alikeAt_1 15 rfl rfl)
theorem dX4_alikeAt_42 : decode cX4_alikeAt 42 = .ok (.iload 5, 2) := dk_21 5 (dk_at dksX4_alikeAt_1 18 rfl rfl)
theorem dX4_alikeAt_44 : decode cX4_alikeAt 44 = .ok (.baload, 1) := dk_51 (dk_at dksX4_alikeAt_1 20 rfl rfl)
theorem dX4_alikeAt_45 : decode cX4_alikeAt 45 = .ok (.ifCond .eq 31, 3) := dk_153 0 31 (dk_at dksX4_alikeAt_1 21 rfl rfl)
theorem dX4_alikeAt_48 : decode cX4_alikeAt 48 = .ok (.aload_n 0, 1) := dk_42 (dk_at dksX4_alikeAt_2 0 rfl rfl)
theorem dX4_alikeAt_49 : decode cX4_alikeAt 49 = .ok (.getfield 68, 3) := dk_180 0 68 (dk_at dksX4_alikeAt_2 1 rfl rfl)
theorem dX4_alikeAt_52 : decode cX4_alikeAt 52 = .ok (.iload_n 3, 1) := dk_29 (dk_at dksX4_alikeAt_2 4 rfl rfl)
theorem dX4_alikeAt_53 : decode cX4_alikeAt 53 = .ok (.iload_n 1, 1) := dk_27 (dk_at dksX4_alikeAt_2 5 rfl rfl)
theorem dX4_alikeAt_54 : decode cX4_alikeAt 54 = .ok (.invokestatic 440, 3) := dk_184 1 184 (dk_at dksX4_alikeAt_2 6 rfl rfl)
theorem dX4_alikeAt_57 : decode cX4_alikeAt 57 = .ok (.iaload, 1) := dk_46 (dk_at dksX4_alikeAt_2 9 rfl rfl)
theorem dX4_alikeAt_58 : decode cX4_alikeAt 58 = .ok (.aload_n 0, 1) := dk_42 (dk_at dksX4_alikeAt_2 10 rfl rfl)
theorem dX4_alikeAt_59 : decode cX4_alikeAt 59 = .ok (.getfield 68, 3) := dk_180 0 68 (dk_at dksX4_alikeAt_2 11 rfl rfl)
theorem dX4_alikeAt_62 : decode cX4_alikeAt 62 = .ok (.iload 5, 2) := dk_21 5 (dk_at dksX4_alikeAt_2 14 rfl rfl)
theorem dX4_alikeAt_64 : decode cX4_alikeAt 64 = .ok (.iload_n 1, 1) := dk_27 (dk_at dksX4_alikeAt_2 16 rfl rfl)
theorem dX4_alikeAt_65 : decode cX4_alikeAt 65 = .ok (.invokestatic 440, 3) := dk_184 1 184 (dk_at dksX4_alikeAt_2 17 rfl rfl)
theorem dX4_alikeAt_68 : decode cX4_alikeAt 68 = .ok (.iaload, 1) := dk_46 (dk_at dksX4_alikeAt_2 20 rfl rfl)
theorem dX4_alikeAt_69 : decode cX4_alikeAt 69 = .ok (.if_icmp .ne 7, 3) := dk_160 0 7 (dk_at dksX4_alikeAt_2 21 rfl rfl)
theorem dX4_alikeAt_72 : decode cX4_alikeAt 72 = .ok (.iconst 1, 1) := dk_4 (dk_at dksX4_alikeAt_3 0 rfl rfl)
theorem dX4_alikeAt_73 : decode cX4_alikeAt 73 = .ok (.goto 4, 3) := dk_167 0 4 (dk_at dksX4_alikeAt_3 1 rfl rfl)
theorem dX4_alikeAt_76 : decode cX4_alikeAt 76 = .ok (.iconst 0, 1) := dk_3 (dk_at dksX4_alikeAt_3 4 rfl rfl)
theorem dX4_alikeAt_77 : decode cX4_alikeAt 77 = .ok (.iadd, 1) := dk_96 (dk_at dksX4_alikeAt_3 5 rfl rfl)
theorem dX4_alikeAt_78 : decode cX4_alikeAt 78 = .ok (.istore 4, 2) := dk_54 4 (dk_at dksX4_alikeAt_3 6 rfl rfl)
theorem dX4_alikeAt_80 : decode cX4_alikeAt 80 = .ok (.iinc 5 1, 3) := dk_132 5 1 (dk_at dksX4_alikeAt_3 8 rfl rfl)
theorem dX4_alikeAt_83 : decode cX4_alikeAt 83 = .ok (.goto (-65), 3) := dk_167 255 191 (dk_at dksX4_alikeAt_3 11 rfl rfl)
theorem dX4_alikeAt_86 : decode cX4_alikeAt 86 = .ok (.iload 4, 2) := dk_21 4 (dk_at dksX4_alikeAt_3 14 rfl rfl)
theorem dX4_alikeAt_88 : decode cX4_alikeAt 88 = .ok (.iload_n 2, 1) := dk_28 (dk_at dksX4_alikeAt_3 16 rfl rfl)
theorem dX4_alikeAt_89 : decode cX4_alikeAt 89 = .ok (.if_icmp .le 8, 3) := dk_164 0 8 (dk_at dksX4_alikeAt_3 17 rfl rfl)
theorem dX4_alikeAt_92 : decode cX4_alikeAt 92 = .ok (.iload 4, 2) := dk_21 4 (dk_at dksX4_alikeAt_3 20 rfl rfl)
theorem dX4_alikeAt_94 : decode cX4_alikeAt 94 = .ok (.goto 4, 3) := dk_167 0 4 (dk_at dksX4_alikeAt_4 0 rfl rfl)
theorem dX4_alikeAt_97 : decode cX4_alikeAt 97 = .ok (.iload_n 2, 1) := dk_28 (dk_at dksX4_alikeAt_4 3 rfl rfl)
theorem dX4_alikeAt_98 : decode cX4_alikeAt 98 = .ok (.istore_n 2, 1) := dk_61 (dk_at dksX4_alikeAt_4 4 rfl rfl)
theorem dX4_alikeAt_99 : decode cX4_alikeAt 99 = .ok (.iinc 3 1, 3) := dk_132 3 1 (dk_at dksX4_alikeAt_4 5 rfl rfl)
theorem dX4_alikeAt_102 : decode cX4_alikeAt 102 = .ok (.goto (-98), 3) := dk_167 255 158 (dk_at dksX4_alikeAt_4 8 rfl rfl)
theorem dX4_alikeAt_105 : decode cX4_alikeAt 105 = .ok (.iload_n 2, 1) := dk_28 (dk_at dksX4_alikeAt_4 11 rfl rfl)
theorem dX4_alikeAt_106 : decode cX4_alikeAt 106 = .ok (.ireturn, 1) := dk_172 (dk_at dksX4_alikeAt_4 12 rfl rfl)
abbrev cX4_seed : ByteArray := prog_19_method_112_code
def yX4_seed : MethodName := ⟨RX4, "seed", "(I)I"⟩
def dkwX4_seed_0 : List UInt8 := [27, 156, 0, 5, 2, 172, 42, 180, 1, 196, 61, 42, 27, 181, 1, 196, 28, 172]
abbrev dktX4_seed_0 : List UInt8 := dkwX4_seed_0 ++ []
theorem dksX4_seed_0 : cX4_seed.data.toList.drop 0 = dktX4_seed_0 := by decide +kernel
theorem dX4_seed_0 : decode cX4_seed 0 = .ok (.iload_n 1, 1) := dk_27 (dk_at dksX4_seed_0 0 rfl rfl)
theorem dX4_seed_1 : decode cX4_seed 1 = .ok (.ifCond .ge 5, 3) := dk_156 0 5 (dk_at dksX4_seed_0 1 rfl rfl)
theorem dX4_seed_4 : decode cX4_seed 4 = .ok (.iconst (-1), 1) := dk_2 (dk_at dksX4_seed_0 4 rfl rfl)
theorem dX4_seed_5 : decode cX4_seed 5 = .ok (.ireturn, 1) := dk_172 (dk_at dksX4_seed_0 5 rfl rfl)
theorem dX4_seed_6 : decode cX4_seed 6 = .ok (.aload_n 0, 1) := dk_42 (dk_at dksX4_seed_0 6 rfl rfl)
theorem dX4_seed_7 : decode cX4_seed 7 = .ok (.getfield 452, 3) := dk_180 1 196 (dk_at dksX4_seed_0 7 rfl rfl)
theorem dX4_seed_10 : decode cX4_seed 10 = .ok (.istore_n 2, 1) := dk_61 (dk_at dksX4_seed_0 10 rfl rfl)
theorem dX4_seed_11 : decode cX4_seed 11 = .ok (.aload_n 0, 1) := dk_42 (dk_at dksX4_seed_0 11 rfl rfl)
theorem dX4_seed_12 : decode cX4_seed 12 = .ok (.iload_n 1, 1) := dk_27 (dk_at dksX4_seed_0 12 rfl rfl)
theorem dX4_seed_13 : decode cX4_seed 13 = .ok (.putfield 452, 3) := dk_181 1 196 (dk_at dksX4_seed_0 13 rfl rfl)
theorem dX4_seed_16 : decode cX4_seed 16 = .ok (.iload_n 2, 1) := dk_28 (dk_at dksX4_seed_0 16 rfl rfl)
theorem dX4_seed_17 : decode cX4_seed 17 = .ok (.ireturn, 1) := dk_172 (dk_at dksX4_seed_0 17 rfl rfl)
abbrev cX4_sparks : ByteArray := prog_19_method_115_code
def yX4_sparks : MethodName := ⟨RX4, "sparks", "(IIII)I"⟩
def dkwX4_sparks_7 : List UInt8 := [132, 7, 1, 167, 255, 169, 21, 4, 154, 0, 8, 21, 5, 167, 0, 5, 21, 6, 172]
abbrev dktX4_sparks_7 : List UInt8 := dkwX4_sparks_7 ++ []
def dkwX4_sparks_6 : List UInt8 := [42, 182, 1, 110, 96, 54, 5, 21, 6, 42, 182, 1, 73, 184, 1, 76, 96, 54, 6, 42, 182, 1, 146]
abbrev dktX4_sparks_6 : List UInt8 := dkwX4_sparks_6 ++ dktX4_sparks_7
def dkwX4_sparks_5 : List UInt8 := [180, 0, 39, 6, 46, 182, 1, 213, 182, 1, 216, 42, 182, 1, 125, 87, 132, 8, 1, 167, 255, 209, 21, 5]
abbrev dktX4_sparks_5 : List UInt8 := dkwX4_sparks_5 ++ dktX4_sparks_6
def dkwX4_sparks_4 : List UInt8 := [42, 16, 100, 182, 1, 213, 29, 162, 0, 26, 42, 180, 0, 39, 6, 46, 158, 0, 17, 42, 42, 42]
abbrev dktX4_sparks_4 : List UInt8 := dkwX4_sparks_4 ++ dktX4_sparks_5
def dkwX4_sparks_3 : List UInt8 := [54, 6, 42, 182, 1, 140, 3, 54, 7, 21, 7, 27, 162, 0, 87, 3, 54, 8, 21, 8, 28, 162, 0, 47]
abbrev dktX4_sparks_3 : List UInt8 := dkwX4_sparks_3 ++ dktX4_sparks_4
def dkwX4_sparks_2 : List UInt8 := [9, 10, 184, 0, 121, 154, 0, 5, 2, 172, 42, 42, 180, 1, 196, 133, 181, 1, 199, 3, 54, 5, 3]
abbrev dktX4_sparks_2 : List UInt8 := dkwX4_sparks_2 ++ dktX4_sparks_3
def dkwX4_sparks_1 : List UInt8 := [20, 1, 164, 184, 0, 121, 153, 0, 26, 29, 133, 9, 20, 1, 136, 184, 0, 121, 153, 0, 14, 21, 4, 133]
abbrev dktX4_sparks_1 : List UInt8 := dkwX4_sparks_1 ++ dktX4_sparks_2
def dkwX4_sparks_0 : List UInt8 := [42, 182, 1, 60, 153, 0, 50, 27, 133, 10, 20, 1, 211, 184, 0, 121, 153, 0, 38, 28, 133, 10]
abbrev dktX4_sparks_0 : List UInt8 := dkwX4_sparks_0 ++ dktX4_sparks_1
theorem dksX4_sparks_0 : cX4_sparks.data.toList.drop 0 = dktX4_sparks_0 := by decide +kernel
theorem dksX4_sparks_1 : cX4_sparks.data.toList.drop 22 = dktX4_sparks_1 := dk_seg dksX4_sparks_0 22 rfl rfl
theorem dksX4_sparks_2 : cX4_sparks.data.toList.drop 46 = dktX4_sparks_2 := dk_seg dksX4_sparks_1 24 rfl rfl
theorem dksX4_sparks_3 : cX4_sparks.data.toList.drop 69 = dktX4_sparks_3 := dk_seg dksX4_sparks_2 23 rfl rfl
theorem dksX4_sparks_4 : cX4_sparks.data.toList.drop 93 = dktX4_sparks_4 := dk_seg dksX4_sparks_3 24 rfl rfl
theorem dksX4_sparks_5 : cX4_sparks.data.toList.drop 115 = dktX4_sparks_5 := dk_seg dksX4_sparks_4 22 rfl rfl
theorem dksX4_sparks_6 : cX4_sparks.data.toList.drop 139 = dktX4_sparks_6 := dk_seg dksX4_sparks_5 24 rfl rfl
theorem dksX4_sparks_7 : cX4_sparks.data.toList.drop 162 = dktX4_sparks_7 := dk_seg dksX4_sparks_6 23 rfl rfl
theorem dX4_sparks_0 : decode cX4_sparks 0 = .ok (.aload_n 0, 1) := dk_42 (dk_at dksX4_sparks_0 0 rfl rfl)
theorem dX4_sparks_1 : decode cX4_sparks 1 = .ok (.invokevirtual 316, 3) := dk_182 1 60 (dk_at dksX4_sparks_0 1 rfl rfl)
theorem dX4_sparks_4 : decode cX4_sparks 4 = .ok (.ifCond .eq 50, 3) := dk_153 0 50 (dk_at dksX4_sparks_0 4 rfl rfl)
theorem dX4_sparks_7 : decode cX4_sparks 7 = .ok (.iload_n 1, 1) := dk_27 (dk_at dksX4_sparks_0 7 rfl rfl)
theorem dX4_sparks_8 : decode cX4_sparks 8 = .ok (.i2l, 1) := dk_133 (dk_at dksX4_sparks_0 8 rfl rfl)
theorem dX4_sparks_9 : decode cX4_sparks 9 = .ok (.lconst 1, 1) := dk_10 (dk_at dksX4_sparks_0 9 rfl rfl)
theorem dX4_sparks_10 : decode cX4_sparks 10 = .ok (.ldc2_w 467, 3) := dk_20 1 211 (dk_at dksX4_sparks_0 10 rfl rfl)
theorem dX4_sparks_13 : decode cX4_sparks 13 = .ok (.invokestatic 121, 3) := dk_184 0 121 (dk_at dksX4_sparks_0 13 rfl rfl)
theorem dX4_sparks_16 : decode cX4_sparks 16 = .ok (.ifCond .eq 38, 3) := dk_153 0 38 (dk_at dksX4_sparks_0 16 rfl rfl)
theorem dX4_sparks_19 : decode cX4_sparks 19 = .ok (.iload_n 2, 1) := dk_28 (dk_at dksX4_sparks_0 19 rfl rfl)
theorem dX4_sparks_20 : decode cX4_sparks 20 = .ok (.i2l, 1) := dk_133 (dk_at dksX4_sparks_0 20 rfl rfl)
theorem dX4_sparks_21 : decode cX4_sparks 21 = .ok (.lconst 1, 1) := dk_10 (dk_at dksX4_sparks_0 21 rfl rfl)
theorem dX4_sparks_22 : decode cX4_sparks 22 = .ok (.ldc2_w 420, 3) := dk_20 1 164 (dk_at dksX4_sparks_1 0 rfl rfl)
theorem dX4_sparks_25 : decode cX4_sparks 25 = .ok (.invokestatic 121, 3) := dk_184 0 121 (dk_at dksX4_sparks_1 3 rfl rfl)
theorem dX4_sparks_28 : decode cX4_sparks 28 = .ok (.ifCond .eq 26, 3) := dk_153 0 26 (dk_at dksX4_sparks_1 6 rfl rfl)
theorem dX4_sparks_31 : decode cX4_sparks 31 = .ok (.iload_n 3, 1) := dk_29 (dk_at dksX4_sparks_1 9 rfl rfl)
theorem dX4_sparks_32 : decode cX4_sparks 32 = .ok (.i2l, 1) := dk_133 (dk_at dksX4_sparks_1 10 rfl rfl)
theorem dX4_sparks_33 : decode cX4_sparks 33 = .ok (.lconst 0, 1) := dk_9 (dk_at dksX4_sparks_1 11 rfl rfl)
theorem dX4_sparks_34 : decode cX4_sparks 34 = .ok (.ldc2_w 392, 3) := dk_20 1 136 (dk_at dksX4_sparks_1 12 rfl rfl)
theorem dX4_sparks_37 : decode cX4_sparks 37 = .ok (.invokestatic 121, 3) := dk_184 0 121 (dk_at dksX4_sparks_1 15 rfl rfl)
theorem dX4_sparks_40 : decode cX4_sparks 40 = .ok (.ifCond .eq 14, 3) := dk_153 0 14 (dk_at dksX4_sparks_1 18 rfl rfl)
theorem dX4_sparks_43 : decode cX4_sparks 43 = .ok (.iload 4, 2) := dk_21 4 (dk_at dksX4_sparks_1 21 rfl rfl)
theorem dX4_sparks_45 : decode cX4_sparks 45 = .ok (.i2l, 1) := dk_133 (dk_at dksX4_sparks_1 23 rfl rfl)
theorem dX4_sparks_46 : decode cX4_sparks 46 = .ok (.lconst 0, 1) := dk_9 (dk_at dksX4_sparks_2 0 rfl rfl)
theorem dX4_sparks_47 : decode cX4_sparks 47 = .ok (.lconst 1, 1) := dk_10 (dk_at dksX4_sparks_2 1 rfl rfl)
theorem dX4_sparks_48 : decode cX4_sparks 48 = .ok (.invokestatic 121, 3) := dk_184 0 121 (dk_at dksX4_sparks_2 2 rfl rfl)
theorem dX4_sparks_51 : decode cX4_sparks 51 = .ok (.ifCond .ne 5, 3) := dk_154 0 5 (dk_at dksX4_sparks_2 5 rfl rfl)
theorem dX4_sparks_54 : decode cX4_sparks 54 = .ok (.iconst (-1), 1) := dk_2 (dk_at dksX4_sparks_2 8 rfl rfl)
theorem dX4_sparks_55 : decode cX4_sparks 55 = .ok (.ireturn, 1) := dk_172 (dk_at dksX4_sparks_2 9 rfl rfl)
theorem dX4_sparks_56 : decode cX4_sparks 56 = .ok (.aload_n 0, 1) := dk_42 (dk_at dksX4_sparks_2 10 rfl rfl)
theorem dX4_sparks_57 : decode cX4_sparks 57 = .ok (.aload_n 0, 1) := dk_42 (dk_at dksX4_sparks_2 11 rfl rfl)
theorem dX4_sparks_58 : decode cX4_sparks 58 = .ok (.getfield 452, 3) := dk_180 1 196 (dk_at dksX4_sparks_2 12 rfl rfl)
theorem dX4_sparks_61 : decode cX4_sparks 61 = .ok (.i2l, 1) := dk_133 (dk_at dksX4_sparks_2 15 rfl rfl)
theorem dX4_sparks_62 : decode cX4_sparks 62 = .ok (.putfield 455, 3) := dk_181 1 199 (dk_at dksX4_sparks_2 16 rfl rfl)
theorem dX4_sparks_65 : decode cX4_sparks 65 = .ok (.iconst 0, 1) := dk_3 (dk_at dksX4_sparks_2 19 rfl rfl)
theorem dX4_sparks_66 : decode cX4_sparks 66 = .ok (.istore 5, 2) := dk_54 5 (dk_at dksX4_sparks_2 20 rfl rfl)
theorem dX4_sparks_68 : decode cX4_sparks 68 = .ok (.iconst 0, 1) := dk_3 (dk_at dksX4_sparks_2 22 rfl rfl)
theorem dX4_sparks_69 : decode cX4_sparks 69 = .ok (.istore 6, 2) := dk_54 6 (dk_at dksX4_sparks_3 0 rfl rfl)
theorem dX4_sparks_71 : decode cX4_sparks 71 = .ok (.aload_n 0, 1) := dk_42 (dk_at dksX4_sparks_3 2 rfl rfl)
theorem dX4_sparks_72 : decode cX4_sparks 72 = .ok (.invokevirtual 396, 3) := dk_182 1 140 (dk_at dksX4_sparks_3 3 rfl rfl)
theorem dX4_sparks_75 : decode cX4_sparks 75 = .ok (.iconst 0, 1) := dk_3 (dk_at dksX4_sparks_3 6 rfl rfl)
theorem dX4_sparks_76 : decode cX4_sparks 76 = .ok (.istore 7, 2) := dk_54 7 (dk_at dksX4_sparks_3 7 rfl rfl)
theorem dX4_sparks_78 : decode cX4_sparks 78 = .ok (.iload 7, 2) := dk_21 7 (dk_at dksX4_sparks_3 9 rfl rfl)
theorem dX4_sparks_80 : decode cX4_sparks 80 = .ok (.iload_n 1, 1) := dk_27 (dk_at dksX4_sparks_3 11 rfl rfl)
theorem dX4_sparks_81 : decode cX4_sparks 81 = .ok (.if_icmp .ge 87, 3) := dk_162 0 87 (dk_at dksX4_sparks_3 12 rfl rfl)
theorem dX4_sparks_84 : decode cX4_sparks 84 = .ok (.iconst 0, 1) := dk_3 (dk_at dksX4_sparks_3 15 rfl rfl)
theorem dX4_sparks_85 : decode cX4_sparks 85 = .ok (.istore 8, 2) := dk_54 8 (dk_at dksX4_sparks_3 16 rfl rfl)
theorem dX4_sparks_87 : decode cX4_sparks 87 = .ok (.iload 8, 2) := dk_21 8 (dk_at dksX4_sparks_3 18 rfl rfl)
theorem dX4_sparks_89 : decode cX4_sparks 89 = .ok (.iload_n 2, 1) := dk_28 (dk_at dksX4_sparks_3 20 rfl rfl)
theorem dX4_sparks_90 : decode cX4_sparks 90 = .ok (.if_icmp .ge 47, 3) := dk_162 0 47 (dk_at dksX4_sparks_3 21 rfl rfl)
theorem dX4_sparks_93 : decode cX4_sparks 93 = .ok (.aload_n 0, 1) := dk_42 (dk_at dksX4_sparks_4 0 rfl rfl)
theorem dX4_sparks_94 : decode cX4_sparks 94 = .ok (.bipush 100, 2) := dk_16 100 (dk_at dksX4_sparks_4 1 rfl rfl)
theorem dX4_sparks_96 : decode cX4_sparks 96 = .ok (.invokevirtual 469, 3) := dk_182 1 213 (dk_at dksX4_sparks_4 3 rfl rfl)
theorem dX4_sparks_99 : decode cX4_sparks 99 = .ok (.iload_n 3, 1) := dk_29 (dk_at dksX4_sparks_4 6 rfl rfl)
theorem dX4_sparks_100 : decode cX4_sparks 100 = .ok (.if_icmp .ge 26, 3) := dk_162 0 26 (dk_at dksX4_sparks_4 7 rfl rfl)
theorem dX4_sparks_103 : decode cX4_sparks 103 = .ok (.aload_n 0, 1) := dk_42 (dk_at dksX4_sparks_4 10 rfl rfl)
theorem dX4_sparks_104 : decode cX4_sparks 104 = .ok (.getfield 39, 3) := dk_180 0 39 (dk_at dksX4_sparks_4 11 rfl rfl)
theorem dX4_sparks_107 : decode cX4_sparks 107 = .ok (.iconst 3, 1) := dk_6 (dk_at dksX4_sparks_4 14 rfl rfl)
theorem dX4_sparks_108 : decode cX4_sparks 108 = .ok (.iaload, 1) := dk_46 (dk_at dksX4_sparks_4 15 rfl rfl)
theorem dX4_sparks_109 : decode cX4_sparks 109 = .ok (.ifCond .le 17, 3) := dk_158 0 17 (dk_at dksX4_sparks_4 16 rfl rfl)
theorem dX4_sparks_112 : decode cX4_sparks 112 = .ok (.aload_n 0, 1) := dk_42 (dk_at dksX4_sparks_4 19 rfl rfl)
theorem dX4_sparks_113 : decode cX4_sparks 113 = .ok (.aload_n 0, 1) := dk_42 (dk_at dksX4_sparks_4 20 rfl rfl)
theorem dX4_sparks_114 : decode cX4_sparks 114 = .ok (.aload_n 0, 1) := dk_42 (dk_at dksX4_sparks_4 21 rfl rfl)
theorem dX4_sparks_115 : decode cX4_sparks 115 = .ok (.getfield 39, 3) := dk_180 0 39 (dk_at dksX4_sparks_5 0 rfl rfl)
theorem dX4_sparks_118 : decode cX4_sparks 118 = .ok (.iconst 3, 1) := dk_6 (dk_at dksX4_sparks_5 3 rfl rfl)
theorem dX4_sparks_119 : decode cX4_sparks 119 = .ok (.iaload, 1) := dk_46 (dk_at dksX4_sparks_5 4 rfl rfl)
theorem dX4_sparks_120 : decode cX4_sparks 120 = .ok (.invokevirtual 469, 3) := dk_182 1 213 (dk_at dksX4_sparks_5 5 rfl rfl)
theorem dX4_sparks_123 : decode cX4_sparks 123 = .ok (.invokevirtual 472, 3) := dk_182 1 216 (dk_at dksX4_sparks_5 8 rfl rfl)
theorem dX4_sparks_126 : decode cX4_sparks 126 = .ok (.aload_n 0, 1) := dk_42 (dk_at dksX4_sparks_5 11 rfl rfl)
theorem dX4_sparks_127 : decode cX4_sparks 127 = .ok (.invokevirtual 381, 3) := dk_182 1 125 (dk_at dksX4_sparks_5 12 rfl rfl)
theorem dX4_sparks_130 : decode cX4_sparks 130 = .ok (.pop, 1) := dk_87 (dk_at dksX4_sparks_5 15 rfl rfl)
theorem dX4_sparks_131 : decode cX4_sparks 131 = .ok (.iinc 8 1, 3) := dk_132 8 1 (dk_at dksX4_sparks_5 16 rfl rfl)
theorem dX4_sparks_134 : decode cX4_sparks 134 = .ok (.goto (-47), 3) := dk_167 255 209 (dk_at dksX4_sparks_5 19 rfl rfl)
theorem dX4_sparks_137 : decode cX4_sparks 137 = .ok (.iload 5, 2) := dk_21 5 (dk_at dksX4_sparks_5 22 rfl rfl)
theorem dX4_sparks_139 : decode cX4_sparks 139 = .ok (.aload_n 0, 1) := dk_42 (dk_at dksX4_sparks_6 0 rfl rfl)
theorem dX4_sparks_140 : decode cX4_sparks 140 = .ok (.invokevirtual 366, 3) := dk_182 1 110 (dk_at dksX4_sparks_6 1 rfl rfl)
theorem dX4_sparks_143 : decode cX4_sparks 143 = .ok (.iadd, 1) := dk_96 (dk_at dksX4_sparks_6 4 rfl rfl)
theorem dX4_sparks_144 : decode cX4_sparks 144 = .ok (.istore 5, 2) := dk_54 5 (dk_at dksX4_sparks_6 5 rfl rfl)
theorem dX4_sparks_146 : decode cX4_sparks 146 = .ok (.iload 6, 2) := dk_21 6 (dk_at dksX4_sparks_6 7 rfl rfl)
theorem dX4_sparks_148 : decode cX4_sparks 148 = .ok (.aload_n 0, 1) := dk_42 (dk_at dksX4_sparks_6 9 rfl rfl)
theorem dX4_sparks_149 : decode cX4_sparks 149 = .ok (.invokevirtual 329, 3) := dk_182 1 73 (dk_at dksX4_sparks_6 10 rfl rfl)
theorem dX4_sparks_152 : decode cX4_sparks 152 = .ok (.invokestatic 332, 3) := dk_184 1 76 (dk_at dksX4_sparks_6 13 rfl rfl)
theorem dX4_sparks_155 : decode cX4_sparks 155 = .ok (.iadd, 1) := dk_96 (dk_at dksX4_sparks_6 16 rfl rfl)
theorem dX4_sparks_156 : decode cX4_sparks 156 = .ok (.istore 6, 2) := dk_54 6 (dk_at dksX4_sparks_6 17 rfl rfl)
theorem dX4_sparks_158 : decode cX4_sparks 158 = .ok (.aload_n 0, 1) := dk_42 (dk_at dksX4_sparks_6 19 rfl rfl)
theorem dX4_sparks_159 : decode cX4_sparks 159 = .ok (.invokevirtual 402, 3) := dk_182 1 146 (dk_at dksX4_sparks_6 20 rfl rfl)
theorem dX4_sparks_162 : decode cX4_sparks 162 = .ok (.iinc 7 1, 3) := dk_132 7 1 (dk_at dksX4_sparks_7 0 rfl rfl)
theorem dX4_sparks_165 : decode cX4_sparks 165 = .ok (.goto (-87), 3) := dk_167 255 169 (dk_at dksX4_sparks_7 3 rfl rfl)
theorem dX4_sparks_168 : decode cX4_sparks 168 = .ok (.iload 4, 2) := dk_21 4 (dk_at dksX4_sparks_7 6 rfl rfl)
theorem dX4_sparks_170 : decode cX4_sparks 170 = .ok (.ifCond .ne 8, 3) := dk_154 0 8 (dk_at dksX4_sparks_7 8 rfl rfl)
theorem dX4_sparks_173 : decode cX4_sparks 173 = .ok (.iload 5, 2) := dk_21 5 (dk_at dksX4_sparks_7 11 rfl rfl)
theorem dX4_sparks_175 : decode cX4_sparks 175 = .ok (.goto 5, 3) := dk_167 0 5 (dk_at dksX4_sparks_7 13 rfl rfl)
theorem dX4_sparks_178 : decode cX4_sparks 178 = .ok (.iload 6, 2) := dk_21 6 (dk_at dksX4_sparks_7 16 rfl rfl)
theorem dX4_sparks_180 : decode cX4_sparks 180 = .ok (.ireturn, 1) := dk_172 (dk_at dksX4_sparks_7 18 rfl rfl)
abbrev cX4_draw : ByteArray := prog_19_method_113_code
def yX4_draw : MethodName := ⟨RX4, "draw", "(I)I"⟩
def dkwX4_draw_1 : List UInt8 := [20, 1, 209, 109, 27, 133, 113, 136, 172]
abbrev dktX4_draw_1 : List UInt8 := dkwX4_draw_1 ++ []
def dkwX4_draw_0 : List UInt8 := [42, 42, 180, 1, 199, 20, 1, 203, 105, 20, 1, 205, 97, 20, 1, 207, 113, 181, 1, 199, 42, 180, 1, 199]
abbrev dktX4_draw_0 : List UInt8 := dkwX4_draw_0 ++ dktX4_draw_1
theorem dksX4_draw_0 : cX4_draw.data.toList.drop 0 = dktX4_draw_0 := by decide +kernel
theorem dksX4_draw_1 : cX4_draw.data.toList.drop 24 = dktX4_draw_1 := dk_seg dksX4_draw_0 24 rfl rfl
theorem dX4_draw_0 : decode cX4_draw 0 = .ok (.aload_n 0, 1) := dk_42 (dk_at dksX4_draw_0 0 rfl rfl)
theorem dX4_draw_1 : decode cX4_draw 1 = .ok (.aload_n 0, 1) := dk_42 (dk_at dksX4_draw_0 1 rfl rfl)
theorem dX4_draw_2 : decode cX4_draw 2 = .ok (.getfield 455, 3) := dk_180 1 199 (dk_at dksX4_draw_0 2 rfl rfl)
theorem dX4_draw_5 : decode cX4_draw 5 = .ok (.ldc2_w 459, 3) := dk_20 1 203 (dk_at dksX4_draw_0 5 rfl rfl)
theorem dX4_draw_8 : decode cX4_draw 8 = .ok (.lmul, 1) := dk_105 (dk_at dksX4_draw_0 8 rfl rfl)
theorem dX4_draw_9 : decode cX4_draw 9 = .ok (.ldc2_w 461, 3) := dk_20 1 205 (dk_at dksX4_draw_0 9 rfl rfl)
theorem dX4_draw_12 : decode cX4_draw 12 = .ok (.ladd, 1) := dk_97 (dk_at dksX4_draw_0 12 rfl rfl)
theorem dX4_draw_13 : decode cX4_draw 13 = .ok (.ldc2_w 463, 3) := dk_20 1 207 (dk_at dksX4_draw_0 13 rfl rfl)
theorem dX4_draw_16 : decode cX4_draw 16 = .ok (.lrem, 1) := dk_113 (dk_at dksX4_draw_0 16 rfl rfl)
theorem dX4_draw_17 : decode cX4_draw 17 = .ok (.putfield 455, 3) := dk_181 1 199 (dk_at dksX4_draw_0 17 rfl rfl)
theorem dX4_draw_20 : decode cX4_draw 20 = .ok (.aload_n 0, 1) := dk_42 (dk_at dksX4_draw_0 20 rfl rfl)
theorem dX4_draw_21 : decode cX4_draw 21 = .ok (.getfield 455, 3) := dk_180 1 199 (dk_at dksX4_draw_0 21 rfl rfl)
theorem dX4_draw_24 : decode cX4_draw 24 = .ok (.ldc2_w 465, 3) := dk_20 1 209 (dk_at dksX4_draw_1 0 rfl rfl)
theorem dX4_draw_27 : decode cX4_draw 27 = .ok (.ldiv, 1) := dk_109 (dk_at dksX4_draw_1 3 rfl rfl)
theorem dX4_draw_28 : decode cX4_draw 28 = .ok (.iload_n 1, 1) := dk_27 (dk_at dksX4_draw_1 4 rfl rfl)
theorem dX4_draw_29 : decode cX4_draw 29 = .ok (.i2l, 1) := dk_133 (dk_at dksX4_draw_1 5 rfl rfl)
theorem dX4_draw_30 : decode cX4_draw 30 = .ok (.lrem, 1) := dk_113 (dk_at dksX4_draw_1 6 rfl rfl)
theorem dX4_draw_31 : decode cX4_draw 31 = .ok (.l2i, 1) := dk_136 (dk_at dksX4_draw_1 7 rfl rfl)
theorem dX4_draw_32 : decode cX4_draw 32 = .ok (.ireturn, 1) := dk_172 (dk_at dksX4_draw_1 8 rfl rfl)
abbrev cX4_sparksOn : ByteArray := prog_19_method_114_code
def yX4_sparksOn : MethodName := ⟨RX4, "sparksOn", "(I)V"⟩
def dkwX4_sparksOn_0 : List UInt8 := [42, 27, 182, 1, 131, 153, 0, 17, 42, 180, 0, 39, 16, 14, 7, 27, 104, 96, 4, 96, 4, 79, 177]
abbrev dktX4_sparksOn_0 : List UInt8 := dkwX4_sparksOn_0 ++ []
theorem dksX4_sparksOn_0 : cX4_sparksOn.data.toList.drop 0 = dktX4_sparksOn_0 := by decide +kernel
theorem dX4_sparksOn_0 : decode cX4_sparksOn 0 = .ok (.aload_n 0, 1) := dk_42 (dk_at dksX4_sparksOn_0 0 rfl rfl)
theorem dX4_sparksOn_1 : decode cX4_sparksOn 1 = .ok (.iload_n 1, 1) := dk_27 (dk_at dksX4_sparksOn_0 1 rfl rfl)
theorem dX4_sparksOn_2 : decode cX4_sparksOn 2 = .ok (.invokevirtual 387, 3) := dk_182 1 131 (dk_at dksX4_sparksOn_0 2 rfl rfl)
theorem dX4_sparksOn_5 : decode cX4_sparksOn 5 = .ok (.ifCond .eq 17, 3) := dk_153 0 17 (dk_at dksX4_sparksOn_0 5 rfl rfl)
theorem dX4_sparksOn_8 : decode cX4_sparksOn 8 = .ok (.aload_n 0, 1) := dk_42 (dk_at dksX4_sparksOn_0 8 rfl rfl)
theorem dX4_sparksOn_9 : decode cX4_sparksOn 9 = .ok (.getfield 39, 3) := dk_180 0 39 (dk_at dksX4_sparksOn_0 9 rfl rfl)
theorem dX4_sparksOn_12 : decode cX4_sparksOn 12 = .ok (.bipush 14, 2) := dk_16 14 (dk_at dksX4_sparksOn_0 12 rfl rfl)
theorem dX4_sparksOn_14 : decode cX4_sparksOn 14 = .ok (.iconst 4, 1) := dk_7 (dk_at dksX4_sparksOn_0 14 rfl rfl)
theorem dX4_sparksOn_15 : decode cX4_sparksOn 15 = .ok (.iload_n 1, 1) := dk_27 (dk_at dksX4_sparksOn_0 15 rfl rfl)
theorem dX4_sparksOn_16 : decode cX4_sparksOn 16 = .ok (.imul, 1) := dk_104 (dk_at dksX4_sparksOn_0 16 rfl rfl)
theorem dX4_sparksOn_17 : decode cX4_sparksOn 17 = .ok (.iadd, 1) := dk_96 (dk_at dksX4_sparksOn_0 17 rfl rfl)
theorem dX4_sparksOn_18 : decode cX4_sparksOn 18 = .ok (.iconst 1, 1) := dk_4 (dk_at dksX4_sparksOn_0 18 rfl rfl)
theorem dX4_sparksOn_19 : decode cX4_sparksOn 19 = .ok (.iadd, 1) := dk_96 (dk_at dksX4_sparksOn_0 19 rfl rfl)
theorem dX4_sparksOn_20 : decode cX4_sparksOn 20 = .ok (.iconst 1, 1) := dk_4 (dk_at dksX4_sparksOn_0 20 rfl rfl)
theorem dX4_sparksOn_21 : decode cX4_sparksOn 21 = .ok (.iastore, 1) := dk_79 (dk_at dksX4_sparksOn_0 21 rfl rfl)
theorem dX4_sparksOn_22 : decode cX4_sparksOn 22 = .ok (.return_, 1) := dk_177 (dk_at dksX4_sparksOn_0 22 rfl rfl)
abbrev cX4_count : ByteArray := prog_19_method_116_code
def yX4_count : MethodName := ⟨RX4, "count", "(I)I"⟩
def dkwX4_count_6 : List UInt8 := [180, 1, 196, 172, 42, 180, 0, 83, 172, 2, 172]
abbrev dktX4_count_6 : List UInt8 := dkwX4_count_6 ++ []
def dkwX4_count_5 : List UInt8 := [182, 1, 110, 172, 42, 182, 1, 79, 172, 42, 180, 0, 39, 17, 0, 131, 46, 172, 42, 180, 1, 20, 172, 42]
abbrev dktX4_count_5 : List UInt8 := dkwX4_count_5 ++ dktX4_count_6
def dkwX4_count_4 : List UInt8 := [16, 12, 46, 167, 0, 4, 2, 172, 42, 180, 0, 39, 16, 13, 46, 172, 42, 182, 1, 73, 172, 42]
abbrev dktX4_count_4 : List UInt8 := dkwX4_count_4 ++ dktX4_count_5
def dkwX4_count_3 : List UInt8 := [16, 10, 46, 172, 42, 180, 0, 39, 16, 11, 46, 172, 42, 182, 1, 92, 153, 0, 13, 42, 180, 0, 39]
abbrev dktX4_count_3 : List UInt8 := dkwX4_count_3 ++ dktX4_count_4
def dkwX4_count_2 : List UInt8 := [42, 180, 0, 39, 27, 4, 96, 46, 172, 42, 180, 1, 8, 172, 42, 180, 0, 42, 172, 42, 180, 0, 39]
abbrev dktX4_count_2 : List UInt8 := dkwX4_count_2 ++ dktX4_count_3
def dkwX4_count_1 : List UInt8 := [170, 0, 0, 0, 0, 0, 180, 0, 0, 0, 0, 0, 0, 0, 15, 0, 0, 0, 79, 0, 0, 0, 79, 0, 0, 0, 79, 0, 0, 0, 88, 0, 0, 0, 93, 0, 0, 0, 98, 0, 0, 0, 106, 0, 0, 0, 114, 0, 0, 0, 133, 0, 0, 0, 141, 0, 0, 0, 146, 0, 0, 0, 151, 0, 0, 0, 156, 0, 0, 0, 165, 0, 0, 0, 170, 0, 0, 0, 175]
abbrev dktX4_count_1 : List UInt8 := dkwX4_count_1 ++ dktX4_count_2
def dkwX4_count_0 : List UInt8 := [27]
abbrev dktX4_count_0 : List UInt8 := dkwX4_count_0 ++ dktX4_count_1
theorem dksX4_count_0 : cX4_count.data.toList.drop 0 = dktX4_count_0 := by decide +kernel
theorem dksX4_count_1 : cX4_count.data.toList.drop 1 = dktX4_count_1 := dk_seg dksX4_count_0 1 rfl rfl
theorem dksX4_count_2 : cX4_count.data.toList.drop 80 = dktX4_count_2 := dk_seg dksX4_count_1 79 rfl rfl
theorem dksX4_count_3 : cX4_count.data.toList.drop 103 = dktX4_count_3 := dk_seg dksX4_count_2 23 rfl rfl
theorem dksX4_count_4 : cX4_count.data.toList.drop 126 = dktX4_count_4 := dk_seg dksX4_count_3 23 rfl rfl
theorem dksX4_count_5 : cX4_count.data.toList.drop 148 = dktX4_count_5 := dk_seg dksX4_count_4 22 rfl rfl
theorem dksX4_count_6 : cX4_count.data.toList.drop 172 = dktX4_count_6 := dk_seg dksX4_count_5 24 rfl rfl
theorem dX4_count_0 : decode cX4_count 0 = .ok (.iload_n 1, 1) := dk_27 (dk_at dksX4_count_0 0 rfl rfl)
theorem dX4_count_1 : decode cX4_count 1 = .ok (.tableswitch 180 0 15 #[79, 79, 79, 88, 93, 98, 106, 114, 133, 141, 146, 151, 156, 165, 170, 175], 79) := by decide +kernel
theorem dX4_count_80 : decode cX4_count 80 = .ok (.aload_n 0, 1) := dk_42 (dk_at dksX4_count_2 0 rfl rfl)
theorem dX4_count_81 : decode cX4_count 81 = .ok (.getfield 39, 3) := dk_180 0 39 (dk_at dksX4_count_2 1 rfl rfl)
theorem dX4_count_84 : decode cX4_count 84 = .ok (.iload_n 1, 1) := dk_27 (dk_at dksX4_count_2 4 rfl rfl)
theorem dX4_count_85 : decode cX4_count 85 = .ok (.iconst 1, 1) := dk_4 (dk_at dksX4_count_2 5 rfl rfl)
theorem dX4_count_86 : decode cX4_count 86 = .ok (.iadd, 1) := dk_96 (dk_at dksX4_count_2 6 rfl rfl)
theorem dX4_count_87 : decode cX4_count 87 = .ok (.iaload, 1) := dk_46 (dk_at dksX4_count_2 7 rfl rfl)
theorem dX4_count_88 : decode cX4_count 88 = .ok (.ireturn, 1) := dk_172 (dk_at dksX4_count_2 8 rfl rfl)
theorem dX4_count_89 : decode cX4_count 89 = .ok (.aload_n 0, 1) := dk_42 (dk_at dksX4_count_2 9 rfl rfl)
theorem dX4_count_90 : decode cX4_count 90 = .ok (.getfield 264, 3) := dk_180 1 8 (dk_at dksX4_count_2 10 rfl rfl)
theorem dX4_count_93 : decode cX4_count 93 = .ok (.ireturn, 1) := dk_172 (dk_at dksX4_count_2 13 rfl rfl)
theorem dX4_count_94 : decode cX4_count 94 = .ok (.aload_n 0, 1) := dk_42 (dk_at dksX4_count_2 14 rfl rfl)
theorem dX4_count_95 : decode cX4_count 95 = .ok (.getfield 42, 3) := dk_180 0 42 (dk_at dksX4_count_2 15 rfl rfl)
theorem dX4_count_98 : decode cX4_count 98 = .ok (.ireturn, 1) := dk_172 (dk_at dksX4_count_2 18 rfl rfl)
theorem dX4_count_99 : decode cX4_count 99 = .ok (.aload_n 0, 1) := dk_42 (dk_at dksX4_count_2 19 rfl rfl)
theorem dX4_count_100 : decode cX4_count 100 = .ok (.getfield 39, 3) := dk_180 0 39 (dk_at dksX4_count_2 20 rfl rfl)
theorem dX4_count_103 : decode cX4_count 103 = .ok (.bipush 10, 2) := dk_16 10 (dk_at dksX4_count_3 0 rfl rfl)
theorem dX4_count_105 : decode cX4_count 105 = .ok (.iaload, 1) := dk_46 (dk_at dksX4_count_3 2 rfl rfl)
theorem dX4_count_106 : decode cX4_count 106 = .ok (.ireturn, 1) := dk_172 (dk_at dksX4_count_3 3 rfl rfl)
theorem dX4_count_107 : decode cX4_count 107 = .ok (.aload_n 0, 1) := dk_42 (dk_at dksX4_count_3 4 rfl rfl)
theorem dX4_count_108 : decode cX4_count 108 = .ok (.getfield 39, 3) := dk_180 0 39 (dk_at dksX4_count_3 5 rfl rfl)
theorem dX4_count_111 : decode cX4_count 111 = .ok (.bipush 11, 2) := dk_16 11 (dk_at dksX4_count_3 8 rfl rfl)
theorem dX4_count_113 : decode cX4_count 113 = .ok (.iaload, 1) := dk_46 (dk_at dksX4_count_3 10 rfl rfl)
theorem dX4_count_114 : decode cX4_count 114 = .ok (.ireturn, 1) := dk_172 (dk_at dksX4_count_3 11 rfl rfl)
theorem dX4_count_115 : decode cX4_count 115 = .ok (.aload_n 0, 1) := dk_42 (dk_at dksX4_count_3 12 rfl rfl)
theorem dX4_count_116 : decode cX4_count 116 = .ok (.invokevirtual 348, 3) := dk_182 1 92 (dk_at dksX4_count_3 13 rfl rfl)
theorem dX4_count_119 : decode cX4_count 119 = .ok (.ifCond .eq 13, 3) := dk_153 0 13 (dk_at dksX4_count_3 16 rfl rfl)
theorem dX4_count_122 : decode cX4_count 122 = .ok (.aload_n 0, 1) := dk_42 (dk_at dksX4_count_3 19 rfl rfl)
theorem dX4_count_123 : decode cX4_count 123 = .ok (.getfield 39, 3) := dk_180 0 39 (dk_at dksX4_count_3 20 rfl rfl)
theorem dX4_count_126 : decode cX4_count 126 = .ok (.bipush 12, 2) := dk_16 12 (dk_at dksX4_count_4 0 rfl rfl)
theorem dX4_count_128 : decode cX4_count 128 = .ok (.iaload, 1) := dk_46 (dk_at dksX4_count_4 2 rfl rfl)
theorem dX4_count_129 : decode cX4_count 129 = .ok (.goto 4, 3) := dk_167 0 4 (dk_at dksX4_count_4 3 rfl rfl)
theorem dX4_count_132 : decode cX4_count 132 = .ok (.iconst (-1), 1) := dk_2 (dk_at dksX4_count_4 6 rfl rfl)
theorem dX4_count_133 : decode cX4_count 133 = .ok (.ireturn, 1) := dk_172 (dk_at dksX4_count_4 7 rfl rfl)
theorem dX4_count_134 : decode cX4_count 134 = .ok (.aload_n 0, 1) := dk_42 (dk_at dksX4_count_4 8 rfl rfl)
theorem dX4_count_135 : decode cX4_count 135 = .ok (.getfield 39, 3) := dk_180 0 39 (dk_at dksX4_count_4 9 rfl rfl)
theorem dX4_count_138 : decode cX4_count 138 = .ok (.bipush 13, 2) := dk_16 13 (dk_at dksX4_count_4 12 rfl rfl)
theorem dX4_count_140 : decode cX4_count 140 = .ok (.iaload, 1) := dk_46 (dk_at dksX4_count_4 14 rfl rfl)
theorem dX4_count_141 : decode cX4_count 141 = .ok (.ireturn, 1) := dk_172 (dk_at dksX4_count_4 15 rfl rfl)
theorem dX4_count_142 : decode cX4_count 142 = .ok (.aload_n 0, 1) := dk_42 (dk_at dksX4_count_4 16 rfl rfl)
theorem dX4_count_143 : decode cX4_count 143 = .ok (.invokevirtual 329, 3) := dk_182 1 73 (dk_at dksX4_count_4 17 rfl rfl)
theorem dX4_count_146 : decode cX4_count 146 = .ok (.ireturn, 1) := dk_172 (dk_at dksX4_count_4 20 rfl rfl)
theorem dX4_count_147 : decode cX4_count 147 = .ok (.aload_n 0, 1) := dk_42 (dk_at dksX4_count_4 21 rfl rfl)
theorem dX4_count_148 : decode cX4_count 148 = .ok (.invokevirtual 366, 3) := dk_182 1 110 (dk_at dksX4_count_5 0 rfl rfl)
theorem dX4_count_151 : decode cX4_count 151 = .ok (.ireturn, 1) := dk_172 (dk_at dksX4_count_5 3 rfl rfl)
theorem dX4_count_152 : decode cX4_count 152 = .ok (.aload_n 0, 1) := dk_42 (dk_at dksX4_count_5 4 rfl rfl)
theorem dX4_count_153 : decode cX4_count 153 = .ok (.invokevirtual 335, 3) := dk_182 1 79 (dk_at dksX4_count_5 5 rfl rfl)
theorem dX4_count_156 : decode cX4_count 156 = .ok (.ireturn, 1) := dk_172 (dk_at dksX4_count_5 8 rfl rfl)
theorem dX4_count_157 : decode cX4_count 157 = .ok (.aload_n 0, 1) := dk_42 (dk_at dksX4_count_5 9 rfl rfl)
theorem dX4_count_158 : decode cX4_count 158 = .ok (.getfield 39, 3) := dk_180 0 39 (dk_at dksX4_count_5 10 rfl rfl)
theorem dX4_count_161 : decode cX4_count 161 = .ok (.sipush 131, 3) := dk_17 0 131 (dk_at dksX4_count_5 13 rfl rfl)
theorem dX4_count_164 : decode cX4_count 164 = .ok (.iaload, 1) := dk_46 (dk_at dksX4_count_5 16 rfl rfl)
theorem dX4_count_165 : decode cX4_count 165 = .ok (.ireturn, 1) := dk_172 (dk_at dksX4_count_5 17 rfl rfl)
theorem dX4_count_166 : decode cX4_count 166 = .ok (.aload_n 0, 1) := dk_42 (dk_at dksX4_count_5 18 rfl rfl)
theorem dX4_count_167 : decode cX4_count 167 = .ok (.getfield 276, 3) := dk_180 1 20 (dk_at dksX4_count_5 19 rfl rfl)
theorem dX4_count_170 : decode cX4_count 170 = .ok (.ireturn, 1) := dk_172 (dk_at dksX4_count_5 22 rfl rfl)
theorem dX4_count_171 : decode cX4_count 171 = .ok (.aload_n 0, 1) := dk_42 (dk_at dksX4_count_5 23 rfl rfl)
theorem dX4_count_172 : decode cX4_count 172 = .ok (.getfield 452, 3) := dk_180 1 196 (dk_at dksX4_count_6 0 rfl rfl)
theorem dX4_count_175 : decode cX4_count 175 = .ok (.ireturn, 1) := dk_172 (dk_at dksX4_count_6 3 rfl rfl)
theorem dX4_count_176 : decode cX4_count 176 = .ok (.aload_n 0, 1) := dk_42 (dk_at dksX4_count_6 4 rfl rfl)
theorem dX4_count_177 : decode cX4_count 177 = .ok (.getfield 83, 3) := dk_180 0 83 (dk_at dksX4_count_6 5 rfl rfl)
theorem dX4_count_180 : decode cX4_count 180 = .ok (.ireturn, 1) := dk_172 (dk_at dksX4_count_6 8 rfl rfl)
theorem dX4_count_181 : decode cX4_count 181 = .ok (.iconst (-1), 1) := dk_2 (dk_at dksX4_count_6 9 rfl rfl)
theorem dX4_count_182 : decode cX4_count 182 = .ok (.ireturn, 1) := dk_172 (dk_at dksX4_count_6 10 rfl rfl)
abbrev cX4_image : ByteArray := prog_19_method_117_code
def yX4_image : MethodName := ⟨RX4, "image", "(I)I"⟩
def dkwX4_image_3 : List UInt8 := [132, 2, 1, 167, 255, 228, 42, 180, 0, 39, 16, 10, 46, 172]
abbrev dktX4_image_3 : List UInt8 := dkwX4_image_3 ++ []
def dkwX4_image_2 : List UInt8 := [17, 0, 132, 162, 0, 27, 42, 180, 0, 71, 17, 0, 132, 27, 104, 28, 96, 42, 180, 0, 39, 28, 46, 79]
abbrev dktX4_image_2 : List UInt8 := dkwX4_image_2 ++ dktX4_image_3
def dkwX4_image_1 : List UInt8 := [180, 0, 74, 27, 42, 180, 0, 42, 79, 42, 180, 0, 77, 27, 42, 180, 1, 196, 79, 3, 61, 28]
abbrev dktX4_image_1 : List UInt8 := dkwX4_image_1 ++ dktX4_image_2
def dkwX4_image_0 : List UInt8 := [27, 133, 9, 20, 1, 219, 184, 0, 121, 154, 0, 5, 2, 172, 42, 180, 0, 80, 27, 4, 84, 42]
abbrev dktX4_image_0 : List UInt8 := dkwX4_image_0 ++ dktX4_image_1
theorem dksX4_image_0 : cX4_image.data.toList.drop 0 = dktX4_image_0 := by decide +kernel
theorem dksX4_image_1 : cX4_image.data.toList.drop 22 = dktX4_image_1 := dk_seg dksX4_image_0 22 rfl rfl
theorem dksX4_image_2 : cX4_image.data.toList.drop 44 = dktX4_image_2 := dk_seg dksX4_image_1 22 rfl rfl
theorem dksX4_image_3 : cX4_image.data.toList.drop 68 = dktX4_image_3 := dk_seg dksX4_image_2 24 rfl rfl
theorem dX4_image_0 : decode cX4_image 0 = .ok (.iload_n 1, 1) := dk_27 (dk_at dksX4_image_0 0 rfl rfl)
theorem dX4_image_1 : decode cX4_image 1 = .ok (.i2l, 1) := dk_133 (dk_at dksX4_image_0 1 rfl rfl)
theorem dX4_image_2 : decode cX4_image 2 = .ok (.lconst 0, 1) := dk_9 (dk_at dksX4_image_0 2 rfl rfl)
theorem dX4_image_3 : decode cX4_image 3 = .ok (.ldc2_w 475, 3) := dk_20 1 219 (dk_at dksX4_image_0 3 rfl rfl)
theorem dX4_image_6 : decode cX4_image 6 = .ok (.invokestatic 121, 3) := dk_184 0 121 (dk_at dksX4_image_0 6 rfl rfl)
theorem dX4_image_9 : decode cX4_image 9 = .ok (.ifCond .ne 5, 3) := dk_154 0 5 (dk_at dksX4_image_0 9 rfl rfl)
theorem dX4_image_12 : decode cX4_image 12 = .ok (.iconst (-1), 1) := dk_2 (dk_at dksX4_image_0 12 rfl rfl)
theorem dX4_image_13 : decode cX4_image 13 = .ok (.ireturn, 1) := dk_172 (dk_at dksX4_image_0 13 rfl rfl)
theorem dX4_image_14 : decode cX4_image 14 = .ok (.aload_n 0, 1) := dk_42 (dk_at dksX4_image_0 14 rfl rfl)
theorem dX4_image_15 : decode cX4_image 15 = .ok (.getfield 80, 3) := dk_180 0 80 (dk_at dksX4_image_0 15 rfl rfl)
theorem dX4_image_18 : decode cX4_image 18 = .ok (.iload_n 1, 1) := dk_27 (dk_at dksX4_image_0 18 rfl rfl)
theorem dX4_image_19 : decode cX4_image 19 = .ok (.iconst 1, 1) := dk_4 (dk_at dksX4_image_0 19 rfl rfl)
theorem dX4_image_20 : decode cX4_image 20 = .ok (.bastore, 1) := dk_84 (dk_at dksX4_image_0 20 rfl rfl)
theorem dX4_image_21 : decode cX4_image 21 = .ok (.aload_n 0, 1) := dk_42 (dk_at dksX4_image_0 21 rfl rfl)
theorem dX4_image_22 : decode cX4_image 22 = .ok (.getfield 74, 3) := dk_180 0 74 (dk_at dksX4_image_1 0 rfl rfl)
theorem dX4_image_25 : decode cX4_image 25 = .ok (.iload_n 1, 1) := dk_27 (dk_at dksX4_image_1 3 rfl rfl)
theorem dX4_image_26 : decode cX4_image 26 = .ok (.aload_n 0, 1) := dk_42 (dk_at dksX4_image_1 4 rfl rfl)
theorem dX4_image_27 : decode cX4_image 27 = .ok (.getfield 42, 3) := dk_180 0 42 (dk_at dksX4_image_1 5 rfl rfl)
theorem dX4_image_30 : decode cX4_image 30 = .ok (.iastore, 1) := dk_79 (dk_at dksX4_image_1 8 rfl rfl)
theorem dX4_image_31 : decode cX4_image 31 = .ok (.aload_n 0, 1) := dk_42 (dk_at dksX4_image_1 9 rfl rfl)
theorem dX4_image_32 : decode cX4_image 32 = .ok (.getfield 77, 3) := dk_180 0 77 (dk_at dksX4_image_1 10 rfl rfl)
theorem dX4_image_35 : decode cX4_image 35 = .ok (.iload_n 1, 1) := dk_27 (dk_at dksX4_image_1 13 rfl rfl)
theorem dX4_image_36 : decode cX4_image 36 = .ok (.aload_n 0, 1) := dk_42 (dk_at dksX4_image_1 14 rfl rfl)
theorem dX4_image_37 : decode cX4_image 37 = .ok (.getfield 452, 3) := dk_180 1 196 (dk_at dksX4_image_1 15 rfl rfl)
theorem dX4_image_40 : decode cX4_image 40 = .ok (.iastore, 1) := dk_79 (dk_at dksX4_image_1 18 rfl rfl)
theorem dX4_image_41 : decode cX4_image 41 = .ok (.iconst 0, 1) := dk_3 (dk_at dksX4_image_1 19 rfl rfl)
theorem dX4_image_42 : decode cX4_image 42 = .ok (.istore_n 2, 1) := dk_61 (dk_at dksX4_image_1 20 rfl rfl)
theorem dX4_image_43 : decode cX4_image 43 = .ok (.iload_n 2, 1) := dk_28 (dk_at dksX4_image_1 21 rfl rfl)
theorem dX4_image_44 : decode cX4_image 44 = .ok (.sipush 132, 3) := dk_17 0 132 (dk_at dksX4_image_2 0 rfl rfl)
theorem dX4_image_47 : decode cX4_image 47 = .ok (.if_icmp .ge 27, 3) := dk_162 0 27 (dk_at dksX4_image_2 3 rfl rfl)
theorem dX4_image_50 : decode cX4_image 50 = .ok (.aload_n 0, 1) := dk_42 (dk_at dksX4_image_2 6 rfl rfl)
theorem dX4_image_51 : decode cX4_image 51 = .ok (.getfield 71, 3) := dk_180 0 71 (dk_at dksX4_image_2 7 rfl rfl)
theorem dX4_image_54 : decode cX4_image 54 = .ok (.sipush 132, 3) := dk_17 0 132 (dk_at dksX4_image_2 10 rfl rfl)
theorem dX4_image_57 : decode cX4_image 57 = .ok (.iload_n 1, 1) := dk_27 (dk_at dksX4_image_2 13 rfl rfl)
theorem dX4_image_58 : decode cX4_image 58 = .ok (.imul, 1) := dk_104 (dk_at dksX4_image_2 14 rfl rfl)
theorem dX4_image_59 : decode cX4_image 59 = .ok (.iload_n 2, 1) := dk_28 (dk_at dksX4_image_2 15 rfl rfl)
theorem dX4_image_60 : decode cX4_image 60 = .ok (.iadd, 1) := dk_96 (dk_at dksX4_image_2 16 rfl rfl)
theorem dX4_image_61 : decode cX4_image 61 = .ok (.aload_n 0, 1) := dk_42 (dk_at dksX4_image_2 17 rfl rfl)
theorem dX4_image_62 : decode cX4_image 62 = .ok (.getfield 39, 3) := dk_180 0 39 (dk_at dksX4_image_2 18 rfl rfl)
theorem dX4_image_65 : decode cX4_image 65 = .ok (.iload_n 2, 1) := dk_28 (dk_at dksX4_image_2 21 rfl rfl)
theorem dX4_image_66 : decode cX4_image 66 = .ok (.iaload, 1) := dk_46 (dk_at dksX4_image_2 22 rfl rfl)
theorem dX4_image_67 : decode cX4_image 67 = .ok (.iastore, 1) := dk_79 (dk_at dksX4_image_2 23 rfl rfl)
theorem dX4_image_68 : decode cX4_image 68 = .ok (.iinc 2 1, 3) := dk_132 2 1 (dk_at dksX4_image_3 0 rfl rfl)
theorem dX4_image_71 : decode cX4_image 71 = .ok (.goto (-28), 3) := dk_167 255 228 (dk_at dksX4_image_3 3 rfl rfl)
theorem dX4_image_74 : decode cX4_image 74 = .ok (.aload_n 0, 1) := dk_42 (dk_at dksX4_image_3 6 rfl rfl)
theorem dX4_image_75 : decode cX4_image 75 = .ok (.getfield 39, 3) := dk_180 0 39 (dk_at dksX4_image_3 7 rfl rfl)
theorem dX4_image_78 : decode cX4_image 78 = .ok (.bipush 10, 2) := dk_16 10 (dk_at dksX4_image_3 10 rfl rfl)
theorem dX4_image_80 : decode cX4_image 80 = .ok (.iaload, 1) := dk_46 (dk_at dksX4_image_3 12 rfl rfl)
theorem dX4_image_81 : decode cX4_image 81 = .ok (.ireturn, 1) := dk_172 (dk_at dksX4_image_3 13 rfl rfl)
abbrev cX4_back : ByteArray := prog_19_method_118_code
def yX4_back : MethodName := ⟨RX4, "back", "(I)I"⟩
def dkwX4_back_3 : List UInt8 := [96, 46, 79, 132, 2, 1, 167, 255, 228, 42, 180, 0, 39, 16, 10, 46, 172]
abbrev dktX4_back_3 : List UInt8 := dkwX4_back_3 ++ []
def dkwX4_back_2 : List UInt8 := [3, 61, 28, 17, 0, 132, 162, 0, 27, 42, 180, 0, 39, 28, 42, 180, 0, 71, 17, 0, 132, 27, 104, 28]
abbrev dktX4_back_2 : List UInt8 := dkwX4_back_2 ++ dktX4_back_3
def dkwX4_back_1 : List UInt8 := [42, 180, 0, 74, 27, 46, 181, 0, 42, 42, 42, 180, 0, 77, 27, 46, 181, 1, 196, 42, 3, 181, 1, 20]
abbrev dktX4_back_1 : List UInt8 := dkwX4_back_1 ++ dktX4_back_2
def dkwX4_back_0 : List UInt8 := [27, 133, 9, 20, 1, 219, 184, 0, 121, 153, 0, 12, 42, 180, 0, 80, 27, 51, 154, 0, 5, 2, 172, 42]
abbrev dktX4_back_0 : List UInt8 := dkwX4_back_0 ++ dktX4_back_1
theorem dksX4_back_0 : cX4_back.data.toList.drop 0 = dktX4_back_0 := by decide +kernel
theorem dksX4_back_1 : cX4_back.data.toList.drop 24 = dktX4_back_1 := dk_seg dksX4_back_0 24 rfl rfl
theorem dksX4_back_2 : cX4_back.data.toList.drop 48 = dktX4_back_2 := dk_seg dksX4_back_1 24 rfl rfl
theorem dksX4_back_3 : cX4_back.data.toList.drop 72 = dktX4_back_3 := dk_seg dksX4_back_2 24 rfl rfl
theorem dX4_back_0 : decode cX4_back 0 = .ok (.iload_n 1, 1) := dk_27 (dk_at dksX4_back_0 0 rfl rfl)
theorem dX4_back_1 : decode cX4_back 1 = .ok (.i2l, 1) := dk_133 (dk_at dksX4_back_0 1 rfl rfl)
theorem dX4_back_2 : decode cX4_back 2 = .ok (.lconst 0, 1) := dk_9 (dk_at dksX4_back_0 2 rfl rfl)
theorem dX4_back_3 : decode cX4_back 3 = .ok (.ldc2_w 475, 3) := dk_20 1 219 (dk_at dksX4_back_0 3 rfl rfl)
theorem dX4_back_6 : decode cX4_back 6 = .ok (.invokestatic 121, 3) := dk_184 0 121 (dk_at dksX4_back_0 6 rfl rfl)
theorem dX4_back_9 : decode cX4_back 9 = .ok (.ifCond .eq 12, 3) := dk_153 0 12 (dk_at dksX4_back_0 9 rfl rfl)
theorem dX4_back_12 : decode cX4_back 12 = .ok (.aload_n 0, 1) := dk_42 (dk_at dksX4_back_0 12 rfl rfl)
theorem dX4_back_13 : decode cX4_back 13 = .ok (.getfield 80, 3) := dk_180 0 80 (dk_at dksX4_back_0 13 rfl rfl)
theorem dX4_back_16 : decode cX4_back 16 = .ok (.iload_n 1, 1) := dk_27 (dk_at dksX4_back_0 16 rfl rfl)
theorem dX4_back_17 : decode cX4_back 17 = .ok (.baload, 1) := dk_51 (dk_at dksX4_back_0 17 rfl rfl)
theorem dX4_back_18 : decode cX4_back 18 = .ok (.ifCond .ne 5, 3) := dk_154 0 5 (dk_at dksX4_back_0 18 rfl rfl)
theorem dX4_back_21 : decode cX4_back 21 = .ok (.iconst (-1), 1) := dk_2 (dk_at dksX4_back_0 21 rfl rfl)
theorem dX4_back_22 : decode cX4_back 22 = .ok (.ireturn, 1) := dk_172 (dk_at dksX4_back_0 22 rfl rfl)
theorem dX4_back_23 : decode cX4_back 23 = .ok (.aload_n 0, 1) := dk_42 (dk_at dksX4_back_0 23 rfl rfl)
theorem dX4_back_24 : decode cX4_back 24 = .ok (.aload_n 0, 1) := dk_42 (dk_at dksX4_back_1 0 rfl rfl)
theorem dX4_back_25 : decode cX4_back 25 = .ok (.getfield 74, 3) := dk_180 0 74 (dk_at dksX4_back_1 1 rfl rfl)
theorem dX4_back_28 : decode cX4_back 28 = .ok (.iload_n 1, 1) := dk_27 (dk_at dksX4_back_1 4 rfl rfl)
theorem dX4_back_29 : decode cX4_back 29 = .ok (.iaload, 1) := dk_46 (dk_at dksX4_back_1 5 rfl rfl)
theorem dX4_back_30 : decode cX4_back 30 = .ok (.putfield 42, 3) := dk_181 0 42 (dk_at dksX4_back_1 6 rfl rfl)
theorem dX4_back_33 : decode cX4_back 33 = .ok (.aload_n 0, 1) := dk_42 (dk_at dksX4_back_1 9 rfl rfl)
theorem dX4_back_34 : decode cX4_back 34 = .ok (.aload_n 0, 1) := dk_42 (dk_at dksX4_back_1 10 rfl rfl)
theorem dX4_back_35 : decode cX4_back 35 = .ok (.getfield 77, 3) := dk_180 0 77 (dk_at dksX4_back_1 11 rfl rfl)
theorem dX4_back_38 : decode cX4_back 38 = .ok (.iload_n 1, 1) := dk_27 (dk_at dksX4_back_1 14 rfl rfl)
theorem dX4_back_39 : decode cX4_back 39 = .ok (.iaload, 1) := dk_46 (dk_at dksX4_back_1 15 rfl rfl)
theorem dX4_back_40 : decode cX4_back 40 = .ok (.putfield 452, 3) := dk_181 1 196 (dk_at dksX4_back_1 16 rfl rfl)
theorem dX4_back_43 : decode cX4_back 43 = .ok (.aload_n 0, 1) := dk_42 (dk_at dksX4_back_1 19 rfl rfl)
theorem dX4_back_44 : decode cX4_back 44 = .ok (.iconst 0, 1) := dk_3 (dk_at dksX4_back_1 20 rfl rfl)
theorem dX4_back_45 : decode cX4_back 45 = .ok (.putfield 276, 3) := dk_181 1 20 (dk_at dksX4_back_1 21 rfl rfl)
theorem dX4_back_48 : decode cX4_back 48 = .ok (.iconst 0, 1) := dk_3 (dk_at dksX4_back_2 0 rfl rfl)
theorem dX4_back_49 : decode cX4_back 49 = .ok (.istore_n 2, 1) := dk_61 (dk_at dksX4_back_2 1 rfl rfl)
theorem dX4_back_50 : decode cX4_back 50 = .ok (.iload_n 2, 1) := dk_28 (dk_at dksX4_back_2 2 rfl rfl)
theorem dX4_back_51 : decode cX4_back 51 = .ok (.sipush 132, 3) := dk_17 0 132 (dk_at dksX4_back_2 3 rfl rfl)
theorem dX4_back_54 : decode cX4_back 54 = .ok (.if_icmp .ge 27, 3) := dk_162 0 27 (dk_at dksX4_back_2 6 rfl rfl)
theorem dX4_back_57 : decode cX4_back 57 = .ok (.aload_n 0, 1) := dk_42 (dk_at dksX4_back_2 9 rfl rfl)
theorem dX4_back_58 : decode cX4_back 58 = .ok (.getfield 39, 3) := dk_180 0 39 (dk_at dksX4_back_2 10 rfl rfl)
theorem dX4_back_61 : decode cX4_back 61 = .ok (.iload_n 2, 1) := dk_28 (dk_at dksX4_back_2 13 rfl rfl)
theorem dX4_back_62 : decode cX4_back 62 = .ok (.aload_n 0, 1) := dk_42 (dk_at dksX4_back_2 14 rfl rfl)
theorem dX4_back_63 : decode cX4_back 63 = .ok (.getfield 71, 3) := dk_180 0 71 (dk_at dksX4_back_2 15 rfl rfl)
theorem dX4_back_66 : decode cX4_back 66 = .ok (.sipush 132, 3) := dk_17 0 132 (dk_at dksX4_back_2 18 rfl rfl)
theorem dX4_back_69 : decode cX4_back 69 = .ok (.iload_n 1, 1) := dk_27 (dk_at dksX4_back_2 21 rfl rfl)
theorem dX4_back_70 : decode cX4_back 70 = .ok (.imul, 1) := dk_104 (dk_at dksX4_back_2 22 rfl rfl)
theorem dX4_back_71 : decode cX4_back 71 = .ok (.iload_n 2, 1) := dk_28 (dk_at dksX4_back_2 23 rfl rfl)
theorem dX4_back_72 : decode cX4_back 72 = .ok (.iadd, 1) := dk_96 (dk_at dksX4_back_3 0 rfl rfl)
theorem dX4_back_73 : decode cX4_back 73 = .ok (.iaload, 1) := dk_46 (dk_at dksX4_back_3 1 rfl rfl)
theorem dX4_back_74 : decode cX4_back 74 = .ok (.iastore, 1) := dk_79 (dk_at dksX4_back_3 2 rfl rfl)
theorem dX4_back_75 : decode cX4_back 75 = .ok (.iinc 2 1, 3) := dk_132 2 1 (dk_at dksX4_back_3 3 rfl rfl)
theorem dX4_back_78 : decode cX4_back 78 = .ok (.goto (-28), 3) := dk_167 255 228 (dk_at dksX4_back_3 6 rfl rfl)
theorem dX4_back_81 : decode cX4_back 81 = .ok (.aload_n 0, 1) := dk_42 (dk_at dksX4_back_3 9 rfl rfl)
theorem dX4_back_82 : decode cX4_back 82 = .ok (.getfield 39, 3) := dk_180 0 39 (dk_at dksX4_back_3 10 rfl rfl)
theorem dX4_back_85 : decode cX4_back 85 = .ok (.bipush 10, 2) := dk_16 10 (dk_at dksX4_back_3 13 rfl rfl)
theorem dX4_back_87 : decode cX4_back 87 = .ok (.iaload, 1) := dk_46 (dk_at dksX4_back_3 15 rfl rfl)
theorem dX4_back_88 : decode cX4_back 88 = .ok (.ireturn, 1) := dk_172 (dk_at dksX4_back_3 16 rfl rfl)
theorem q137 : (Jvm.Cond.initialized "SmokeWordModel") ∈ lw_all := lw_g (lw_at lw_m1 10 rfl) rfl
theorem q667 : (Jvm.Cond.selects "SmokeWordModel" ({ cls := "java/lang/Object", name := "getClass", desc := "()Ljava/lang/Class;" } : Jvm.MethodName) ({ cls := "java/lang/Object", name := "getClass", desc := "()Ljava/lang/Class;" } : Jvm.MethodName)) ∈ lw_all := lw_g (lw_at lw_m3 60 rfl) rfl
theorem q1254 : (Jvm.Cond.instantiable "SmokeWordModel" (43 : Nat)) ∈ lw_all := lw_g (lw_at lw_m5 167 rfl) rfl
theorem q1256 : (Jvm.Cond.instanceMethod ({ cls := "SmokeWordModel", name := "<init>", desc := "()V" } : Jvm.MethodName)) ∈ lw_all := lw_g (lw_at lw_m5 169 rfl) rfl
theorem q1257 : (Jvm.Cond.code ({ cls := "SmokeWordModel", name := "<init>", desc := "()V" } : Jvm.MethodName) prog_19_method_1_code (1 : Nat) (Option.none : Option Jvm.ClassFile.FieldType)) ∈ lw_all := lw_g (lw_at lw_m5 170 rfl) rfl
theorem q1258 : (Jvm.Cond.methodLink "SmokeWordModel" (1 : Nat) ({ cls := "java/lang/Object", name := "<init>", desc := "()V" } : Jvm.MethodName)) ∈ lw_all := lw_g (lw_at lw_m5 171 rfl) rfl
theorem q1259 : (Jvm.Cond.fieldLink "SmokeWordModel" (7 : Nat) "SmokeWordModel" "tape" "[B") ∈ lw_all := lw_g (lw_at lw_m5 172 rfl) rfl
theorem q1260 : (Jvm.Cond.fieldLink "SmokeWordModel" (83 : Nat) "SmokeWordModel" "taped" "I") ∈ lw_all := lw_g (lw_at lw_m5 173 rfl) rfl
theorem q1261 : (Jvm.Cond.fieldLink "SmokeWordModel" (264 : Nat) "SmokeWordModel" "rules" "I") ∈ lw_all := lw_g (lw_at lw_m5 174 rfl) rfl
theorem q1262 : (Jvm.Cond.fieldLink "SmokeWordModel" (13 : Nat) "SmokeWordModel" "sign" "[I") ∈ lw_all := lw_g (lw_at lw_m5 175 rfl) rfl
theorem q1263 : (Jvm.Cond.fieldLink "SmokeWordModel" (17 : Nat) "SmokeWordModel" "length" "[I") ∈ lw_all := lw_g (lw_at lw_m5 176 rfl) rfl
theorem q1264 : (Jvm.Cond.fieldLink "SmokeWordModel" (20 : Nat) "SmokeWordModel" "clause" "[I") ∈ lw_all := lw_g (lw_at lw_m5 177 rfl) rfl
theorem q1265 : (Jvm.Cond.fieldLink "SmokeWordModel" (23 : Nat) "SmokeWordModel" "clauses" "[I") ∈ lw_all := lw_g (lw_at lw_m5 178 rfl) rfl
theorem q1266 : (Jvm.Cond.fieldLink "SmokeWordModel" (26 : Nat) "SmokeWordModel" "read" "[I") ∈ lw_all := lw_g (lw_at lw_m5 179 rfl) rfl
theorem q1267 : (Jvm.Cond.fieldLink "SmokeWordModel" (93 : Nat) "SmokeWordModel" "next" "I") ∈ lw_all := lw_g (lw_at lw_m5 180 rfl) rfl
theorem q1268 : (Jvm.Cond.fieldLink "SmokeWordModel" (90 : Nat) "SmokeWordModel" "wrong" "I") ∈ lw_all := lw_g (lw_at lw_m5 181 rfl) rfl
theorem q1269 : (Jvm.Cond.fieldLink "SmokeWordModel" (118 : Nat) "SmokeWordModel" "number" "I") ∈ lw_all := lw_g (lw_at lw_m5 182 rfl) rfl
theorem q1270 : (Jvm.Cond.fieldLink "SmokeWordModel" (147 : Nat) "SmokeWordModel" "text" "I") ∈ lw_all := lw_g (lw_at lw_m5 183 rfl) rfl
theorem q1271 : (Jvm.Cond.fieldLink "SmokeWordModel" (150 : Nat) "SmokeWordModel" "made" "I") ∈ lw_all := lw_g (lw_at lw_m5 184 rfl) rfl
theorem q1272 : (Jvm.Cond.fieldLink "SmokeWordModel" (153 : Nat) "SmokeWordModel" "deep" "I") ∈ lw_all := lw_g (lw_at lw_m5 185 rfl) rfl
theorem q1273 : (Jvm.Cond.fieldLink "SmokeWordModel" (252 : Nat) "SmokeWordModel" "lines" "I") ∈ lw_all := lw_g (lw_at lw_m5 186 rfl) rfl
theorem q1274 : (Jvm.Cond.fieldLink "SmokeWordModel" (29 : Nat) "SmokeWordModel" "open" "[I") ∈ lw_all := lw_g (lw_at lw_m5 187 rfl) rfl
theorem q1275 : (Jvm.Cond.fieldLink "SmokeWordModel" (156 : Nat) "SmokeWordModel" "opened" "I") ∈ lw_all := lw_g (lw_at lw_m5 188 rfl) rfl
theorem q1276 : (Jvm.Cond.fieldLink "SmokeWordModel" (223 : Nat) "SmokeWordModel" "one1" "I") ∈ lw_all := lw_g (lw_at lw_m5 189 rfl) rfl
theorem q1277 : (Jvm.Cond.fieldLink "SmokeWordModel" (32 : Nat) "SmokeWordModel" "stack" "[J") ∈ lw_all := lw_g (lw_at lw_m5 190 rfl) rfl
theorem q1278 : (Jvm.Cond.fieldLink "SmokeWordModel" (279 : Nat) "SmokeWordModel" "top" "I") ∈ lw_all := lw_g (lw_at lw_m5 191 rfl) rfl
theorem q1279 : (Jvm.Cond.fieldLink "SmokeWordModel" (36 : Nat) "SmokeWordModel" "word" "[J") ∈ lw_all := lw_g (lw_at lw_m5 192 rfl) rfl
theorem q1280 : (Jvm.Cond.fieldLink "SmokeWordModel" (39 : Nat) "SmokeWordModel" "said" "[I") ∈ lw_all := lw_g (lw_at lw_m5 193 rfl) rfl
theorem q1281 : (Jvm.Cond.fieldLink "SmokeWordModel" (42 : Nat) "SmokeWordModel" "force" "I") ∈ lw_all := lw_g (lw_at lw_m5 194 rfl) rfl
theorem q1282 : (Jvm.Cond.fieldLink "SmokeWordModel" (452 : Nat) "SmokeWordModel" "x" "I") ∈ lw_all := lw_g (lw_at lw_m5 195 rfl) rfl
theorem q1283 : (Jvm.Cond.fieldLink "SmokeWordModel" (46 : Nat) "SmokeWordModel" "row" "[I") ∈ lw_all := lw_g (lw_at lw_m5 196 rfl) rfl
theorem q1284 : (Jvm.Cond.fieldLink "SmokeWordModel" (49 : Nat) "SmokeWordModel" "rowMany" "I") ∈ lw_all := lw_g (lw_at lw_m5 197 rfl) rfl
theorem q1285 : (Jvm.Cond.fieldLink "SmokeWordModel" (345 : Nat) "SmokeWordModel" "rowAt" "I") ∈ lw_all := lw_g (lw_at lw_m5 198 rfl) rfl
theorem q1286 : (Jvm.Cond.fieldLink "SmokeWordModel" (303 : Nat) "SmokeWordModel" "savedThen" "I") ∈ lw_all := lw_g (lw_at lw_m5 199 rfl) rfl
theorem q1287 : (Jvm.Cond.fieldLink "SmokeWordModel" (363 : Nat) "SmokeWordModel" "leapers" "I") ∈ lw_all := lw_g (lw_at lw_m5 200 rfl) rfl
theorem q1288 : (Jvm.Cond.fieldLink "SmokeWordModel" (375 : Nat) "SmokeWordModel" "came" "I") ∈ lw_all := lw_g (lw_at lw_m5 201 rfl) rfl
theorem q1289 : (Jvm.Cond.fieldLink "SmokeWordModel" (52 : Nat) "SmokeWordModel" "wasSaid" "[I") ∈ lw_all := lw_g (lw_at lw_m5 202 rfl) rfl
theorem q1290 : (Jvm.Cond.fieldLink "SmokeWordModel" (276 : Nat) "SmokeWordModel" "undone" "I") ∈ lw_all := lw_g (lw_at lw_m5 203 rfl) rfl
theorem q1291 : (Jvm.Cond.fieldLink "SmokeWordModel" (55 : Nat) "SmokeWordModel" "kept" "[I") ∈ lw_all := lw_g (lw_at lw_m5 204 rfl) rfl
theorem q1292 : (Jvm.Cond.fieldLink "SmokeWordModel" (58 : Nat) "SmokeWordModel" "bestRow" "[I") ∈ lw_all := lw_g (lw_at lw_m5 205 rfl) rfl
theorem q1293 : (Jvm.Cond.fieldLink "SmokeWordModel" (411 : Nat) "SmokeWordModel" "orderMost" "I") ∈ lw_all := lw_g (lw_at lw_m5 206 rfl) rfl
theorem q1294 : (Jvm.Cond.fieldLink "SmokeWordModel" (61 : Nat) "SmokeWordModel" "hasBy" "[I") ∈ lw_all := lw_g (lw_at lw_m5 207 rfl) rfl
theorem q1295 : (Jvm.Cond.fieldLink "SmokeWordModel" (64 : Nat) "SmokeWordModel" "isFit" "[Z") ∈ lw_all := lw_g (lw_at lw_m5 208 rfl) rfl
theorem q1296 : (Jvm.Cond.fieldLink "SmokeWordModel" (68 : Nat) "SmokeWordModel" "placeBy" "[I") ∈ lw_all := lw_g (lw_at lw_m5 209 rfl) rfl
theorem q1297 : (Jvm.Cond.fieldLink "SmokeWordModel" (455 : Nat) "SmokeWordModel" "drawX" "J") ∈ lw_all := lw_g (lw_at lw_m5 210 rfl) rfl
theorem q1298 : (Jvm.Cond.fieldLink "SmokeWordModel" (71 : Nat) "SmokeWordModel" "images" "[I") ∈ lw_all := lw_g (lw_at lw_m5 211 rfl) rfl
theorem q1299 : (Jvm.Cond.fieldLink "SmokeWordModel" (74 : Nat) "SmokeWordModel" "imageForce" "[I") ∈ lw_all := lw_g (lw_at lw_m5 212 rfl) rfl
theorem q1300 : (Jvm.Cond.fieldLink "SmokeWordModel" (77 : Nat) "SmokeWordModel" "imageX" "[I") ∈ lw_all := lw_g (lw_at lw_m5 213 rfl) rfl
theorem q1301 : (Jvm.Cond.fieldLink "SmokeWordModel" (80 : Nat) "SmokeWordModel" "isMade" "[Z") ∈ lw_all := lw_g (lw_at lw_m5 214 rfl) rfl
theorem q1302 : (Jvm.Cond.laysFinal "SmokeWordModel" "SmokeWordModel" "tape" "[B") ∈ lw_all := lw_g (lw_at lw_m5 215 rfl) rfl
theorem q1303 : (Jvm.Cond.soleField "SmokeWordModel" "tape") ∈ lw_all := lw_g (lw_at lw_m5 216 rfl) rfl
theorem q1304 : (Jvm.Cond.lays "SmokeWordModel" "SmokeWordModel" "taped" "I") ∈ lw_all := lw_g (lw_at lw_m5 217 rfl) rfl
theorem q1305 : (Jvm.Cond.soleField "SmokeWordModel" "taped") ∈ lw_all := lw_g (lw_at lw_m5 218 rfl) rfl
theorem q1306 : (Jvm.Cond.lays "SmokeWordModel" "SmokeWordModel" "rules" "I") ∈ lw_all := lw_g (lw_at lw_m5 219 rfl) rfl
theorem q1307 : (Jvm.Cond.soleField "SmokeWordModel" "rules") ∈ lw_all := lw_g (lw_at lw_m5 220 rfl) rfl
theorem q1308 : (Jvm.Cond.laysFinal "SmokeWordModel" "SmokeWordModel" "sign" "[I") ∈ lw_all := lw_g (lw_at lw_m5 221 rfl) rfl
theorem q1309 : (Jvm.Cond.soleField "SmokeWordModel" "sign") ∈ lw_all := lw_g (lw_at lw_m5 222 rfl) rfl
theorem q1310 : (Jvm.Cond.laysFinal "SmokeWordModel" "SmokeWordModel" "length" "[I") ∈ lw_all := lw_g (lw_at lw_m5 223 rfl) rfl
theorem q1311 : (Jvm.Cond.soleField "SmokeWordModel" "length") ∈ lw_all := lw_g (lw_at lw_m5 224 rfl) rfl
theorem q1312 : (Jvm.Cond.laysFinal "SmokeWordModel" "SmokeWordModel" "clause" "[I") ∈ lw_all := lw_g (lw_at lw_m5 225 rfl) rfl
theorem q1313 : (Jvm.Cond.soleField "SmokeWordModel" "clause") ∈ lw_all := lw_g (lw_at lw_m5 226 rfl) rfl
theorem q1314 : (Jvm.Cond.laysFinal "SmokeWordModel" "SmokeWordModel" "clauses" "[I") ∈ lw_all := lw_g (lw_at lw_m5 227 rfl) rfl
theorem q1315 : (Jvm.Cond.soleField "SmokeWordModel" "clauses") ∈ lw_all := lw_g (lw_at lw_m5 228 rfl) rfl
theorem q1316 : (Jvm.Cond.laysFinal "SmokeWordModel" "SmokeWordModel" "read" "[I") ∈ lw_all := lw_g (lw_at lw_m5 229 rfl) rfl
theorem q1317 : (Jvm.Cond.soleField "SmokeWordModel" "read") ∈ lw_all := lw_g (lw_at lw_m5 230 rfl) rfl
theorem q1318 : (Jvm.Cond.lays "SmokeWordModel" "SmokeWordModel" "next" "I") ∈ lw_all := lw_g (lw_at lw_m5 231 rfl) rfl
theorem q1319 : (Jvm.Cond.soleField "SmokeWordModel" "next") ∈ lw_all := lw_g (lw_at lw_m5 232 rfl) rfl
theorem q1320 : (Jvm.Cond.lays "SmokeWordModel" "SmokeWordModel" "wrong" "I") ∈ lw_all := lw_g (lw_at lw_m5 233 rfl) rfl
theorem q1321 : (Jvm.Cond.soleField "SmokeWordModel" "wrong") ∈ lw_all := lw_g (lw_at lw_m5 234 rfl) rfl
theorem q1322 : (Jvm.Cond.lays "SmokeWordModel" "SmokeWordModel" "number" "I") ∈ lw_all := lw_g (lw_at lw_m5 235 rfl) rfl
theorem q1323 : (Jvm.Cond.soleField "SmokeWordModel" "number") ∈ lw_all := lw_g (lw_at lw_m5 236 rfl) rfl
theorem q1324 : (Jvm.Cond.lays "SmokeWordModel" "SmokeWordModel" "text" "I") ∈ lw_all := lw_g (lw_at lw_m5 237 rfl) rfl
theorem q1325 : (Jvm.Cond.soleField "SmokeWordModel" "text") ∈ lw_all := lw_g (lw_at lw_m5 238 rfl) rfl
theorem q1326 : (Jvm.Cond.lays "SmokeWordModel" "SmokeWordModel" "made" "I") ∈ lw_all := lw_g (lw_at lw_m5 239 rfl) rfl
theorem q1327 : (Jvm.Cond.soleField "SmokeWordModel" "made") ∈ lw_all := lw_g (lw_at lw_m6 0 rfl) rfl
theorem q1328 : (Jvm.Cond.lays "SmokeWordModel" "SmokeWordModel" "deep" "I") ∈ lw_all := lw_g (lw_at lw_m6 1 rfl) rfl
theorem q1329 : (Jvm.Cond.soleField "SmokeWordModel" "deep") ∈ lw_all := lw_g (lw_at lw_m6 2 rfl) rfl
theorem q1330 : (Jvm.Cond.lays "SmokeWordModel" "SmokeWordModel" "lines" "I") ∈ lw_all := lw_g (lw_at lw_m6 3 rfl) rfl
theorem q1331 : (Jvm.Cond.soleField "SmokeWordModel" "lines") ∈ lw_all := lw_g (lw_at lw_m6 4 rfl) rfl
theorem q1332 : (Jvm.Cond.laysFinal "SmokeWordModel" "SmokeWordModel" "open" "[I") ∈ lw_all := lw_g (lw_at lw_m6 5 rfl) rfl
theorem q1333 : (Jvm.Cond.soleField "SmokeWordModel" "open") ∈ lw_all := lw_g (lw_at lw_m6 6 rfl) rfl
theorem q1334 : (Jvm.Cond.lays "SmokeWordModel" "SmokeWordModel" "opened" "I") ∈ lw_all := lw_g (lw_at lw_m6 7 rfl) rfl
theorem q1335 : (Jvm.Cond.soleField "SmokeWordModel" "opened") ∈ lw_all := lw_g (lw_at lw_m6 8 rfl) rfl
theorem q1336 : (Jvm.Cond.lays "SmokeWordModel" "SmokeWordModel" "one1" "I") ∈ lw_all := lw_g (lw_at lw_m6 9 rfl) rfl
theorem q1337 : (Jvm.Cond.soleField "SmokeWordModel" "one1") ∈ lw_all := lw_g (lw_at lw_m6 10 rfl) rfl
theorem q1338 : (Jvm.Cond.laysFinal "SmokeWordModel" "SmokeWordModel" "stack" "[J") ∈ lw_all := lw_g (lw_at lw_m6 11 rfl) rfl
theorem q1339 : (Jvm.Cond.soleField "SmokeWordModel" "stack") ∈ lw_all := lw_g (lw_at lw_m6 12 rfl) rfl
theorem q1340 : (Jvm.Cond.lays "SmokeWordModel" "SmokeWordModel" "top" "I") ∈ lw_all := lw_g (lw_at lw_m6 13 rfl) rfl
theorem q1341 : (Jvm.Cond.soleField "SmokeWordModel" "top") ∈ lw_all := lw_g (lw_at lw_m6 14 rfl) rfl
theorem q1342 : (Jvm.Cond.laysFinal "SmokeWordModel" "SmokeWordModel" "word" "[J") ∈ lw_all := lw_g (lw_at lw_m6 15 rfl) rfl
theorem q1343 : (Jvm.Cond.soleField "SmokeWordModel" "word") ∈ lw_all := lw_g (lw_at lw_m6 16 rfl) rfl
theorem q1344 : (Jvm.Cond.laysFinal "SmokeWordModel" "SmokeWordModel" "said" "[I") ∈ lw_all := lw_g (lw_at lw_m6 17 rfl) rfl
theorem q1345 : (Jvm.Cond.soleField "SmokeWordModel" "said") ∈ lw_all := lw_g (lw_at lw_m6 18 rfl) rfl
theorem q1346 : (Jvm.Cond.lays "SmokeWordModel" "SmokeWordModel" "force" "I") ∈ lw_all := lw_g (lw_at lw_m6 19 rfl) rfl
theorem q1347 : (Jvm.Cond.soleField "SmokeWordModel" "force") ∈ lw_all := lw_g (lw_at lw_m6 20 rfl) rfl
theorem q1348 : (Jvm.Cond.lays "SmokeWordModel" "SmokeWordModel" "x" "I") ∈ lw_all := lw_g (lw_at lw_m6 21 rfl) rfl
theorem q1349 : (Jvm.Cond.soleField "SmokeWordModel" "x") ∈ lw_all := lw_g (lw_at lw_m6 22 rfl) rfl
theorem q1350 : (Jvm.Cond.laysFinal "SmokeWordModel" "SmokeWordModel" "row" "[I") ∈ lw_all := lw_g (lw_at lw_m6 23 rfl) rfl
theorem q1351 : (Jvm.Cond.soleField "SmokeWordModel" "row") ∈ lw_all := lw_g (lw_at lw_m6 24 rfl) rfl
theorem q1352 : (Jvm.Cond.lays "SmokeWordModel" "SmokeWordModel" "rowMany" "I") ∈ lw_all := lw_g (lw_at lw_m6 25 rfl) rfl
theorem q1353 : (Jvm.Cond.soleField "SmokeWordModel" "rowMany") ∈ lw_all := lw_g (lw_at lw_m6 26 rfl) rfl
theorem q1354 : (Jvm.Cond.lays "SmokeWordModel" "SmokeWordModel" "rowAt" "I") ∈ lw_all := lw_g (lw_at lw_m6 27 rfl) rfl
theorem q1355 : (Jvm.Cond.soleField "SmokeWordModel" "rowAt") ∈ lw_all := lw_g (lw_at lw_m6 28 rfl) rfl
theorem q1356 : (Jvm.Cond.lays "SmokeWordModel" "SmokeWordModel" "savedThen" "I") ∈ lw_all := lw_g (lw_at lw_m6 29 rfl) rfl
theorem q1357 : (Jvm.Cond.soleField "SmokeWordModel" "savedThen") ∈ lw_all := lw_g (lw_at lw_m6 30 rfl) rfl
theorem q1358 : (Jvm.Cond.lays "SmokeWordModel" "SmokeWordModel" "leapers" "I") ∈ lw_all := lw_g (lw_at lw_m6 31 rfl) rfl
theorem q1359 : (Jvm.Cond.soleField "SmokeWordModel" "leapers") ∈ lw_all := lw_g (lw_at lw_m6 32 rfl) rfl
theorem q1360 : (Jvm.Cond.lays "SmokeWordModel" "SmokeWordModel" "came" "I") ∈ lw_all := lw_g (lw_at lw_m6 33 rfl) rfl
theorem q1361 : (Jvm.Cond.soleField "SmokeWordModel" "came") ∈ lw_all := lw_g (lw_at lw_m6 34 rfl) rfl
theorem q1362 : (Jvm.Cond.laysFinal "SmokeWordModel" "SmokeWordModel" "wasSaid" "[I") ∈ lw_all := lw_g (lw_at lw_m6 35 rfl) rfl
theorem q1363 : (Jvm.Cond.soleField "SmokeWordModel" "wasSaid") ∈ lw_all := lw_g (lw_at lw_m6 36 rfl) rfl
theorem q1364 : (Jvm.Cond.lays "SmokeWordModel" "SmokeWordModel" "undone" "I") ∈ lw_all := lw_g (lw_at lw_m6 37 rfl) rfl
theorem q1365 : (Jvm.Cond.soleField "SmokeWordModel" "undone") ∈ lw_all := lw_g (lw_at lw_m6 38 rfl) rfl
theorem q1366 : (Jvm.Cond.laysFinal "SmokeWordModel" "SmokeWordModel" "kept" "[I") ∈ lw_all := lw_g (lw_at lw_m6 39 rfl) rfl
theorem q1367 : (Jvm.Cond.soleField "SmokeWordModel" "kept") ∈ lw_all := lw_g (lw_at lw_m6 40 rfl) rfl
theorem q1368 : (Jvm.Cond.laysFinal "SmokeWordModel" "SmokeWordModel" "bestRow" "[I") ∈ lw_all := lw_g (lw_at lw_m6 41 rfl) rfl
theorem q1369 : (Jvm.Cond.soleField "SmokeWordModel" "bestRow") ∈ lw_all := lw_g (lw_at lw_m6 42 rfl) rfl
theorem q1370 : (Jvm.Cond.lays "SmokeWordModel" "SmokeWordModel" "orderMost" "I") ∈ lw_all := lw_g (lw_at lw_m6 43 rfl) rfl
theorem q1371 : (Jvm.Cond.soleField "SmokeWordModel" "orderMost") ∈ lw_all := lw_g (lw_at lw_m6 44 rfl) rfl
theorem q1372 : (Jvm.Cond.laysFinal "SmokeWordModel" "SmokeWordModel" "hasBy" "[I") ∈ lw_all := lw_g (lw_at lw_m6 45 rfl) rfl
theorem q1373 : (Jvm.Cond.soleField "SmokeWordModel" "hasBy") ∈ lw_all := lw_g (lw_at lw_m6 46 rfl) rfl
theorem q1374 : (Jvm.Cond.laysFinal "SmokeWordModel" "SmokeWordModel" "isFit" "[Z") ∈ lw_all := lw_g (lw_at lw_m6 47 rfl) rfl
theorem q1375 : (Jvm.Cond.soleField "SmokeWordModel" "isFit") ∈ lw_all := lw_g (lw_at lw_m6 48 rfl) rfl
theorem q1376 : (Jvm.Cond.laysFinal "SmokeWordModel" "SmokeWordModel" "placeBy" "[I") ∈ lw_all := lw_g (lw_at lw_m6 49 rfl) rfl
theorem q1377 : (Jvm.Cond.soleField "SmokeWordModel" "placeBy") ∈ lw_all := lw_g (lw_at lw_m6 50 rfl) rfl
theorem q1378 : (Jvm.Cond.lays "SmokeWordModel" "SmokeWordModel" "drawX" "J") ∈ lw_all := lw_g (lw_at lw_m6 51 rfl) rfl
theorem q1379 : (Jvm.Cond.soleField "SmokeWordModel" "drawX") ∈ lw_all := lw_g (lw_at lw_m6 52 rfl) rfl
theorem q1380 : (Jvm.Cond.laysFinal "SmokeWordModel" "SmokeWordModel" "images" "[I") ∈ lw_all := lw_g (lw_at lw_m6 53 rfl) rfl
theorem q1381 : (Jvm.Cond.soleField "SmokeWordModel" "images") ∈ lw_all := lw_g (lw_at lw_m6 54 rfl) rfl
theorem q1382 : (Jvm.Cond.laysFinal "SmokeWordModel" "SmokeWordModel" "imageForce" "[I") ∈ lw_all := lw_g (lw_at lw_m6 55 rfl) rfl
theorem q1383 : (Jvm.Cond.soleField "SmokeWordModel" "imageForce") ∈ lw_all := lw_g (lw_at lw_m6 56 rfl) rfl
theorem q1384 : (Jvm.Cond.laysFinal "SmokeWordModel" "SmokeWordModel" "imageX" "[I") ∈ lw_all := lw_g (lw_at lw_m6 57 rfl) rfl
theorem q1385 : (Jvm.Cond.soleField "SmokeWordModel" "imageX") ∈ lw_all := lw_g (lw_at lw_m6 58 rfl) rfl
theorem q1386 : (Jvm.Cond.laysFinal "SmokeWordModel" "SmokeWordModel" "isMade" "[Z") ∈ lw_all := lw_g (lw_at lw_m6 59 rfl) rfl
theorem q1387 : (Jvm.Cond.soleField "SmokeWordModel" "isMade") ∈ lw_all := lw_g (lw_at lw_m6 60 rfl) rfl
theorem q1388 : (Jvm.Cond.superclass "SmokeWordModel" "java/lang/Object") ∈ lw_all := lw_g (lw_at lw_m6 61 rfl) rfl
theorem q1391 : (Jvm.Cond.instanceMethod ({ cls := "SmokeWordModel", name := "feed", desc := "(IIIII)I" } : Jvm.MethodName)) ∈ lw_all := lw_g (lw_at lw_m6 64 rfl) rfl
theorem q1392 : (Jvm.Cond.selects "SmokeWordModel" ({ cls := "SmokeWordModel", name := "feed", desc := "(IIIII)I" } : Jvm.MethodName) ({ cls := "SmokeWordModel", name := "feed", desc := "(IIIII)I" } : Jvm.MethodName)) ∈ lw_all := lw_g (lw_at lw_m6 65 rfl) rfl
theorem q1393 : (Jvm.Cond.code ({ cls := "SmokeWordModel", name := "feed", desc := "(IIIII)I" } : Jvm.MethodName) prog_19_method_6_code (6 : Nat) (Option.some Jvm.ClassFile.FieldType.int)) ∈ lw_all := lw_g (lw_at lw_m6 66 rfl) rfl
theorem q1394 : (Jvm.Cond.methodLink "SmokeWordModel" (86 : Nat) ({ cls := "SmokeWordModel", name := "four", desc := "(I)V" } : Jvm.MethodName)) ∈ lw_all := lw_g (lw_at lw_m6 67 rfl) rfl
theorem q1395 : (Jvm.Cond.privateMethod ({ cls := "SmokeWordModel", name := "four", desc := "(I)V" } : Jvm.MethodName)) ∈ lw_tbl := lw_at lw_m6 68 rfl
theorem q1396 : (Jvm.Cond.instanceMethod ({ cls := "SmokeWordModel", name := "four", desc := "(I)V" } : Jvm.MethodName)) ∈ lw_all := lw_g (lw_at lw_m6 69 rfl) rfl
theorem q1397 : (Jvm.Cond.code ({ cls := "SmokeWordModel", name := "four", desc := "(I)V" } : Jvm.MethodName) prog_19_method_5_code (3 : Nat) (Option.none : Option Jvm.ClassFile.FieldType)) ∈ lw_all := lw_g (lw_at lw_m6 70 rfl) rfl
theorem q1399 : (Jvm.Cond.instanceMethod ({ cls := "SmokeWordModel", name := "end", desc := "(I)I" } : Jvm.MethodName)) ∈ lw_all := lw_g (lw_at lw_m6 72 rfl) rfl
theorem q1400 : (Jvm.Cond.selects "SmokeWordModel" ({ cls := "SmokeWordModel", name := "end", desc := "(I)I" } : Jvm.MethodName) ({ cls := "SmokeWordModel", name := "end", desc := "(I)I" } : Jvm.MethodName)) ∈ lw_all := lw_g (lw_at lw_m6 73 rfl) rfl
theorem q1401 : (Jvm.Cond.code ({ cls := "SmokeWordModel", name := "end", desc := "(I)I" } : Jvm.MethodName) prog_19_method_7_code (2 : Nat) (Option.some Jvm.ClassFile.FieldType.int)) ∈ lw_all := lw_g (lw_at lw_m6 74 rfl) rfl
theorem q1403 : (Jvm.Cond.instanceMethod ({ cls := "SmokeWordModel", name := "rule", desc := "()I" } : Jvm.MethodName)) ∈ lw_all := lw_g (lw_at lw_m6 76 rfl) rfl
theorem q1404 : (Jvm.Cond.selects "SmokeWordModel" ({ cls := "SmokeWordModel", name := "rule", desc := "()I" } : Jvm.MethodName) ({ cls := "SmokeWordModel", name := "rule", desc := "()I" } : Jvm.MethodName)) ∈ lw_all := lw_g (lw_at lw_m6 77 rfl) rfl
theorem q1405 : (Jvm.Cond.code ({ cls := "SmokeWordModel", name := "rule", desc := "()I" } : Jvm.MethodName) prog_19_method_41_code (1 : Nat) (Option.some Jvm.ClassFile.FieldType.int)) ∈ lw_all := lw_g (lw_at lw_m6 78 rfl) rfl
theorem q1406 : (Jvm.Cond.methodLink "SmokeWordModel" (267 : Nat) ({ cls := "SmokeWordModel", name := "readsAll", desc := "()Z" } : Jvm.MethodName)) ∈ lw_all := lw_g (lw_at lw_m6 79 rfl) rfl
theorem q1407 : (Jvm.Cond.privateMethod ({ cls := "SmokeWordModel", name := "readsAll", desc := "()Z" } : Jvm.MethodName)) ∈ lw_tbl := lw_at lw_m6 80 rfl
theorem q1408 : (Jvm.Cond.instanceMethod ({ cls := "SmokeWordModel", name := "readsAll", desc := "()Z" } : Jvm.MethodName)) ∈ lw_all := lw_g (lw_at lw_m6 81 rfl) rfl
theorem q1409 : (Jvm.Cond.code ({ cls := "SmokeWordModel", name := "readsAll", desc := "()Z" } : Jvm.MethodName) prog_19_method_40_code (2 : Nat) (Option.some Jvm.ClassFile.FieldType.boolean)) ∈ lw_all := lw_g (lw_at lw_m6 82 rfl) rfl
theorem q1410 : (Jvm.Cond.methodLink "SmokeWordModel" (261 : Nat) ({ cls := "SmokeWordModel", name := "clauseHere", desc := "()Z" } : Jvm.MethodName)) ∈ lw_all := lw_g (lw_at lw_m6 83 rfl) rfl
theorem q1411 : (Jvm.Cond.privateMethod ({ cls := "SmokeWordModel", name := "clauseHere", desc := "()Z" } : Jvm.MethodName)) ∈ lw_tbl := lw_at lw_m6 84 rfl
theorem q1412 : (Jvm.Cond.instanceMethod ({ cls := "SmokeWordModel", name := "clauseHere", desc := "()Z" } : Jvm.MethodName)) ∈ lw_all := lw_g (lw_at lw_m6 85 rfl) rfl
theorem q1413 : (Jvm.Cond.code ({ cls := "SmokeWordModel", name := "clauseHere", desc := "()Z" } : Jvm.MethodName) prog_19_method_39_code (3 : Nat) (Option.some Jvm.ClassFile.FieldType.boolean)) ∈ lw_all := lw_g (lw_at lw_m6 86 rfl) rfl
theorem q1414 : (Jvm.Cond.methodLink "SmokeWordModel" (96 : Nat) ({ cls := "SmokeWordModel", name := "see", desc := "()I" } : Jvm.MethodName)) ∈ lw_all := lw_g (lw_at lw_m6 87 rfl) rfl
theorem q1415 : (Jvm.Cond.privateMethod ({ cls := "SmokeWordModel", name := "see", desc := "()I" } : Jvm.MethodName)) ∈ lw_tbl := lw_at lw_m6 88 rfl
theorem q1416 : (Jvm.Cond.instanceMethod ({ cls := "SmokeWordModel", name := "see", desc := "()I" } : Jvm.MethodName)) ∈ lw_all := lw_g (lw_at lw_m6 89 rfl) rfl
theorem q1417 : (Jvm.Cond.code ({ cls := "SmokeWordModel", name := "see", desc := "()I" } : Jvm.MethodName) prog_19_method_9_code (1 : Nat) (Option.some Jvm.ClassFile.FieldType.int)) ∈ lw_all := lw_g (lw_at lw_m6 90 rfl) rfl
theorem q1418 : (Jvm.Cond.methodLink "SmokeWordModel" (247 : Nat) ({ cls := "SmokeWordModel", name := "isValleyWord", desc := "()Z" } : Jvm.MethodName)) ∈ lw_all := lw_g (lw_at lw_m6 91 rfl) rfl
theorem q1419 : (Jvm.Cond.privateMethod ({ cls := "SmokeWordModel", name := "isValleyWord", desc := "()Z" } : Jvm.MethodName)) ∈ lw_tbl := lw_at lw_m6 92 rfl
theorem q1420 : (Jvm.Cond.instanceMethod ({ cls := "SmokeWordModel", name := "isValleyWord", desc := "()Z" } : Jvm.MethodName)) ∈ lw_all := lw_g (lw_at lw_m6 93 rfl) rfl
theorem q1421 : (Jvm.Cond.code ({ cls := "SmokeWordModel", name := "isValleyWord", desc := "()Z" } : Jvm.MethodName) prog_19_method_38_code (1 : Nat) (Option.some Jvm.ClassFile.FieldType.boolean)) ∈ lw_all := lw_g (lw_at lw_m6 94 rfl) rfl
theorem q1422 : (Jvm.Cond.constantLong "SmokeWordModel" (229 : Nat) (130160802948473 : Int64)) ∈ lw_all := lw_g (lw_at lw_m6 95 rfl) rfl
theorem q1423 : (Jvm.Cond.methodLink "SmokeWordModel" (104 : Nat) ({ cls := "SmokeWordModel", name := "isWord", desc := "(J)Z" } : Jvm.MethodName)) ∈ lw_all := lw_g (lw_at lw_m6 96 rfl) rfl
theorem q1424 : (Jvm.Cond.privateMethod ({ cls := "SmokeWordModel", name := "isWord", desc := "(J)Z" } : Jvm.MethodName)) ∈ lw_tbl := lw_at lw_m6 97 rfl
theorem q1425 : (Jvm.Cond.instanceMethod ({ cls := "SmokeWordModel", name := "isWord", desc := "(J)Z" } : Jvm.MethodName)) ∈ lw_all := lw_g (lw_at lw_m6 98 rfl) rfl
theorem q1426 : (Jvm.Cond.code ({ cls := "SmokeWordModel", name := "isWord", desc := "(J)Z" } : Jvm.MethodName) prog_19_method_12_code (6 : Nat) (Option.some Jvm.ClassFile.FieldType.boolean)) ∈ lw_all := lw_g (lw_at lw_m6 99 rfl) rfl
theorem q1427 : (Jvm.Cond.methodLink "SmokeWordModel" (100 : Nat) ({ cls := "SmokeWordModel", name := "isLetter", desc := "(I)Z" } : Jvm.MethodName)) ∈ lw_all := lw_g (lw_at lw_m6 100 rfl) rfl
theorem q1428 : (Jvm.Cond.privateMethod ({ cls := "SmokeWordModel", name := "isLetter", desc := "(I)Z" } : Jvm.MethodName)) ∈ lw_tbl := lw_at lw_m6 101 rfl
theorem q1429 : (Jvm.Cond.instanceMethod ({ cls := "SmokeWordModel", name := "isLetter", desc := "(I)Z" } : Jvm.MethodName)) ∈ lw_all := lw_g (lw_at lw_m6 102 rfl) rfl
theorem q1430 : (Jvm.Cond.code ({ cls := "SmokeWordModel", name := "isLetter", desc := "(I)Z" } : Jvm.MethodName) prog_19_method_11_code (2 : Nat) (Option.some Jvm.ClassFile.FieldType.boolean)) ∈ lw_all := lw_g (lw_at lw_m6 103 rfl) rfl
theorem q1431 : (Jvm.Cond.constantLong "SmokeWordModel" (125 : Nat) (448546567013 : Int64)) ∈ lw_all := lw_g (lw_at lw_m6 104 rfl) rfl
theorem q1432 : (Jvm.Cond.constantLong "SmokeWordModel" (237 : Nat) (1919902052 : Int64)) ∈ lw_all := lw_g (lw_at lw_m6 105 rfl) rfl
theorem q1433 : (Jvm.Cond.constantLong "SmokeWordModel" (245 : Nat) (108187867505765 : Int64)) ∈ lw_all := lw_g (lw_at lw_m6 106 rfl) rfl
theorem q1434 : (Jvm.Cond.constantLong "SmokeWordModel" (250 : Nat) (26479 : Int64)) ∈ lw_all := lw_g (lw_at lw_m6 107 rfl) rfl
theorem q1435 : (Jvm.Cond.methodLink "SmokeWordModel" (114 : Nat) ({ cls := "SmokeWordModel", name := "fails", desc := "(II)Z" } : Jvm.MethodName)) ∈ lw_all := lw_g (lw_at lw_m6 108 rfl) rfl
theorem q1436 : (Jvm.Cond.privateMethod ({ cls := "SmokeWordModel", name := "fails", desc := "(II)Z" } : Jvm.MethodName)) ∈ lw_tbl := lw_at lw_m6 109 rfl
theorem q1437 : (Jvm.Cond.instanceMethod ({ cls := "SmokeWordModel", name := "fails", desc := "(II)Z" } : Jvm.MethodName)) ∈ lw_all := lw_g (lw_at lw_m6 110 rfl) rfl
theorem q1438 : (Jvm.Cond.code ({ cls := "SmokeWordModel", name := "fails", desc := "(II)Z" } : Jvm.MethodName) prog_19_method_8_code (3 : Nat) (Option.some Jvm.ClassFile.FieldType.boolean)) ∈ lw_all := lw_g (lw_at lw_m6 111 rfl) rfl
theorem q1439 : (Jvm.Cond.methodLink "SmokeWordModel" (255 : Nat) ({ cls := "SmokeWordModel", name := "valleyLineHere", desc := "(I)Z" } : Jvm.MethodName)) ∈ lw_all := lw_g (lw_at lw_m6 112 rfl) rfl
theorem q1440 : (Jvm.Cond.privateMethod ({ cls := "SmokeWordModel", name := "valleyLineHere", desc := "(I)Z" } : Jvm.MethodName)) ∈ lw_tbl := lw_at lw_m6 113 rfl
theorem q1441 : (Jvm.Cond.instanceMethod ({ cls := "SmokeWordModel", name := "valleyLineHere", desc := "(I)Z" } : Jvm.MethodName)) ∈ lw_all := lw_g (lw_at lw_m6 114 rfl) rfl
theorem q1442 : (Jvm.Cond.code ({ cls := "SmokeWordModel", name := "valleyLineHere", desc := "(I)Z" } : Jvm.MethodName) prog_19_method_37_code (2 : Nat) (Option.some Jvm.ClassFile.FieldType.boolean)) ∈ lw_all := lw_g (lw_at lw_m6 115 rfl) rfl
theorem q1443 : (Jvm.Cond.methodLink "SmokeWordModel" (231 : Nat) ({ cls := "SmokeWordModel", name := "isValleyHere", desc := "(I)Z" } : Jvm.MethodName)) ∈ lw_all := lw_g (lw_at lw_m6 116 rfl) rfl
theorem q1444 : (Jvm.Cond.privateMethod ({ cls := "SmokeWordModel", name := "isValleyHere", desc := "(I)Z" } : Jvm.MethodName)) ∈ lw_tbl := lw_at lw_m6 117 rfl
theorem q1445 : (Jvm.Cond.instanceMethod ({ cls := "SmokeWordModel", name := "isValleyHere", desc := "(I)Z" } : Jvm.MethodName)) ∈ lw_all := lw_g (lw_at lw_m6 118 rfl) rfl
theorem q1446 : (Jvm.Cond.code ({ cls := "SmokeWordModel", name := "isValleyHere", desc := "(I)Z" } : Jvm.MethodName) prog_19_method_32_code (2 : Nat) (Option.some Jvm.ClassFile.FieldType.boolean)) ∈ lw_all := lw_g (lw_at lw_m6 119 rfl) rfl
theorem q1447 : (Jvm.Cond.methodLink "SmokeWordModel" (108 : Nat) ({ cls := "SmokeWordModel", name := "passWord", desc := "()V" } : Jvm.MethodName)) ∈ lw_all := lw_g (lw_at lw_m6 120 rfl) rfl
theorem q1448 : (Jvm.Cond.privateMethod ({ cls := "SmokeWordModel", name := "passWord", desc := "()V" } : Jvm.MethodName)) ∈ lw_tbl := lw_at lw_m6 121 rfl
theorem q1449 : (Jvm.Cond.instanceMethod ({ cls := "SmokeWordModel", name := "passWord", desc := "()V" } : Jvm.MethodName)) ∈ lw_all := lw_g (lw_at lw_m6 122 rfl) rfl
theorem q1450 : (Jvm.Cond.code ({ cls := "SmokeWordModel", name := "passWord", desc := "()V" } : Jvm.MethodName) prog_19_method_13_code (1 : Nat) (Option.none : Option Jvm.ClassFile.FieldType)) ∈ lw_all := lw_g (lw_at lw_m6 123 rfl) rfl
theorem q1451 : (Jvm.Cond.methodLink "SmokeWordModel" (219 : Nat) ({ cls := "SmokeWordModel", name := "cellHere", desc := "(III)Z" } : Jvm.MethodName)) ∈ lw_all := lw_g (lw_at lw_m6 124 rfl) rfl
theorem q1452 : (Jvm.Cond.privateMethod ({ cls := "SmokeWordModel", name := "cellHere", desc := "(III)Z" } : Jvm.MethodName)) ∈ lw_tbl := lw_at lw_m6 125 rfl
theorem q1453 : (Jvm.Cond.instanceMethod ({ cls := "SmokeWordModel", name := "cellHere", desc := "(III)Z" } : Jvm.MethodName)) ∈ lw_all := lw_g (lw_at lw_m6 126 rfl) rfl
theorem q1454 : (Jvm.Cond.code ({ cls := "SmokeWordModel", name := "cellHere", desc := "(III)Z" } : Jvm.MethodName) prog_19_method_31_code (4 : Nat) (Option.some Jvm.ClassFile.FieldType.boolean)) ∈ lw_all := lw_g (lw_at lw_m6 127 rfl) rfl
theorem q1455 : (Jvm.Cond.methodLink "SmokeWordModel" (168 : Nat) ({ cls := "SmokeWordModel", name := "numberHere", desc := "(II)Z" } : Jvm.MethodName)) ∈ lw_all := lw_g (lw_at lw_m6 128 rfl) rfl
theorem q1456 : (Jvm.Cond.privateMethod ({ cls := "SmokeWordModel", name := "numberHere", desc := "(II)Z" } : Jvm.MethodName)) ∈ lw_tbl := lw_at lw_m6 129 rfl
theorem q1457 : (Jvm.Cond.instanceMethod ({ cls := "SmokeWordModel", name := "numberHere", desc := "(II)Z" } : Jvm.MethodName)) ∈ lw_all := lw_g (lw_at lw_m6 130 rfl) rfl
theorem q1458 : (Jvm.Cond.code ({ cls := "SmokeWordModel", name := "numberHere", desc := "(II)Z" } : Jvm.MethodName) prog_19_method_15_code (5 : Nat) (Option.some Jvm.ClassFile.FieldType.boolean)) ∈ lw_all := lw_g (lw_at lw_m6 131 rfl) rfl
theorem q1459 : (Jvm.Cond.methodLink "SmokeWordModel" (111 : Nat) ({ cls := "SmokeWordModel", name := "isDigit", desc := "(I)Z" } : Jvm.MethodName)) ∈ lw_all := lw_g (lw_at lw_m6 132 rfl) rfl
theorem q1460 : (Jvm.Cond.privateMethod ({ cls := "SmokeWordModel", name := "isDigit", desc := "(I)Z" } : Jvm.MethodName)) ∈ lw_tbl := lw_at lw_m6 133 rfl
theorem q1461 : (Jvm.Cond.instanceMethod ({ cls := "SmokeWordModel", name := "isDigit", desc := "(I)Z" } : Jvm.MethodName)) ∈ lw_all := lw_g (lw_at lw_m6 134 rfl) rfl
theorem q1462 : (Jvm.Cond.code ({ cls := "SmokeWordModel", name := "isDigit", desc := "(I)Z" } : Jvm.MethodName) prog_19_method_10_code (2 : Nat) (Option.some Jvm.ClassFile.FieldType.boolean)) ∈ lw_all := lw_g (lw_at lw_m6 135 rfl) rfl
theorem q1463 : (Jvm.Cond.methodLink "SmokeWordModel" (121 : Nat) ({ cls := "SmokeWordModel", name := "in", desc := "(JJJ)Z" } : Jvm.MethodName)) ∈ lw_all := lw_g (lw_at lw_m6 136 rfl) rfl
theorem q1464 : (Jvm.Cond.static ({ cls := "SmokeWordModel", name := "in", desc := "(JJJ)Z" } : Jvm.MethodName)) ∈ lw_all := lw_g (lw_at lw_m6 137 rfl) rfl
theorem q1465 : (Jvm.Cond.code ({ cls := "SmokeWordModel", name := "in", desc := "(JJJ)Z" } : Jvm.MethodName) prog_19_method_2_code (6 : Nat) (Option.some Jvm.ClassFile.FieldType.boolean)) ∈ lw_all := lw_g (lw_at lw_m6 138 rfl) rfl
theorem q1466 : (Jvm.Cond.methodLink "SmokeWordModel" (234 : Nat) ({ cls := "SmokeWordModel", name := "isHouseHere", desc := "(I)Z" } : Jvm.MethodName)) ∈ lw_all := lw_g (lw_at lw_m6 139 rfl) rfl
theorem q1467 : (Jvm.Cond.privateMethod ({ cls := "SmokeWordModel", name := "isHouseHere", desc := "(I)Z" } : Jvm.MethodName)) ∈ lw_tbl := lw_at lw_m6 140 rfl
theorem q1468 : (Jvm.Cond.instanceMethod ({ cls := "SmokeWordModel", name := "isHouseHere", desc := "(I)Z" } : Jvm.MethodName)) ∈ lw_all := lw_g (lw_at lw_m6 141 rfl) rfl
theorem q1469 : (Jvm.Cond.code ({ cls := "SmokeWordModel", name := "isHouseHere", desc := "(I)Z" } : Jvm.MethodName) prog_19_method_33_code (3 : Nat) (Option.some Jvm.ClassFile.FieldType.boolean)) ∈ lw_all := lw_g (lw_at lw_m6 142 rfl) rfl
theorem q1470 : (Jvm.Cond.methodLink "SmokeWordModel" (239 : Nat) ({ cls := "SmokeWordModel", name := "isRoadHere", desc := "()Z" } : Jvm.MethodName)) ∈ lw_all := lw_g (lw_at lw_m6 143 rfl) rfl
theorem q1471 : (Jvm.Cond.privateMethod ({ cls := "SmokeWordModel", name := "isRoadHere", desc := "()Z" } : Jvm.MethodName)) ∈ lw_tbl := lw_at lw_m6 144 rfl
theorem q1472 : (Jvm.Cond.instanceMethod ({ cls := "SmokeWordModel", name := "isRoadHere", desc := "()Z" } : Jvm.MethodName)) ∈ lw_all := lw_g (lw_at lw_m6 145 rfl) rfl
theorem q1473 : (Jvm.Cond.code ({ cls := "SmokeWordModel", name := "isRoadHere", desc := "()Z" } : Jvm.MethodName) prog_19_method_35_code (3 : Nat) (Option.some Jvm.ClassFile.FieldType.boolean)) ∈ lw_all := lw_g (lw_at lw_m6 146 rfl) rfl
theorem q1474 : (Jvm.Cond.methodLink "SmokeWordModel" (226 : Nat) ({ cls := "SmokeWordModel", name := "areTwoHere", desc := "(I)Z" } : Jvm.MethodName)) ∈ lw_all := lw_g (lw_at lw_m6 147 rfl) rfl
theorem q1475 : (Jvm.Cond.privateMethod ({ cls := "SmokeWordModel", name := "areTwoHere", desc := "(I)Z" } : Jvm.MethodName)) ∈ lw_tbl := lw_at lw_m6 148 rfl
theorem q1476 : (Jvm.Cond.instanceMethod ({ cls := "SmokeWordModel", name := "areTwoHere", desc := "(I)Z" } : Jvm.MethodName)) ∈ lw_all := lw_g (lw_at lw_m6 149 rfl) rfl
theorem q1477 : (Jvm.Cond.code ({ cls := "SmokeWordModel", name := "areTwoHere", desc := "(I)Z" } : Jvm.MethodName) prog_19_method_34_code (3 : Nat) (Option.some Jvm.ClassFile.FieldType.boolean)) ∈ lw_all := lw_g (lw_at lw_m6 150 rfl) rfl
theorem q1478 : (Jvm.Cond.methodLink "SmokeWordModel" (242 : Nat) ({ cls := "SmokeWordModel", name := "isBesideHere", desc := "()Z" } : Jvm.MethodName)) ∈ lw_all := lw_g (lw_at lw_m6 151 rfl) rfl
theorem q1479 : (Jvm.Cond.privateMethod ({ cls := "SmokeWordModel", name := "isBesideHere", desc := "()Z" } : Jvm.MethodName)) ∈ lw_tbl := lw_at lw_m6 152 rfl
theorem q1480 : (Jvm.Cond.instanceMethod ({ cls := "SmokeWordModel", name := "isBesideHere", desc := "()Z" } : Jvm.MethodName)) ∈ lw_all := lw_g (lw_at lw_m6 153 rfl) rfl
theorem q1481 : (Jvm.Cond.code ({ cls := "SmokeWordModel", name := "isBesideHere", desc := "()Z" } : Jvm.MethodName) prog_19_method_36_code (1 : Nat) (Option.some Jvm.ClassFile.FieldType.boolean)) ∈ lw_all := lw_g (lw_at lw_m6 154 rfl) rfl
theorem q1482 : (Jvm.Cond.methodLink "SmokeWordModel" (258 : Nat) ({ cls := "SmokeWordModel", name := "isGoHere", desc := "()Z" } : Jvm.MethodName)) ∈ lw_all := lw_g (lw_at lw_m6 155 rfl) rfl
theorem q1483 : (Jvm.Cond.privateMethod ({ cls := "SmokeWordModel", name := "isGoHere", desc := "()Z" } : Jvm.MethodName)) ∈ lw_tbl := lw_at lw_m6 156 rfl
theorem q1484 : (Jvm.Cond.instanceMethod ({ cls := "SmokeWordModel", name := "isGoHere", desc := "()Z" } : Jvm.MethodName)) ∈ lw_all := lw_g (lw_at lw_m6 157 rfl) rfl
theorem q1485 : (Jvm.Cond.code ({ cls := "SmokeWordModel", name := "isGoHere", desc := "()Z" } : Jvm.MethodName) prog_19_method_30_code (2 : Nat) (Option.some Jvm.ClassFile.FieldType.boolean)) ∈ lw_all := lw_g (lw_at lw_m6 158 rfl) rfl
theorem q1486 : (Jvm.Cond.methodLink "SmokeWordModel" (184 : Nat) ({ cls := "SmokeWordModel", name := "sum", desc := "()Z" } : Jvm.MethodName)) ∈ lw_all := lw_g (lw_at lw_m6 159 rfl) rfl
theorem q1487 : (Jvm.Cond.privateMethod ({ cls := "SmokeWordModel", name := "sum", desc := "()Z" } : Jvm.MethodName)) ∈ lw_tbl := lw_at lw_m6 160 rfl
theorem q1488 : (Jvm.Cond.instanceMethod ({ cls := "SmokeWordModel", name := "sum", desc := "()Z" } : Jvm.MethodName)) ∈ lw_all := lw_g (lw_at lw_m6 161 rfl) rfl
theorem q1489 : (Jvm.Cond.code ({ cls := "SmokeWordModel", name := "sum", desc := "()Z" } : Jvm.MethodName) prog_19_method_24_code (2 : Nat) (Option.some Jvm.ClassFile.FieldType.boolean)) ∈ lw_all := lw_g (lw_at lw_m6 162 rfl) rfl
theorem q1490 : (Jvm.Cond.methodLink "SmokeWordModel" (181 : Nat) ({ cls := "SmokeWordModel", name := "term", desc := "()Z" } : Jvm.MethodName)) ∈ lw_all := lw_g (lw_at lw_m6 163 rfl) rfl
theorem q1491 : (Jvm.Cond.privateMethod ({ cls := "SmokeWordModel", name := "term", desc := "()Z" } : Jvm.MethodName)) ∈ lw_tbl := lw_at lw_m6 164 rfl
theorem q1492 : (Jvm.Cond.instanceMethod ({ cls := "SmokeWordModel", name := "term", desc := "()Z" } : Jvm.MethodName)) ∈ lw_all := lw_g (lw_at lw_m6 165 rfl) rfl
theorem q1493 : (Jvm.Cond.code ({ cls := "SmokeWordModel", name := "term", desc := "()Z" } : Jvm.MethodName) prog_19_method_23_code (2 : Nat) (Option.some Jvm.ClassFile.FieldType.boolean)) ∈ lw_all := lw_g (lw_at lw_m6 166 rfl) rfl
theorem q1494 : (Jvm.Cond.methodLink "SmokeWordModel" (177 : Nat) ({ cls := "SmokeWordModel", name := "value", desc := "()Z" } : Jvm.MethodName)) ∈ lw_all := lw_g (lw_at lw_m6 167 rfl) rfl
theorem q1495 : (Jvm.Cond.privateMethod ({ cls := "SmokeWordModel", name := "value", desc := "()Z" } : Jvm.MethodName)) ∈ lw_tbl := lw_at lw_m6 168 rfl
theorem q1496 : (Jvm.Cond.instanceMethod ({ cls := "SmokeWordModel", name := "value", desc := "()Z" } : Jvm.MethodName)) ∈ lw_all := lw_g (lw_at lw_m6 169 rfl) rfl
theorem q1497 : (Jvm.Cond.code ({ cls := "SmokeWordModel", name := "value", desc := "()Z" } : Jvm.MethodName) prog_19_method_22_code (3 : Nat) (Option.some Jvm.ClassFile.FieldType.boolean)) ∈ lw_all := lw_g (lw_at lw_m6 170 rfl) rfl
theorem q1498 : (Jvm.Cond.constant "SmokeWordModel" (167 : Nat) (99999 : Int32)) ∈ lw_all := lw_g (lw_at lw_m6 171 rfl) rfl
theorem q1499 : (Jvm.Cond.methodLink "SmokeWordModel" (171 : Nat) ({ cls := "SmokeWordModel", name := "makes", desc := "(I)Z" } : Jvm.MethodName)) ∈ lw_all := lw_g (lw_at lw_m6 172 rfl) rfl
theorem q1500 : (Jvm.Cond.privateMethod ({ cls := "SmokeWordModel", name := "makes", desc := "(I)Z" } : Jvm.MethodName)) ∈ lw_tbl := lw_at lw_m6 173 rfl
theorem q1501 : (Jvm.Cond.instanceMethod ({ cls := "SmokeWordModel", name := "makes", desc := "(I)Z" } : Jvm.MethodName)) ∈ lw_all := lw_g (lw_at lw_m6 174 rfl) rfl
theorem q1502 : (Jvm.Cond.code ({ cls := "SmokeWordModel", name := "makes", desc := "(I)Z" } : Jvm.MethodName) prog_19_method_18_code (2 : Nat) (Option.some Jvm.ClassFile.FieldType.boolean)) ∈ lw_all := lw_g (lw_at lw_m6 175 rfl) rfl
theorem q1503 : (Jvm.Cond.methodLink "SmokeWordModel" (163 : Nat) ({ cls := "SmokeWordModel", name := "puts", desc := "(II)V" } : Jvm.MethodName)) ∈ lw_all := lw_g (lw_at lw_m6 176 rfl) rfl
theorem q1504 : (Jvm.Cond.privateMethod ({ cls := "SmokeWordModel", name := "puts", desc := "(II)V" } : Jvm.MethodName)) ∈ lw_tbl := lw_at lw_m6 177 rfl
theorem q1505 : (Jvm.Cond.instanceMethod ({ cls := "SmokeWordModel", name := "puts", desc := "(II)V" } : Jvm.MethodName)) ∈ lw_all := lw_g (lw_at lw_m6 178 rfl) rfl
theorem q1506 : (Jvm.Cond.code ({ cls := "SmokeWordModel", name := "puts", desc := "(II)V" } : Jvm.MethodName) prog_19_method_17_code (3 : Nat) (Option.none : Option Jvm.ClassFile.FieldType)) ∈ lw_all := lw_g (lw_at lw_m6 179 rfl) rfl
theorem q1507 : (Jvm.Cond.methodLink "SmokeWordModel" (174 : Nat) ({ cls := "SmokeWordModel", name := "wordHere", desc := "()I" } : Jvm.MethodName)) ∈ lw_all := lw_g (lw_at lw_m6 180 rfl) rfl
theorem q1508 : (Jvm.Cond.privateMethod ({ cls := "SmokeWordModel", name := "wordHere", desc := "()I" } : Jvm.MethodName)) ∈ lw_tbl := lw_at lw_m6 181 rfl
theorem q1509 : (Jvm.Cond.instanceMethod ({ cls := "SmokeWordModel", name := "wordHere", desc := "()I" } : Jvm.MethodName)) ∈ lw_all := lw_g (lw_at lw_m6 182 rfl) rfl
theorem q1510 : (Jvm.Cond.code ({ cls := "SmokeWordModel", name := "wordHere", desc := "()I" } : Jvm.MethodName) prog_19_method_16_code (1 : Nat) (Option.some Jvm.ClassFile.FieldType.int)) ∈ lw_all := lw_g (lw_at lw_m6 183 rfl) rfl
theorem q1511 : (Jvm.Cond.constantLong "SmokeWordModel" (127 : Nat) (1935767923 : Int64)) ∈ lw_all := lw_g (lw_at lw_m6 184 rfl) rfl
theorem q1512 : (Jvm.Cond.constantLong "SmokeWordModel" (129 : Nat) (512970880104 : Int64)) ∈ lw_all := lw_g (lw_at lw_m6 185 rfl) rfl
theorem q1513 : (Jvm.Cond.constantLong "SmokeWordModel" (131 : Nat) (495757257573 : Int64)) ∈ lw_all := lw_g (lw_at lw_m6 186 rfl) rfl
theorem q1514 : (Jvm.Cond.constantLong "SmokeWordModel" (133 : Nat) (6709618 : Int64)) ∈ lw_all := lw_g (lw_at lw_m6 187 rfl) rfl
theorem q1515 : (Jvm.Cond.constantLong "SmokeWordModel" (135 : Nat) (1852137842 : Int64)) ∈ lw_all := lw_g (lw_at lw_m6 188 rfl) rfl
theorem q1516 : (Jvm.Cond.constantLong "SmokeWordModel" (137 : Nat) (439855768947 : Int64)) ∈ lw_all := lw_g (lw_at lw_m6 189 rfl) rfl
theorem q1517 : (Jvm.Cond.constantLong "SmokeWordModel" (139 : Nat) (1819243380 : Int64)) ∈ lw_all := lw_g (lw_at lw_m6 190 rfl) rfl
theorem q1518 : (Jvm.Cond.constantLong "SmokeWordModel" (141 : Nat) (1650812270 : Int64)) ∈ lw_all := lw_g (lw_at lw_m6 191 rfl) rfl
theorem q1519 : (Jvm.Cond.constantLong "SmokeWordModel" (143 : Nat) (512736126322 : Int64)) ∈ lw_all := lw_g (lw_at lw_m6 192 rfl) rfl
theorem q1520 : (Jvm.Cond.constantLong "SmokeWordModel" (145 : Nat) (1752135026 : Int64)) ∈ lw_all := lw_g (lw_at lw_m6 193 rfl) rfl
theorem q1521 : (Jvm.Cond.constantLong "SmokeWordModel" (211 : Nat) (26982 : Int64)) ∈ lw_all := lw_g (lw_at lw_m6 194 rfl) rfl
theorem q1522 : (Jvm.Cond.methodLink "SmokeWordModel" (213 : Nat) ({ cls := "SmokeWordModel", name := "takesWord", desc := "(J)Z" } : Jvm.MethodName)) ∈ lw_all := lw_g (lw_at lw_m6 195 rfl) rfl
theorem q1523 : (Jvm.Cond.privateMethod ({ cls := "SmokeWordModel", name := "takesWord", desc := "(J)Z" } : Jvm.MethodName)) ∈ lw_tbl := lw_at lw_m6 196 rfl
theorem q1524 : (Jvm.Cond.instanceMethod ({ cls := "SmokeWordModel", name := "takesWord", desc := "(J)Z" } : Jvm.MethodName)) ∈ lw_all := lw_g (lw_at lw_m6 197 rfl) rfl
theorem q1525 : (Jvm.Cond.code ({ cls := "SmokeWordModel", name := "takesWord", desc := "(J)Z" } : Jvm.MethodName) prog_19_method_14_code (3 : Nat) (Option.some Jvm.ClassFile.FieldType.boolean)) ∈ lw_all := lw_g (lw_at lw_m6 198 rfl) rfl
theorem q1526 : (Jvm.Cond.methodLink "SmokeWordModel" (216 : Nat) ({ cls := "SmokeWordModel", name := "tested", desc := "()Z" } : Jvm.MethodName)) ∈ lw_all := lw_g (lw_at lw_m6 199 rfl) rfl
theorem q1527 : (Jvm.Cond.privateMethod ({ cls := "SmokeWordModel", name := "tested", desc := "()Z" } : Jvm.MethodName)) ∈ lw_tbl := lw_at lw_m6 200 rfl
theorem q1528 : (Jvm.Cond.instanceMethod ({ cls := "SmokeWordModel", name := "tested", desc := "()Z" } : Jvm.MethodName)) ∈ lw_all := lw_g (lw_at lw_m6 201 rfl) rfl
theorem q1529 : (Jvm.Cond.code ({ cls := "SmokeWordModel", name := "tested", desc := "()Z" } : Jvm.MethodName) prog_19_method_29_code (3 : Nat) (Option.some Jvm.ClassFile.FieldType.boolean)) ∈ lw_all := lw_g (lw_at lw_m6 202 rfl) rfl
theorem q1530 : (Jvm.Cond.methodLink "SmokeWordModel" (201 : Nat) ({ cls := "SmokeWordModel", name := "fact", desc := "()Z" } : Jvm.MethodName)) ∈ lw_all := lw_g (lw_at lw_m6 203 rfl) rfl
theorem q1531 : (Jvm.Cond.privateMethod ({ cls := "SmokeWordModel", name := "fact", desc := "()Z" } : Jvm.MethodName)) ∈ lw_tbl := lw_at lw_m6 204 rfl
theorem q1532 : (Jvm.Cond.instanceMethod ({ cls := "SmokeWordModel", name := "fact", desc := "()Z" } : Jvm.MethodName)) ∈ lw_all := lw_g (lw_at lw_m6 205 rfl) rfl
theorem q1533 : (Jvm.Cond.code ({ cls := "SmokeWordModel", name := "fact", desc := "()Z" } : Jvm.MethodName) prog_19_method_26_code (3 : Nat) (Option.some Jvm.ClassFile.FieldType.boolean)) ∈ lw_all := lw_g (lw_at lw_m6 206 rfl) rfl
theorem q1534 : (Jvm.Cond.constantLong "SmokeWordModel" (187 : Nat) (7237492 : Int64)) ∈ lw_all := lw_g (lw_at lw_m6 207 rfl) rfl
theorem q1535 : (Jvm.Cond.methodLink "SmokeWordModel" (189 : Nat) ({ cls := "SmokeWordModel", name := "opens", desc := "(I)Z" } : Jvm.MethodName)) ∈ lw_all := lw_g (lw_at lw_m6 208 rfl) rfl
theorem q1536 : (Jvm.Cond.privateMethod ({ cls := "SmokeWordModel", name := "opens", desc := "(I)Z" } : Jvm.MethodName)) ∈ lw_tbl := lw_at lw_m6 209 rfl
theorem q1537 : (Jvm.Cond.instanceMethod ({ cls := "SmokeWordModel", name := "opens", desc := "(I)Z" } : Jvm.MethodName)) ∈ lw_all := lw_g (lw_at lw_m6 210 rfl) rfl
theorem q1538 : (Jvm.Cond.code ({ cls := "SmokeWordModel", name := "opens", desc := "(I)Z" } : Jvm.MethodName) prog_19_method_19_code (2 : Nat) (Option.some Jvm.ClassFile.FieldType.boolean)) ∈ lw_all := lw_g (lw_at lw_m6 211 rfl) rfl
theorem q1539 : (Jvm.Cond.methodLink "SmokeWordModel" (192 : Nat) ({ cls := "SmokeWordModel", name := "compare", desc := "()Z" } : Jvm.MethodName)) ∈ lw_all := lw_g (lw_at lw_m6 212 rfl) rfl
theorem q1540 : (Jvm.Cond.privateMethod ({ cls := "SmokeWordModel", name := "compare", desc := "()Z" } : Jvm.MethodName)) ∈ lw_tbl := lw_at lw_m6 213 rfl
theorem q1541 : (Jvm.Cond.instanceMethod ({ cls := "SmokeWordModel", name := "compare", desc := "()Z" } : Jvm.MethodName)) ∈ lw_all := lw_g (lw_at lw_m6 214 rfl) rfl
theorem q1542 : (Jvm.Cond.code ({ cls := "SmokeWordModel", name := "compare", desc := "()Z" } : Jvm.MethodName) prog_19_method_25_code (5 : Nat) (Option.some Jvm.ClassFile.FieldType.boolean)) ∈ lw_all := lw_g (lw_at lw_m6 215 rfl) rfl
theorem q1543 : (Jvm.Cond.methodLink "SmokeWordModel" (204 : Nat) ({ cls := "SmokeWordModel", name := "closes", desc := "()V" } : Jvm.MethodName)) ∈ lw_all := lw_g (lw_at lw_m6 216 rfl) rfl
theorem q1544 : (Jvm.Cond.privateMethod ({ cls := "SmokeWordModel", name := "closes", desc := "()V" } : Jvm.MethodName)) ∈ lw_tbl := lw_at lw_m6 217 rfl
theorem q1545 : (Jvm.Cond.instanceMethod ({ cls := "SmokeWordModel", name := "closes", desc := "()V" } : Jvm.MethodName)) ∈ lw_all := lw_g (lw_at lw_m6 218 rfl) rfl
theorem q1546 : (Jvm.Cond.code ({ cls := "SmokeWordModel", name := "closes", desc := "()V" } : Jvm.MethodName) prog_19_method_28_code (1 : Nat) (Option.none : Option Jvm.ClassFile.FieldType)) ∈ lw_all := lw_g (lw_at lw_m6 219 rfl) rfl
theorem q1547 : (Jvm.Cond.methodLink "SmokeWordModel" (195 : Nat) ({ cls := "SmokeWordModel", name := "layDown", desc := "(I)V" } : Jvm.MethodName)) ∈ lw_all := lw_g (lw_at lw_m6 220 rfl) rfl
theorem q1548 : (Jvm.Cond.privateMethod ({ cls := "SmokeWordModel", name := "layDown", desc := "(I)V" } : Jvm.MethodName)) ∈ lw_tbl := lw_at lw_m6 221 rfl
theorem q1549 : (Jvm.Cond.instanceMethod ({ cls := "SmokeWordModel", name := "layDown", desc := "(I)V" } : Jvm.MethodName)) ∈ lw_all := lw_g (lw_at lw_m6 222 rfl) rfl
theorem q1550 : (Jvm.Cond.code ({ cls := "SmokeWordModel", name := "layDown", desc := "(I)V" } : Jvm.MethodName) prog_19_method_21_code (2 : Nat) (Option.none : Option Jvm.ClassFile.FieldType)) ∈ lw_all := lw_g (lw_at lw_m6 223 rfl) rfl
theorem q1551 : (Jvm.Cond.methodLink "SmokeWordModel" (159 : Nat) ({ cls := "SmokeWordModel", name := "strength", desc := "(I)I" } : Jvm.MethodName)) ∈ lw_all := lw_g (lw_at lw_m6 224 rfl) rfl
theorem q1552 : (Jvm.Cond.static ({ cls := "SmokeWordModel", name := "strength", desc := "(I)I" } : Jvm.MethodName)) ∈ lw_all := lw_g (lw_at lw_m6 225 rfl) rfl
theorem q1553 : (Jvm.Cond.code ({ cls := "SmokeWordModel", name := "strength", desc := "(I)I" } : Jvm.MethodName) prog_19_method_20_code (1 : Nat) (Option.some Jvm.ClassFile.FieldType.int)) ∈ lw_all := lw_g (lw_at lw_m6 226 rfl) rfl
theorem q1554 : (Jvm.Cond.methodLink "SmokeWordModel" (198 : Nat) ({ cls := "SmokeWordModel", name := "isInside", desc := "()Z" } : Jvm.MethodName)) ∈ lw_all := lw_g (lw_at lw_m6 227 rfl) rfl
theorem q1555 : (Jvm.Cond.privateMethod ({ cls := "SmokeWordModel", name := "isInside", desc := "()Z" } : Jvm.MethodName)) ∈ lw_tbl := lw_at lw_m6 228 rfl
theorem q1556 : (Jvm.Cond.instanceMethod ({ cls := "SmokeWordModel", name := "isInside", desc := "()Z" } : Jvm.MethodName)) ∈ lw_all := lw_g (lw_at lw_m6 229 rfl) rfl
theorem q1557 : (Jvm.Cond.code ({ cls := "SmokeWordModel", name := "isInside", desc := "()Z" } : Jvm.MethodName) prog_19_method_27_code (2 : Nat) (Option.some Jvm.ClassFile.FieldType.boolean)) ∈ lw_all := lw_g (lw_at lw_m6 230 rfl) rfl
theorem q1558 : (Jvm.Cond.constantLong "SmokeWordModel" (207 : Nat) (6385252 : Int64)) ∈ lw_all := lw_g (lw_at lw_m6 231 rfl) rfl
theorem q1559 : (Jvm.Cond.constantLong "SmokeWordModel" (209 : Nat) (28530 : Int64)) ∈ lw_all := lw_g (lw_at lw_m6 232 rfl) rfl
theorem q1561 : (Jvm.Cond.instanceMethod ({ cls := "SmokeWordModel", name := "valley", desc := "()I" } : Jvm.MethodName)) ∈ lw_all := lw_g (lw_at lw_m6 234 rfl) rfl
theorem q1562 : (Jvm.Cond.selects "SmokeWordModel" ({ cls := "SmokeWordModel", name := "valley", desc := "()I" } : Jvm.MethodName) ({ cls := "SmokeWordModel", name := "valley", desc := "()I" } : Jvm.MethodName)) ∈ lw_all := lw_g (lw_at lw_m6 235 rfl) rfl
theorem q1563 : (Jvm.Cond.code ({ cls := "SmokeWordModel", name := "valley", desc := "()I" } : Jvm.MethodName) prog_19_method_42_code (2 : Nat) (Option.some Jvm.ClassFile.FieldType.int)) ∈ lw_all := lw_g (lw_at lw_m6 236 rfl) rfl
theorem q1564 : (Jvm.Cond.methodLink "SmokeWordModel" (270 : Nat) ({ cls := "SmokeWordModel", name := "measures", desc := "()V" } : Jvm.MethodName)) ∈ lw_all := lw_g (lw_at lw_m6 237 rfl) rfl
theorem q1565 : (Jvm.Cond.privateMethod ({ cls := "SmokeWordModel", name := "measures", desc := "()V" } : Jvm.MethodName)) ∈ lw_tbl := lw_at lw_m6 238 rfl
theorem q1566 : (Jvm.Cond.instanceMethod ({ cls := "SmokeWordModel", name := "measures", desc := "()V" } : Jvm.MethodName)) ∈ lw_all := lw_g (lw_at lw_m6 239 rfl) rfl
theorem q1567 : (Jvm.Cond.code ({ cls := "SmokeWordModel", name := "measures", desc := "()V" } : Jvm.MethodName) prog_19_method_58_code (5 : Nat) (Option.none : Option Jvm.ClassFile.FieldType)) ∈ lw_all := lw_g (lw_at lw_m7 0 rfl) rfl
theorem q1568 : (Jvm.Cond.methodLink "SmokeWordModel" (306 : Nat) ({ cls := "SmokeWordModel", name := "farOf", desc := "(II)I" } : Jvm.MethodName)) ∈ lw_all := lw_g (lw_at lw_m7 1 rfl) rfl
theorem q1569 : (Jvm.Cond.privateMethod ({ cls := "SmokeWordModel", name := "farOf", desc := "(II)I" } : Jvm.MethodName)) ∈ lw_tbl := lw_at lw_m7 2 rfl
theorem q1570 : (Jvm.Cond.instanceMethod ({ cls := "SmokeWordModel", name := "farOf", desc := "(II)I" } : Jvm.MethodName)) ∈ lw_all := lw_g (lw_at lw_m7 3 rfl) rfl
theorem q1571 : (Jvm.Cond.code ({ cls := "SmokeWordModel", name := "farOf", desc := "(II)I" } : Jvm.MethodName) prog_19_method_53_code (3 : Nat) (Option.some Jvm.ClassFile.FieldType.int)) ∈ lw_all := lw_g (lw_at lw_m7 4 rfl) rfl
theorem q1572 : (Jvm.Cond.methodLink "SmokeWordModel" (273 : Nat) ({ cls := "SmokeWordModel", name := "begins", desc := "()V" } : Jvm.MethodName)) ∈ lw_all := lw_g (lw_at lw_m7 5 rfl) rfl
theorem q1573 : (Jvm.Cond.privateMethod ({ cls := "SmokeWordModel", name := "begins", desc := "()V" } : Jvm.MethodName)) ∈ lw_tbl := lw_at lw_m7 6 rfl
theorem q1574 : (Jvm.Cond.instanceMethod ({ cls := "SmokeWordModel", name := "begins", desc := "()V" } : Jvm.MethodName)) ∈ lw_all := lw_g (lw_at lw_m7 7 rfl) rfl
theorem q1575 : (Jvm.Cond.code ({ cls := "SmokeWordModel", name := "begins", desc := "()V" } : Jvm.MethodName) prog_19_method_59_code (3 : Nat) (Option.none : Option Jvm.ClassFile.FieldType)) ∈ lw_all := lw_g (lw_at lw_m7 8 rfl) rfl
theorem q1577 : (Jvm.Cond.instanceMethod ({ cls := "SmokeWordModel", name := "force", desc := "(I)I" } : Jvm.MethodName)) ∈ lw_all := lw_g (lw_at lw_m7 10 rfl) rfl
theorem q1578 : (Jvm.Cond.selects "SmokeWordModel" ({ cls := "SmokeWordModel", name := "force", desc := "(I)I" } : Jvm.MethodName) ({ cls := "SmokeWordModel", name := "force", desc := "(I)I" } : Jvm.MethodName)) ∈ lw_all := lw_g (lw_at lw_m7 11 rfl) rfl
theorem q1579 : (Jvm.Cond.code ({ cls := "SmokeWordModel", name := "force", desc := "(I)I" } : Jvm.MethodName) prog_19_method_60_code (3 : Nat) (Option.some Jvm.ClassFile.FieldType.int)) ∈ lw_all := lw_g (lw_at lw_m7 12 rfl) rfl
theorem q1580 : (Jvm.Cond.methodLink "SmokeWordModel" (310 : Nat) ({ cls := "SmokeWordModel", name := "isRule", desc := "(I)Z" } : Jvm.MethodName)) ∈ lw_all := lw_g (lw_at lw_m7 13 rfl) rfl
theorem q1581 : (Jvm.Cond.privateMethod ({ cls := "SmokeWordModel", name := "isRule", desc := "(I)Z" } : Jvm.MethodName)) ∈ lw_tbl := lw_at lw_m7 14 rfl
theorem q1582 : (Jvm.Cond.instanceMethod ({ cls := "SmokeWordModel", name := "isRule", desc := "(I)Z" } : Jvm.MethodName)) ∈ lw_all := lw_g (lw_at lw_m7 15 rfl) rfl
theorem q1583 : (Jvm.Cond.code ({ cls := "SmokeWordModel", name := "isRule", desc := "(I)Z" } : Jvm.MethodName) prog_19_method_43_code (2 : Nat) (Option.some Jvm.ClassFile.FieldType.boolean)) ∈ lw_all := lw_g (lw_at lw_m7 16 rfl) rfl
theorem q1585 : (Jvm.Cond.instanceMethod ({ cls := "SmokeWordModel", name := "house", desc := "(II)I" } : Jvm.MethodName)) ∈ lw_all := lw_g (lw_at lw_m7 18 rfl) rfl
theorem q1586 : (Jvm.Cond.selects "SmokeWordModel" ({ cls := "SmokeWordModel", name := "house", desc := "(II)I" } : Jvm.MethodName) ({ cls := "SmokeWordModel", name := "house", desc := "(II)I" } : Jvm.MethodName)) ∈ lw_all := lw_g (lw_at lw_m7 19 rfl) rfl
theorem q1587 : (Jvm.Cond.code ({ cls := "SmokeWordModel", name := "house", desc := "(II)I" } : Jvm.MethodName) prog_19_method_61_code (3 : Nat) (Option.some Jvm.ClassFile.FieldType.int)) ∈ lw_all := lw_g (lw_at lw_m7 20 rfl) rfl
theorem q1588 : (Jvm.Cond.methodLink "SmokeWordModel" (313 : Nat) ({ cls := "SmokeWordModel", name := "isHouse", desc := "(I)Z" } : Jvm.MethodName)) ∈ lw_all := lw_g (lw_at lw_m7 21 rfl) rfl
theorem q1589 : (Jvm.Cond.privateMethod ({ cls := "SmokeWordModel", name := "isHouse", desc := "(I)Z" } : Jvm.MethodName)) ∈ lw_tbl := lw_at lw_m7 22 rfl
theorem q1590 : (Jvm.Cond.instanceMethod ({ cls := "SmokeWordModel", name := "isHouse", desc := "(I)Z" } : Jvm.MethodName)) ∈ lw_all := lw_g (lw_at lw_m7 23 rfl) rfl
theorem q1591 : (Jvm.Cond.code ({ cls := "SmokeWordModel", name := "isHouse", desc := "(I)Z" } : Jvm.MethodName) prog_19_method_49_code (2 : Nat) (Option.some Jvm.ClassFile.FieldType.boolean)) ∈ lw_all := lw_g (lw_at lw_m7 24 rfl) rfl
theorem q1593 : (Jvm.Cond.instanceMethod ({ cls := "SmokeWordModel", name := "far", desc := "(II)I" } : Jvm.MethodName)) ∈ lw_all := lw_g (lw_at lw_m7 26 rfl) rfl
theorem q1594 : (Jvm.Cond.selects "SmokeWordModel" ({ cls := "SmokeWordModel", name := "far", desc := "(II)I" } : Jvm.MethodName) ({ cls := "SmokeWordModel", name := "far", desc := "(II)I" } : Jvm.MethodName)) ∈ lw_all := lw_g (lw_at lw_m7 27 rfl) rfl
theorem q1595 : (Jvm.Cond.code ({ cls := "SmokeWordModel", name := "far", desc := "(II)I" } : Jvm.MethodName) prog_19_method_63_code (3 : Nat) (Option.some Jvm.ClassFile.FieldType.int)) ∈ lw_all := lw_g (lw_at lw_m7 28 rfl) rfl
theorem q1596 : (Jvm.Cond.methodLink "SmokeWordModel" (319 : Nat) ({ cls := "SmokeWordModel", name := "isPlace", desc := "(I)Z" } : Jvm.MethodName)) ∈ lw_all := lw_g (lw_at lw_m7 29 rfl) rfl
theorem q1597 : (Jvm.Cond.privateMethod ({ cls := "SmokeWordModel", name := "isPlace", desc := "(I)Z" } : Jvm.MethodName)) ∈ lw_tbl := lw_at lw_m7 30 rfl
theorem q1598 : (Jvm.Cond.instanceMethod ({ cls := "SmokeWordModel", name := "isPlace", desc := "(I)Z" } : Jvm.MethodName)) ∈ lw_all := lw_g (lw_at lw_m7 31 rfl) rfl
theorem q1599 : (Jvm.Cond.code ({ cls := "SmokeWordModel", name := "isPlace", desc := "(I)Z" } : Jvm.MethodName) prog_19_method_62_code (2 : Nat) (Option.some Jvm.ClassFile.FieldType.boolean)) ∈ lw_all := lw_g (lw_at lw_m7 32 rfl) rfl
theorem q1600 : (Jvm.Cond.methodLink "SmokeWordModel" (316 : Nat) ({ cls := "SmokeWordModel", name := "isValley", desc := "()Z" } : Jvm.MethodName)) ∈ lw_all := lw_g (lw_at lw_m7 33 rfl) rfl
theorem q1601 : (Jvm.Cond.privateMethod ({ cls := "SmokeWordModel", name := "isValley", desc := "()Z" } : Jvm.MethodName)) ∈ lw_tbl := lw_at lw_m7 34 rfl
theorem q1602 : (Jvm.Cond.instanceMethod ({ cls := "SmokeWordModel", name := "isValley", desc := "()Z" } : Jvm.MethodName)) ∈ lw_all := lw_g (lw_at lw_m7 35 rfl) rfl
theorem q1603 : (Jvm.Cond.code ({ cls := "SmokeWordModel", name := "isValley", desc := "()Z" } : Jvm.MethodName) prog_19_method_48_code (1 : Nat) (Option.some Jvm.ClassFile.FieldType.boolean)) ∈ lw_all := lw_g (lw_at lw_m7 36 rfl) rfl
theorem q1605 : (Jvm.Cond.instanceMethod ({ cls := "SmokeWordModel", name := "undo", desc := "()I" } : Jvm.MethodName)) ∈ lw_all := lw_g (lw_at lw_m7 38 rfl) rfl
theorem q1606 : (Jvm.Cond.selects "SmokeWordModel" ({ cls := "SmokeWordModel", name := "undo", desc := "()I" } : Jvm.MethodName) ({ cls := "SmokeWordModel", name := "undo", desc := "()I" } : Jvm.MethodName)) ∈ lw_all := lw_g (lw_at lw_m7 39 rfl) rfl
theorem q1607 : (Jvm.Cond.code ({ cls := "SmokeWordModel", name := "undo", desc := "()I" } : Jvm.MethodName) prog_19_method_77_code (2 : Nat) (Option.some Jvm.ClassFile.FieldType.int)) ∈ lw_all := lw_g (lw_at lw_m7 40 rfl) rfl
theorem q1609 : (Jvm.Cond.instanceMethod ({ cls := "SmokeWordModel", name := "hour", desc := "()I" } : Jvm.MethodName)) ∈ lw_all := lw_g (lw_at lw_m7 42 rfl) rfl
theorem q1610 : (Jvm.Cond.selects "SmokeWordModel" ({ cls := "SmokeWordModel", name := "hour", desc := "()I" } : Jvm.MethodName) ({ cls := "SmokeWordModel", name := "hour", desc := "()I" } : Jvm.MethodName)) ∈ lw_all := lw_g (lw_at lw_m7 43 rfl) rfl
theorem q1611 : (Jvm.Cond.code ({ cls := "SmokeWordModel", name := "hour", desc := "()I" } : Jvm.MethodName) prog_19_method_78_code (1 : Nat) (Option.some Jvm.ClassFile.FieldType.int)) ∈ lw_all := lw_g (lw_at lw_m7 44 rfl) rfl
theorem q1612 : (Jvm.Cond.methodLink "SmokeWordModel" (384 : Nat) ({ cls := "SmokeWordModel", name := "keepsAct", desc := "()V" } : Jvm.MethodName)) ∈ lw_all := lw_g (lw_at lw_m7 45 rfl) rfl
theorem q1613 : (Jvm.Cond.privateMethod ({ cls := "SmokeWordModel", name := "keepsAct", desc := "()V" } : Jvm.MethodName)) ∈ lw_tbl := lw_at lw_m7 46 rfl
theorem q1614 : (Jvm.Cond.instanceMethod ({ cls := "SmokeWordModel", name := "keepsAct", desc := "()V" } : Jvm.MethodName)) ∈ lw_all := lw_g (lw_at lw_m7 47 rfl) rfl
theorem q1615 : (Jvm.Cond.code ({ cls := "SmokeWordModel", name := "keepsAct", desc := "()V" } : Jvm.MethodName) prog_19_method_76_code (2 : Nat) (Option.none : Option Jvm.ClassFile.FieldType)) ∈ lw_all := lw_g (lw_at lw_m7 48 rfl) rfl
theorem q1616 : (Jvm.Cond.methodLink "SmokeWordModel" (381 : Nat) ({ cls := "SmokeWordModel", name := "passes", desc := "()I" } : Jvm.MethodName)) ∈ lw_all := lw_g (lw_at lw_m7 49 rfl) rfl
theorem q1617 : (Jvm.Cond.privateMethod ({ cls := "SmokeWordModel", name := "passes", desc := "()I" } : Jvm.MethodName)) ∈ lw_tbl := lw_at lw_m7 50 rfl
theorem q1618 : (Jvm.Cond.instanceMethod ({ cls := "SmokeWordModel", name := "passes", desc := "()I" } : Jvm.MethodName)) ∈ lw_all := lw_g (lw_at lw_m7 51 rfl) rfl
theorem q1619 : (Jvm.Cond.code ({ cls := "SmokeWordModel", name := "passes", desc := "()I" } : Jvm.MethodName) prog_19_method_74_code (2 : Nat) (Option.some Jvm.ClassFile.FieldType.int)) ∈ lw_all := lw_g (lw_at lw_m7 52 rfl) rfl
theorem q1620 : (Jvm.Cond.methodLink "SmokeWordModel" (366 : Nat) ({ cls := "SmokeWordModel", name := "worthAll", desc := "()I" } : Jvm.MethodName)) ∈ lw_all := lw_g (lw_at lw_m7 53 rfl) rfl
theorem q1621 : (Jvm.Cond.privateMethod ({ cls := "SmokeWordModel", name := "worthAll", desc := "()I" } : Jvm.MethodName)) ∈ lw_tbl := lw_at lw_m7 54 rfl
theorem q1622 : (Jvm.Cond.instanceMethod ({ cls := "SmokeWordModel", name := "worthAll", desc := "()I" } : Jvm.MethodName)) ∈ lw_all := lw_g (lw_at lw_m7 55 rfl) rfl
theorem q1623 : (Jvm.Cond.code ({ cls := "SmokeWordModel", name := "worthAll", desc := "()I" } : Jvm.MethodName) prog_19_method_55_code (3 : Nat) (Option.some Jvm.ClassFile.FieldType.int)) ∈ lw_all := lw_g (lw_at lw_m7 56 rfl) rfl
theorem q1624 : (Jvm.Cond.methodLink "SmokeWordModel" (297 : Nat) ({ cls := "SmokeWordModel", name := "worthOf", desc := "(I)I" } : Jvm.MethodName)) ∈ lw_all := lw_g (lw_at lw_m7 57 rfl) rfl
theorem q1625 : (Jvm.Cond.privateMethod ({ cls := "SmokeWordModel", name := "worthOf", desc := "(I)I" } : Jvm.MethodName)) ∈ lw_tbl := lw_at lw_m7 58 rfl
theorem q1626 : (Jvm.Cond.instanceMethod ({ cls := "SmokeWordModel", name := "worthOf", desc := "(I)I" } : Jvm.MethodName)) ∈ lw_all := lw_g (lw_at lw_m7 59 rfl) rfl
theorem q1627 : (Jvm.Cond.code ({ cls := "SmokeWordModel", name := "worthOf", desc := "(I)I" } : Jvm.MethodName) prog_19_method_50_code (2 : Nat) (Option.some Jvm.ClassFile.FieldType.int)) ∈ lw_all := lw_g (lw_at lw_m7 60 rfl) rfl
theorem q1628 : (Jvm.Cond.methodLink "SmokeWordModel" (369 : Nat) ({ cls := "SmokeWordModel", name := "goes", desc := "()V" } : Jvm.MethodName)) ∈ lw_all := lw_g (lw_at lw_m7 61 rfl) rfl
theorem q1629 : (Jvm.Cond.privateMethod ({ cls := "SmokeWordModel", name := "goes", desc := "()V" } : Jvm.MethodName)) ∈ lw_tbl := lw_at lw_m7 62 rfl
theorem q1630 : (Jvm.Cond.instanceMethod ({ cls := "SmokeWordModel", name := "goes", desc := "()V" } : Jvm.MethodName)) ∈ lw_all := lw_g (lw_at lw_m7 63 rfl) rfl
theorem q1631 : (Jvm.Cond.code ({ cls := "SmokeWordModel", name := "goes", desc := "()V" } : Jvm.MethodName) prog_19_method_71_code (2 : Nat) (Option.none : Option Jvm.ClassFile.FieldType)) ∈ lw_all := lw_g (lw_at lw_m7 64 rfl) rfl
theorem q1632 : (Jvm.Cond.methodLink "SmokeWordModel" (348 : Nat) ({ cls := "SmokeWordModel", name := "isOnItsWay", desc := "()Z" } : Jvm.MethodName)) ∈ lw_all := lw_g (lw_at lw_m7 65 rfl) rfl
theorem q1633 : (Jvm.Cond.privateMethod ({ cls := "SmokeWordModel", name := "isOnItsWay", desc := "()Z" } : Jvm.MethodName)) ∈ lw_tbl := lw_at lw_m7 66 rfl
theorem q1634 : (Jvm.Cond.instanceMethod ({ cls := "SmokeWordModel", name := "isOnItsWay", desc := "()Z" } : Jvm.MethodName)) ∈ lw_all := lw_g (lw_at lw_m7 67 rfl) rfl
theorem q1635 : (Jvm.Cond.code ({ cls := "SmokeWordModel", name := "isOnItsWay", desc := "()Z" } : Jvm.MethodName) prog_19_method_68_code (1 : Nat) (Option.some Jvm.ClassFile.FieldType.boolean)) ∈ lw_all := lw_g (lw_at lw_m7 68 rfl) rfl
theorem q1636 : (Jvm.Cond.methodLink "SmokeWordModel" (351 : Nat) ({ cls := "SmokeWordModel", name := "whereItIs", desc := "()I" } : Jvm.MethodName)) ∈ lw_all := lw_g (lw_at lw_m7 69 rfl) rfl
theorem q1637 : (Jvm.Cond.privateMethod ({ cls := "SmokeWordModel", name := "whereItIs", desc := "()I" } : Jvm.MethodName)) ∈ lw_tbl := lw_at lw_m7 70 rfl
theorem q1638 : (Jvm.Cond.instanceMethod ({ cls := "SmokeWordModel", name := "whereItIs", desc := "()I" } : Jvm.MethodName)) ∈ lw_all := lw_g (lw_at lw_m7 71 rfl) rfl
theorem q1639 : (Jvm.Cond.code ({ cls := "SmokeWordModel", name := "whereItIs", desc := "()I" } : Jvm.MethodName) prog_19_method_69_code (1 : Nat) (Option.some Jvm.ClassFile.FieldType.int)) ∈ lw_all := lw_g (lw_at lw_m7 72 rfl) rfl
theorem q1640 : (Jvm.Cond.methodLink "SmokeWordModel" (294 : Nat) ({ cls := "SmokeWordModel", name := "heatOf", desc := "(I)I" } : Jvm.MethodName)) ∈ lw_all := lw_g (lw_at lw_m7 73 rfl) rfl
theorem q1641 : (Jvm.Cond.privateMethod ({ cls := "SmokeWordModel", name := "heatOf", desc := "(I)I" } : Jvm.MethodName)) ∈ lw_tbl := lw_at lw_m7 74 rfl
theorem q1642 : (Jvm.Cond.instanceMethod ({ cls := "SmokeWordModel", name := "heatOf", desc := "(I)I" } : Jvm.MethodName)) ∈ lw_all := lw_g (lw_at lw_m7 75 rfl) rfl
theorem q1643 : (Jvm.Cond.code ({ cls := "SmokeWordModel", name := "heatOf", desc := "(I)I" } : Jvm.MethodName) prog_19_method_51_code (2 : Nat) (Option.some Jvm.ClassFile.FieldType.int)) ∈ lw_all := lw_g (lw_at lw_m7 76 rfl) rfl
theorem q1644 : (Jvm.Cond.methodLink "SmokeWordModel" (354 : Nat) ({ cls := "SmokeWordModel", name := "choice", desc := "()I" } : Jvm.MethodName)) ∈ lw_all := lw_g (lw_at lw_m7 77 rfl) rfl
theorem q1645 : (Jvm.Cond.privateMethod ({ cls := "SmokeWordModel", name := "choice", desc := "()I" } : Jvm.MethodName)) ∈ lw_tbl := lw_at lw_m7 78 rfl
theorem q1646 : (Jvm.Cond.instanceMethod ({ cls := "SmokeWordModel", name := "choice", desc := "()I" } : Jvm.MethodName)) ∈ lw_all := lw_g (lw_at lw_m7 79 rfl) rfl
theorem q1647 : (Jvm.Cond.code ({ cls := "SmokeWordModel", name := "choice", desc := "()I" } : Jvm.MethodName) prog_19_method_66_code (7 : Nat) (Option.some Jvm.ClassFile.FieldType.int)) ∈ lw_all := lw_g (lw_at lw_m7 80 rfl) rfl
theorem q1648 : (Jvm.Cond.methodLink "SmokeWordModel" (342 : Nat) ({ cls := "SmokeWordModel", name := "sumOf", desc := "(I)J" } : Jvm.MethodName)) ∈ lw_all := lw_g (lw_at lw_m7 81 rfl) rfl
theorem q1649 : (Jvm.Cond.privateMethod ({ cls := "SmokeWordModel", name := "sumOf", desc := "(I)J" } : Jvm.MethodName)) ∈ lw_tbl := lw_at lw_m7 82 rfl
theorem q1650 : (Jvm.Cond.instanceMethod ({ cls := "SmokeWordModel", name := "sumOf", desc := "(I)J" } : Jvm.MethodName)) ∈ lw_all := lw_g (lw_at lw_m7 83 rfl) rfl
theorem q1651 : (Jvm.Cond.code ({ cls := "SmokeWordModel", name := "sumOf", desc := "(I)J" } : Jvm.MethodName) prog_19_method_65_code (2 : Nat) (Option.some Jvm.ClassFile.FieldType.long)) ∈ lw_all := lw_g (lw_at lw_m7 84 rfl) rfl
theorem q1652 : (Jvm.Cond.methodLink "SmokeWordModel" (326 : Nat) ({ cls := "SmokeWordModel", name := "saysOf", desc := "(I)I" } : Jvm.MethodName)) ∈ lw_all := lw_g (lw_at lw_m7 85 rfl) rfl
theorem q1653 : (Jvm.Cond.privateMethod ({ cls := "SmokeWordModel", name := "saysOf", desc := "(I)I" } : Jvm.MethodName)) ∈ lw_tbl := lw_at lw_m7 86 rfl
theorem q1654 : (Jvm.Cond.instanceMethod ({ cls := "SmokeWordModel", name := "saysOf", desc := "(I)I" } : Jvm.MethodName)) ∈ lw_all := lw_g (lw_at lw_m7 87 rfl) rfl
theorem q1655 : (Jvm.Cond.code ({ cls := "SmokeWordModel", name := "saysOf", desc := "(I)I" } : Jvm.MethodName) prog_19_method_52_code (2 : Nat) (Option.some Jvm.ClassFile.FieldType.int)) ∈ lw_all := lw_g (lw_at lw_m7 88 rfl) rfl
theorem q1656 : (Jvm.Cond.methodLink "SmokeWordModel" (329 : Nat) ({ cls := "SmokeWordModel", name := "fires", desc := "()I" } : Jvm.MethodName)) ∈ lw_all := lw_g (lw_at lw_m7 89 rfl) rfl
theorem q1657 : (Jvm.Cond.privateMethod ({ cls := "SmokeWordModel", name := "fires", desc := "()I" } : Jvm.MethodName)) ∈ lw_tbl := lw_at lw_m7 90 rfl
theorem q1658 : (Jvm.Cond.instanceMethod ({ cls := "SmokeWordModel", name := "fires", desc := "()I" } : Jvm.MethodName)) ∈ lw_all := lw_g (lw_at lw_m7 91 rfl) rfl
theorem q1659 : (Jvm.Cond.code ({ cls := "SmokeWordModel", name := "fires", desc := "()I" } : Jvm.MethodName) prog_19_method_54_code (3 : Nat) (Option.some Jvm.ClassFile.FieldType.int)) ∈ lw_all := lw_g (lw_at lw_m7 92 rfl) rfl
theorem q1660 : (Jvm.Cond.methodLink "SmokeWordModel" (332 : Nat) ({ cls := "SmokeWordModel", name := "bits", desc := "(I)I" } : Jvm.MethodName)) ∈ lw_all := lw_g (lw_at lw_m7 93 rfl) rfl
theorem q1661 : (Jvm.Cond.static ({ cls := "SmokeWordModel", name := "bits", desc := "(I)I" } : Jvm.MethodName)) ∈ lw_all := lw_g (lw_at lw_m7 94 rfl) rfl
theorem q1662 : (Jvm.Cond.code ({ cls := "SmokeWordModel", name := "bits", desc := "(I)I" } : Jvm.MethodName) prog_19_method_4_code (3 : Nat) (Option.some Jvm.ClassFile.FieldType.int)) ∈ lw_all := lw_g (lw_at lw_m7 95 rfl) rfl
theorem q1663 : (Jvm.Cond.methodLink "SmokeWordModel" (335 : Nat) ({ cls := "SmokeWordModel", name := "lostAll", desc := "()I" } : Jvm.MethodName)) ∈ lw_all := lw_g (lw_at lw_m7 96 rfl) rfl
theorem q1664 : (Jvm.Cond.privateMethod ({ cls := "SmokeWordModel", name := "lostAll", desc := "()I" } : Jvm.MethodName)) ∈ lw_tbl := lw_at lw_m7 97 rfl
theorem q1665 : (Jvm.Cond.instanceMethod ({ cls := "SmokeWordModel", name := "lostAll", desc := "()I" } : Jvm.MethodName)) ∈ lw_all := lw_g (lw_at lw_m7 98 rfl) rfl
theorem q1666 : (Jvm.Cond.code ({ cls := "SmokeWordModel", name := "lostAll", desc := "()I" } : Jvm.MethodName) prog_19_method_57_code (3 : Nat) (Option.some Jvm.ClassFile.FieldType.int)) ∈ lw_all := lw_g (lw_at lw_m7 99 rfl) rfl
theorem q1667 : (Jvm.Cond.methodLink "SmokeWordModel" (300 : Nat) ({ cls := "SmokeWordModel", name := "lostOf", desc := "(I)I" } : Jvm.MethodName)) ∈ lw_all := lw_g (lw_at lw_m7 100 rfl) rfl
theorem q1668 : (Jvm.Cond.privateMethod ({ cls := "SmokeWordModel", name := "lostOf", desc := "(I)I" } : Jvm.MethodName)) ∈ lw_tbl := lw_at lw_m7 101 rfl
theorem q1669 : (Jvm.Cond.instanceMethod ({ cls := "SmokeWordModel", name := "lostOf", desc := "(I)I" } : Jvm.MethodName)) ∈ lw_all := lw_g (lw_at lw_m7 102 rfl) rfl
theorem q1670 : (Jvm.Cond.code ({ cls := "SmokeWordModel", name := "lostOf", desc := "(I)I" } : Jvm.MethodName) prog_19_method_56_code (2 : Nat) (Option.some Jvm.ClassFile.FieldType.int)) ∈ lw_all := lw_g (lw_at lw_m7 103 rfl) rfl
theorem q1671 : (Jvm.Cond.methodLink "SmokeWordModel" (338 : Nat) ({ cls := "SmokeWordModel", name := "summedBy", desc := "(I)J" } : Jvm.MethodName)) ∈ lw_all := lw_g (lw_at lw_m7 104 rfl) rfl
theorem q1672 : (Jvm.Cond.privateMethod ({ cls := "SmokeWordModel", name := "summedBy", desc := "(I)J" } : Jvm.MethodName)) ∈ lw_tbl := lw_at lw_m7 105 rfl
theorem q1673 : (Jvm.Cond.instanceMethod ({ cls := "SmokeWordModel", name := "summedBy", desc := "(I)J" } : Jvm.MethodName)) ∈ lw_all := lw_g (lw_at lw_m7 106 rfl) rfl
theorem q1674 : (Jvm.Cond.code ({ cls := "SmokeWordModel", name := "summedBy", desc := "(I)J" } : Jvm.MethodName) prog_19_method_64_code (4 : Nat) (Option.some Jvm.ClassFile.FieldType.long)) ∈ lw_all := lw_g (lw_at lw_m7 107 rfl) rfl
theorem q1675 : (Jvm.Cond.methodLink "SmokeWordModel" (322 : Nat) ({ cls := "SmokeWordModel", name := "reckons", desc := "(III)J" } : Jvm.MethodName)) ∈ lw_all := lw_g (lw_at lw_m7 108 rfl) rfl
theorem q1676 : (Jvm.Cond.privateMethod ({ cls := "SmokeWordModel", name := "reckons", desc := "(III)J" } : Jvm.MethodName)) ∈ lw_tbl := lw_at lw_m7 109 rfl
theorem q1677 : (Jvm.Cond.instanceMethod ({ cls := "SmokeWordModel", name := "reckons", desc := "(III)J" } : Jvm.MethodName)) ∈ lw_all := lw_g (lw_at lw_m7 110 rfl) rfl
theorem q1678 : (Jvm.Cond.code ({ cls := "SmokeWordModel", name := "reckons", desc := "(III)J" } : Jvm.MethodName) prog_19_method_47_code (11 : Nat) (Option.some Jvm.ClassFile.FieldType.long)) ∈ lw_all := lw_g (lw_at lw_m7 111 rfl) rfl
theorem q1679 : (Jvm.Cond.methodLink "SmokeWordModel" (282 : Nat) ({ cls := "SmokeWordModel", name := "push", desc := "(J)V" } : Jvm.MethodName)) ∈ lw_all := lw_g (lw_at lw_m7 112 rfl) rfl
theorem q1680 : (Jvm.Cond.privateMethod ({ cls := "SmokeWordModel", name := "push", desc := "(J)V" } : Jvm.MethodName)) ∈ lw_tbl := lw_at lw_m7 113 rfl
theorem q1681 : (Jvm.Cond.instanceMethod ({ cls := "SmokeWordModel", name := "push", desc := "(J)V" } : Jvm.MethodName)) ∈ lw_all := lw_g (lw_at lw_m7 114 rfl) rfl
theorem q1682 : (Jvm.Cond.code ({ cls := "SmokeWordModel", name := "push", desc := "(J)V" } : Jvm.MethodName) prog_19_method_44_code (3 : Nat) (Option.none : Option Jvm.ClassFile.FieldType)) ∈ lw_all := lw_g (lw_at lw_m7 115 rfl) rfl
theorem q1683 : (Jvm.Cond.methodLink "SmokeWordModel" (286 : Nat) ({ cls := "SmokeWordModel", name := "pop", desc := "()J" } : Jvm.MethodName)) ∈ lw_all := lw_g (lw_at lw_m7 116 rfl) rfl
theorem q1684 : (Jvm.Cond.privateMethod ({ cls := "SmokeWordModel", name := "pop", desc := "()J" } : Jvm.MethodName)) ∈ lw_tbl := lw_at lw_m7 117 rfl
theorem q1685 : (Jvm.Cond.instanceMethod ({ cls := "SmokeWordModel", name := "pop", desc := "()J" } : Jvm.MethodName)) ∈ lw_all := lw_g (lw_at lw_m7 118 rfl) rfl
theorem q1686 : (Jvm.Cond.code ({ cls := "SmokeWordModel", name := "pop", desc := "()J" } : Jvm.MethodName) prog_19_method_45_code (1 : Nat) (Option.some Jvm.ClassFile.FieldType.long)) ∈ lw_all := lw_g (lw_at lw_m7 119 rfl) rfl
theorem q1687 : (Jvm.Cond.methodLink "SmokeWordModel" (290 : Nat) ({ cls := "SmokeWordModel", name := "one", desc := "(IJJ)J" } : Jvm.MethodName)) ∈ lw_all := lw_g (lw_at lw_m7 120 rfl) rfl
theorem q1688 : (Jvm.Cond.static ({ cls := "SmokeWordModel", name := "one", desc := "(IJJ)J" } : Jvm.MethodName)) ∈ lw_all := lw_g (lw_at lw_m7 121 rfl) rfl
theorem q1689 : (Jvm.Cond.code ({ cls := "SmokeWordModel", name := "one", desc := "(IJJ)J" } : Jvm.MethodName) prog_19_method_46_code (5 : Nat) (Option.some Jvm.ClassFile.FieldType.long)) ∈ lw_all := lw_g (lw_at lw_m7 122 rfl) rfl
theorem q1690 : (Jvm.Cond.methodLink "SmokeWordModel" (357 : Nat) ({ cls := "SmokeWordModel", name := "nextOfRow", desc := "()I" } : Jvm.MethodName)) ∈ lw_all := lw_g (lw_at lw_m7 123 rfl) rfl
theorem q1691 : (Jvm.Cond.privateMethod ({ cls := "SmokeWordModel", name := "nextOfRow", desc := "()I" } : Jvm.MethodName)) ∈ lw_tbl := lw_at lw_m7 124 rfl
theorem q1692 : (Jvm.Cond.instanceMethod ({ cls := "SmokeWordModel", name := "nextOfRow", desc := "()I" } : Jvm.MethodName)) ∈ lw_all := lw_g (lw_at lw_m7 125 rfl) rfl
theorem q1693 : (Jvm.Cond.code ({ cls := "SmokeWordModel", name := "nextOfRow", desc := "()I" } : Jvm.MethodName) prog_19_method_67_code (2 : Nat) (Option.some Jvm.ClassFile.FieldType.int)) ∈ lw_all := lw_g (lw_at lw_m7 126 rfl) rfl
theorem q1694 : (Jvm.Cond.methodLink "SmokeWordModel" (360 : Nat) ({ cls := "SmokeWordModel", name := "sends", desc := "(I)V" } : Jvm.MethodName)) ∈ lw_all := lw_g (lw_at lw_m7 127 rfl) rfl
theorem q1695 : (Jvm.Cond.privateMethod ({ cls := "SmokeWordModel", name := "sends", desc := "(I)V" } : Jvm.MethodName)) ∈ lw_tbl := lw_at lw_m7 128 rfl
theorem q1696 : (Jvm.Cond.instanceMethod ({ cls := "SmokeWordModel", name := "sends", desc := "(I)V" } : Jvm.MethodName)) ∈ lw_all := lw_g (lw_at lw_m7 129 rfl) rfl
theorem q1697 : (Jvm.Cond.code ({ cls := "SmokeWordModel", name := "sends", desc := "(I)V" } : Jvm.MethodName) prog_19_method_70_code (2 : Nat) (Option.none : Option Jvm.ClassFile.FieldType)) ∈ lw_all := lw_g (lw_at lw_m7 130 rfl) rfl
theorem q1698 : (Jvm.Cond.methodLink "SmokeWordModel" (372 : Nat) ({ cls := "SmokeWordModel", name := "comes", desc := "()I" } : Jvm.MethodName)) ∈ lw_all := lw_g (lw_at lw_m7 131 rfl) rfl
theorem q1699 : (Jvm.Cond.privateMethod ({ cls := "SmokeWordModel", name := "comes", desc := "()I" } : Jvm.MethodName)) ∈ lw_tbl := lw_at lw_m7 132 rfl
theorem q1700 : (Jvm.Cond.instanceMethod ({ cls := "SmokeWordModel", name := "comes", desc := "()I" } : Jvm.MethodName)) ∈ lw_all := lw_g (lw_at lw_m7 133 rfl) rfl
theorem q1701 : (Jvm.Cond.code ({ cls := "SmokeWordModel", name := "comes", desc := "()I" } : Jvm.MethodName) prog_19_method_72_code (3 : Nat) (Option.some Jvm.ClassFile.FieldType.int)) ∈ lw_all := lw_g (lw_at lw_m7 134 rfl) rfl
theorem q1702 : (Jvm.Cond.methodLink "SmokeWordModel" (378 : Nat) ({ cls := "SmokeWordModel", name := "burns", desc := "()V" } : Jvm.MethodName)) ∈ lw_all := lw_g (lw_at lw_m7 135 rfl) rfl
theorem q1703 : (Jvm.Cond.privateMethod ({ cls := "SmokeWordModel", name := "burns", desc := "()V" } : Jvm.MethodName)) ∈ lw_tbl := lw_at lw_m7 136 rfl
theorem q1704 : (Jvm.Cond.instanceMethod ({ cls := "SmokeWordModel", name := "burns", desc := "()V" } : Jvm.MethodName)) ∈ lw_all := lw_g (lw_at lw_m7 137 rfl) rfl
theorem q1705 : (Jvm.Cond.code ({ cls := "SmokeWordModel", name := "burns", desc := "()V" } : Jvm.MethodName) prog_19_method_73_code (3 : Nat) (Option.none : Option Jvm.ClassFile.FieldType)) ∈ lw_all := lw_g (lw_at lw_m7 138 rfl) rfl
theorem q1707 : (Jvm.Cond.instanceMethod ({ cls := "SmokeWordModel", name := "light", desc := "(I)I" } : Jvm.MethodName)) ∈ lw_all := lw_g (lw_at lw_m7 140 rfl) rfl
theorem q1708 : (Jvm.Cond.selects "SmokeWordModel" ({ cls := "SmokeWordModel", name := "light", desc := "(I)I" } : Jvm.MethodName) ({ cls := "SmokeWordModel", name := "light", desc := "(I)I" } : Jvm.MethodName)) ∈ lw_all := lw_g (lw_at lw_m7 141 rfl) rfl
theorem q1709 : (Jvm.Cond.code ({ cls := "SmokeWordModel", name := "light", desc := "(I)I" } : Jvm.MethodName) prog_19_method_80_code (2 : Nat) (Option.some Jvm.ClassFile.FieldType.int)) ∈ lw_all := lw_g (lw_at lw_m7 142 rfl) rfl
theorem q1710 : (Jvm.Cond.methodLink "SmokeWordModel" (387 : Nat) ({ cls := "SmokeWordModel", name := "canLight", desc := "(I)Z" } : Jvm.MethodName)) ∈ lw_all := lw_g (lw_at lw_m7 143 rfl) rfl
theorem q1711 : (Jvm.Cond.privateMethod ({ cls := "SmokeWordModel", name := "canLight", desc := "(I)Z" } : Jvm.MethodName)) ∈ lw_tbl := lw_at lw_m7 144 rfl
theorem q1712 : (Jvm.Cond.instanceMethod ({ cls := "SmokeWordModel", name := "canLight", desc := "(I)Z" } : Jvm.MethodName)) ∈ lw_all := lw_g (lw_at lw_m7 145 rfl) rfl
theorem q1713 : (Jvm.Cond.code ({ cls := "SmokeWordModel", name := "canLight", desc := "(I)Z" } : Jvm.MethodName) prog_19_method_79_code (2 : Nat) (Option.some Jvm.ClassFile.FieldType.boolean)) ∈ lw_all := lw_g (lw_at lw_m7 146 rfl) rfl
theorem q1715 : (Jvm.Cond.instanceMethod ({ cls := "SmokeWordModel", name := "douse", desc := "(I)I" } : Jvm.MethodName)) ∈ lw_all := lw_g (lw_at lw_m7 148 rfl) rfl
theorem q1716 : (Jvm.Cond.selects "SmokeWordModel" ({ cls := "SmokeWordModel", name := "douse", desc := "(I)I" } : Jvm.MethodName) ({ cls := "SmokeWordModel", name := "douse", desc := "(I)I" } : Jvm.MethodName)) ∈ lw_all := lw_g (lw_at lw_m7 149 rfl) rfl
theorem q1717 : (Jvm.Cond.code ({ cls := "SmokeWordModel", name := "douse", desc := "(I)I" } : Jvm.MethodName) prog_19_method_81_code (3 : Nat) (Option.some Jvm.ClassFile.FieldType.int)) ∈ lw_all := lw_g (lw_at lw_m7 150 rfl) rfl
theorem q1719 : (Jvm.Cond.instanceMethod ({ cls := "SmokeWordModel", name := "say", desc := "(II)I" } : Jvm.MethodName)) ∈ lw_all := lw_g (lw_at lw_m7 152 rfl) rfl
theorem q1720 : (Jvm.Cond.selects "SmokeWordModel" ({ cls := "SmokeWordModel", name := "say", desc := "(II)I" } : Jvm.MethodName) ({ cls := "SmokeWordModel", name := "say", desc := "(II)I" } : Jvm.MethodName)) ∈ lw_all := lw_g (lw_at lw_m7 153 rfl) rfl
theorem q1721 : (Jvm.Cond.code ({ cls := "SmokeWordModel", name := "say", desc := "(II)I" } : Jvm.MethodName) prog_19_method_82_code (4 : Nat) (Option.some Jvm.ClassFile.FieldType.int)) ∈ lw_all := lw_g (lw_at lw_m7 154 rfl) rfl
theorem q1722 : (Jvm.Cond.constantLong "SmokeWordModel" (390 : Nat) (20 : Int64)) ∈ lw_all := lw_g (lw_at lw_m7 155 rfl) rfl
theorem q1724 : (Jvm.Cond.instanceMethod ({ cls := "SmokeWordModel", name := "send", desc := "(I)I" } : Jvm.MethodName)) ∈ lw_all := lw_g (lw_at lw_m7 157 rfl) rfl
theorem q1725 : (Jvm.Cond.selects "SmokeWordModel" ({ cls := "SmokeWordModel", name := "send", desc := "(I)I" } : Jvm.MethodName) ({ cls := "SmokeWordModel", name := "send", desc := "(I)I" } : Jvm.MethodName)) ∈ lw_all := lw_g (lw_at lw_m7 158 rfl) rfl
theorem q1726 : (Jvm.Cond.code ({ cls := "SmokeWordModel", name := "send", desc := "(I)I" } : Jvm.MethodName) prog_19_method_83_code (2 : Nat) (Option.some Jvm.ClassFile.FieldType.int)) ∈ lw_all := lw_g (lw_at lw_m7 159 rfl) rfl
theorem q1728 : (Jvm.Cond.instanceMethod ({ cls := "SmokeWordModel", name := "ahead", desc := "(III)I" } : Jvm.MethodName)) ∈ lw_all := lw_g (lw_at lw_m7 161 rfl) rfl
theorem q1729 : (Jvm.Cond.selects "SmokeWordModel" ({ cls := "SmokeWordModel", name := "ahead", desc := "(III)I" } : Jvm.MethodName) ({ cls := "SmokeWordModel", name := "ahead", desc := "(III)I" } : Jvm.MethodName)) ∈ lw_all := lw_g (lw_at lw_m7 162 rfl) rfl
theorem q1730 : (Jvm.Cond.code ({ cls := "SmokeWordModel", name := "ahead", desc := "(III)I" } : Jvm.MethodName) prog_19_method_86_code (5 : Nat) (Option.some Jvm.ClassFile.FieldType.int)) ∈ lw_all := lw_g (lw_at lw_m7 163 rfl) rfl
theorem q1731 : (Jvm.Cond.constantLong "SmokeWordModel" (392 : Nat) (100 : Int64)) ∈ lw_all := lw_g (lw_at lw_m7 164 rfl) rfl
theorem q1732 : (Jvm.Cond.constantLong "SmokeWordModel" (394 : Nat) (2 : Int64)) ∈ lw_all := lw_g (lw_at lw_m7 165 rfl) rfl
theorem q1733 : (Jvm.Cond.methodLink "SmokeWordModel" (396 : Nat) ({ cls := "SmokeWordModel", name := "keeps", desc := "()V" } : Jvm.MethodName)) ∈ lw_all := lw_g (lw_at lw_m7 166 rfl) rfl
theorem q1734 : (Jvm.Cond.privateMethod ({ cls := "SmokeWordModel", name := "keeps", desc := "()V" } : Jvm.MethodName)) ∈ lw_tbl := lw_at lw_m7 167 rfl
theorem q1735 : (Jvm.Cond.instanceMethod ({ cls := "SmokeWordModel", name := "keeps", desc := "()V" } : Jvm.MethodName)) ∈ lw_all := lw_g (lw_at lw_m7 168 rfl) rfl
theorem q1736 : (Jvm.Cond.code ({ cls := "SmokeWordModel", name := "keeps", desc := "()V" } : Jvm.MethodName) prog_19_method_84_code (2 : Nat) (Option.none : Option Jvm.ClassFile.FieldType)) ∈ lw_all := lw_g (lw_at lw_m7 169 rfl) rfl
theorem q1737 : (Jvm.Cond.methodLink "SmokeWordModel" (399 : Nat) ({ cls := "SmokeWordModel", name := "passesAll", desc := "(I)V" } : Jvm.MethodName)) ∈ lw_all := lw_g (lw_at lw_m7 170 rfl) rfl
theorem q1738 : (Jvm.Cond.privateMethod ({ cls := "SmokeWordModel", name := "passesAll", desc := "(I)V" } : Jvm.MethodName)) ∈ lw_tbl := lw_at lw_m7 171 rfl
theorem q1739 : (Jvm.Cond.instanceMethod ({ cls := "SmokeWordModel", name := "passesAll", desc := "(I)V" } : Jvm.MethodName)) ∈ lw_all := lw_g (lw_at lw_m7 172 rfl) rfl
theorem q1740 : (Jvm.Cond.code ({ cls := "SmokeWordModel", name := "passesAll", desc := "(I)V" } : Jvm.MethodName) prog_19_method_75_code (3 : Nat) (Option.none : Option Jvm.ClassFile.FieldType)) ∈ lw_all := lw_g (lw_at lw_m7 173 rfl) rfl
theorem q1741 : (Jvm.Cond.methodLink "SmokeWordModel" (402 : Nat) ({ cls := "SmokeWordModel", name := "laysBack", desc := "()V" } : Jvm.MethodName)) ∈ lw_all := lw_g (lw_at lw_m7 174 rfl) rfl
theorem q1742 : (Jvm.Cond.privateMethod ({ cls := "SmokeWordModel", name := "laysBack", desc := "()V" } : Jvm.MethodName)) ∈ lw_tbl := lw_at lw_m7 175 rfl
theorem q1743 : (Jvm.Cond.instanceMethod ({ cls := "SmokeWordModel", name := "laysBack", desc := "()V" } : Jvm.MethodName)) ∈ lw_all := lw_g (lw_at lw_m7 176 rfl) rfl
theorem q1744 : (Jvm.Cond.code ({ cls := "SmokeWordModel", name := "laysBack", desc := "()V" } : Jvm.MethodName) prog_19_method_85_code (2 : Nat) (Option.none : Option Jvm.ClassFile.FieldType)) ∈ lw_all := lw_g (lw_at lw_m7 177 rfl) rfl
theorem q1746 : (Jvm.Cond.instanceMethod ({ cls := "SmokeWordModel", name := "left", desc := "(I)I" } : Jvm.MethodName)) ∈ lw_all := lw_g (lw_at lw_m7 179 rfl) rfl
theorem q1747 : (Jvm.Cond.selects "SmokeWordModel" ({ cls := "SmokeWordModel", name := "left", desc := "(I)I" } : Jvm.MethodName) ({ cls := "SmokeWordModel", name := "left", desc := "(I)I" } : Jvm.MethodName)) ∈ lw_all := lw_g (lw_at lw_m7 180 rfl) rfl
theorem q1748 : (Jvm.Cond.code ({ cls := "SmokeWordModel", name := "left", desc := "(I)I" } : Jvm.MethodName) prog_19_method_88_code (2 : Nat) (Option.some Jvm.ClassFile.FieldType.int)) ∈ lw_all := lw_g (lw_at lw_m7 181 rfl) rfl
theorem q1749 : (Jvm.Cond.methodLink "SmokeWordModel" (405 : Nat) ({ cls := "SmokeWordModel", name := "worthIn", desc := "(I)I" } : Jvm.MethodName)) ∈ lw_all := lw_g (lw_at lw_m7 182 rfl) rfl
theorem q1750 : (Jvm.Cond.privateMethod ({ cls := "SmokeWordModel", name := "worthIn", desc := "(I)I" } : Jvm.MethodName)) ∈ lw_tbl := lw_at lw_m7 183 rfl
theorem q1751 : (Jvm.Cond.instanceMethod ({ cls := "SmokeWordModel", name := "worthIn", desc := "(I)I" } : Jvm.MethodName)) ∈ lw_all := lw_g (lw_at lw_m7 184 rfl) rfl
theorem q1752 : (Jvm.Cond.code ({ cls := "SmokeWordModel", name := "worthIn", desc := "(I)I" } : Jvm.MethodName) prog_19_method_87_code (3 : Nat) (Option.some Jvm.ClassFile.FieldType.int)) ∈ lw_all := lw_g (lw_at lw_m7 185 rfl) rfl
theorem q1754 : (Jvm.Cond.instanceMethod ({ cls := "SmokeWordModel", name := "out", desc := "()I" } : Jvm.MethodName)) ∈ lw_all := lw_g (lw_at lw_m7 187 rfl) rfl
theorem q1755 : (Jvm.Cond.selects "SmokeWordModel" ({ cls := "SmokeWordModel", name := "out", desc := "()I" } : Jvm.MethodName) ({ cls := "SmokeWordModel", name := "out", desc := "()I" } : Jvm.MethodName)) ∈ lw_all := lw_g (lw_at lw_m7 188 rfl) rfl
theorem q1756 : (Jvm.Cond.code ({ cls := "SmokeWordModel", name := "out", desc := "()I" } : Jvm.MethodName) prog_19_method_89_code (3 : Nat) (Option.some Jvm.ClassFile.FieldType.int)) ∈ lw_all := lw_g (lw_at lw_m7 189 rfl) rfl
theorem q1758 : (Jvm.Cond.instanceMethod ({ cls := "SmokeWordModel", name := "canBurn", desc := "()I" } : Jvm.MethodName)) ∈ lw_all := lw_g (lw_at lw_m7 191 rfl) rfl
theorem q1759 : (Jvm.Cond.selects "SmokeWordModel" ({ cls := "SmokeWordModel", name := "canBurn", desc := "()I" } : Jvm.MethodName) ({ cls := "SmokeWordModel", name := "canBurn", desc := "()I" } : Jvm.MethodName)) ∈ lw_all := lw_g (lw_at lw_m7 192 rfl) rfl
theorem q1760 : (Jvm.Cond.code ({ cls := "SmokeWordModel", name := "canBurn", desc := "()I" } : Jvm.MethodName) prog_19_method_90_code (4 : Nat) (Option.some Jvm.ClassFile.FieldType.int)) ∈ lw_all := lw_g (lw_at lw_m7 193 rfl) rfl
theorem q1761 : (Jvm.Cond.methodLink "SmokeWordModel" (408 : Nat) ({ cls := "SmokeWordModel", name := "isOf", desc := "(II)Z" } : Jvm.MethodName)) ∈ lw_all := lw_g (lw_at lw_m7 194 rfl) rfl
theorem q1762 : (Jvm.Cond.static ({ cls := "SmokeWordModel", name := "isOf", desc := "(II)Z" } : Jvm.MethodName)) ∈ lw_all := lw_g (lw_at lw_m7 195 rfl) rfl
theorem q1763 : (Jvm.Cond.code ({ cls := "SmokeWordModel", name := "isOf", desc := "(II)Z" } : Jvm.MethodName) prog_19_method_3_code (2 : Nat) (Option.some Jvm.ClassFile.FieldType.boolean)) ∈ lw_all := lw_g (lw_at lw_m7 196 rfl) rfl
theorem q1765 : (Jvm.Cond.instanceMethod ({ cls := "SmokeWordModel", name := "order", desc := "(II)I" } : Jvm.MethodName)) ∈ lw_all := lw_g (lw_at lw_m7 198 rfl) rfl
theorem q1766 : (Jvm.Cond.selects "SmokeWordModel" ({ cls := "SmokeWordModel", name := "order", desc := "(II)I" } : Jvm.MethodName) ({ cls := "SmokeWordModel", name := "order", desc := "(II)I" } : Jvm.MethodName)) ∈ lw_all := lw_g (lw_at lw_m7 199 rfl) rfl
theorem q1767 : (Jvm.Cond.code ({ cls := "SmokeWordModel", name := "order", desc := "(II)I" } : Jvm.MethodName) prog_19_method_94_code (4 : Nat) (Option.some Jvm.ClassFile.FieldType.int)) ∈ lw_all := lw_g (lw_at lw_m7 200 rfl) rfl
theorem q1768 : (Jvm.Cond.constantLong "SmokeWordModel" (420 : Nat) (60 : Int64)) ∈ lw_all := lw_g (lw_at lw_m7 201 rfl) rfl
theorem q1769 : (Jvm.Cond.constantLong "SmokeWordModel" (422 : Nat) (-1 : Int64)) ∈ lw_all := lw_g (lw_at lw_m7 202 rfl) rfl
theorem q1770 : (Jvm.Cond.constantLong "SmokeWordModel" (424 : Nat) (5 : Int64)) ∈ lw_all := lw_g (lw_at lw_m7 203 rfl) rfl
theorem q1771 : (Jvm.Cond.methodLink "SmokeWordModel" (426 : Nat) ({ cls := "SmokeWordModel", name := "findsOrder", desc := "(II)V" } : Jvm.MethodName)) ∈ lw_all := lw_g (lw_at lw_m7 204 rfl) rfl
theorem q1772 : (Jvm.Cond.privateMethod ({ cls := "SmokeWordModel", name := "findsOrder", desc := "(II)V" } : Jvm.MethodName)) ∈ lw_tbl := lw_at lw_m7 205 rfl
theorem q1773 : (Jvm.Cond.instanceMethod ({ cls := "SmokeWordModel", name := "findsOrder", desc := "(II)V" } : Jvm.MethodName)) ∈ lw_all := lw_g (lw_at lw_m7 206 rfl) rfl
theorem q1774 : (Jvm.Cond.code ({ cls := "SmokeWordModel", name := "findsOrder", desc := "(II)V" } : Jvm.MethodName) prog_19_method_93_code (5 : Nat) (Option.none : Option Jvm.ClassFile.FieldType)) ∈ lw_all := lw_g (lw_at lw_m7 207 rfl) rfl
theorem q1775 : (Jvm.Cond.methodLink "SmokeWordModel" (414 : Nat) ({ cls := "SmokeWordModel", name := "weighsRow", desc := "(II)V" } : Jvm.MethodName)) ∈ lw_all := lw_g (lw_at lw_m7 208 rfl) rfl
theorem q1776 : (Jvm.Cond.privateMethod ({ cls := "SmokeWordModel", name := "weighsRow", desc := "(II)V" } : Jvm.MethodName)) ∈ lw_tbl := lw_at lw_m7 209 rfl
theorem q1777 : (Jvm.Cond.instanceMethod ({ cls := "SmokeWordModel", name := "weighsRow", desc := "(II)V" } : Jvm.MethodName)) ∈ lw_all := lw_g (lw_at lw_m7 210 rfl) rfl
theorem q1778 : (Jvm.Cond.code ({ cls := "SmokeWordModel", name := "weighsRow", desc := "(II)V" } : Jvm.MethodName) prog_19_method_92_code (5 : Nat) (Option.none : Option Jvm.ClassFile.FieldType)) ∈ lw_all := lw_g (lw_at lw_m7 211 rfl) rfl
theorem q1779 : (Jvm.Cond.methodLink "SmokeWordModel" (417 : Nat) ({ cls := "SmokeWordModel", name := "isInRow", desc := "(II)Z" } : Jvm.MethodName)) ∈ lw_all := lw_g (lw_at lw_m7 212 rfl) rfl
theorem q1780 : (Jvm.Cond.privateMethod ({ cls := "SmokeWordModel", name := "isInRow", desc := "(II)Z" } : Jvm.MethodName)) ∈ lw_tbl := lw_at lw_m7 213 rfl
theorem q1781 : (Jvm.Cond.instanceMethod ({ cls := "SmokeWordModel", name := "isInRow", desc := "(II)Z" } : Jvm.MethodName)) ∈ lw_all := lw_g (lw_at lw_m7 214 rfl) rfl
theorem q1782 : (Jvm.Cond.code ({ cls := "SmokeWordModel", name := "isInRow", desc := "(II)Z" } : Jvm.MethodName) prog_19_method_91_code (4 : Nat) (Option.some Jvm.ClassFile.FieldType.boolean)) ∈ lw_all := lw_g (lw_at lw_m7 215 rfl) rfl
theorem q1784 : (Jvm.Cond.instanceMethod ({ cls := "SmokeWordModel", name := "heard", desc := "(I)I" } : Jvm.MethodName)) ∈ lw_all := lw_g (lw_at lw_m7 217 rfl) rfl
theorem q1785 : (Jvm.Cond.selects "SmokeWordModel" ({ cls := "SmokeWordModel", name := "heard", desc := "(I)I" } : Jvm.MethodName) ({ cls := "SmokeWordModel", name := "heard", desc := "(I)I" } : Jvm.MethodName)) ∈ lw_all := lw_g (lw_at lw_m7 218 rfl) rfl
theorem q1786 : (Jvm.Cond.code ({ cls := "SmokeWordModel", name := "heard", desc := "(I)I" } : Jvm.MethodName) prog_19_method_96_code (4 : Nat) (Option.some Jvm.ClassFile.FieldType.int)) ∈ lw_all := lw_g (lw_at lw_m7 219 rfl) rfl
theorem q1787 : (Jvm.Cond.methodLink "SmokeWordModel" (429 : Nat) ({ cls := "SmokeWordModel", name := "comesTo", desc := "(II)Z" } : Jvm.MethodName)) ∈ lw_all := lw_g (lw_at lw_m7 220 rfl) rfl
theorem q1788 : (Jvm.Cond.privateMethod ({ cls := "SmokeWordModel", name := "comesTo", desc := "(II)Z" } : Jvm.MethodName)) ∈ lw_tbl := lw_at lw_m7 221 rfl
theorem q1789 : (Jvm.Cond.instanceMethod ({ cls := "SmokeWordModel", name := "comesTo", desc := "(II)Z" } : Jvm.MethodName)) ∈ lw_all := lw_g (lw_at lw_m7 222 rfl) rfl
theorem q1790 : (Jvm.Cond.code ({ cls := "SmokeWordModel", name := "comesTo", desc := "(II)Z" } : Jvm.MethodName) prog_19_method_95_code (5 : Nat) (Option.some Jvm.ClassFile.FieldType.boolean)) ∈ lw_all := lw_g (lw_at lw_m7 223 rfl) rfl
theorem q1792 : (Jvm.Cond.instanceMethod ({ cls := "SmokeWordModel", name := "water", desc := "(I)I" } : Jvm.MethodName)) ∈ lw_all := lw_g (lw_at lw_m7 225 rfl) rfl
theorem q1793 : (Jvm.Cond.selects "SmokeWordModel" ({ cls := "SmokeWordModel", name := "water", desc := "(I)I" } : Jvm.MethodName) ({ cls := "SmokeWordModel", name := "water", desc := "(I)I" } : Jvm.MethodName)) ∈ lw_all := lw_g (lw_at lw_m7 226 rfl) rfl
theorem q1794 : (Jvm.Cond.code ({ cls := "SmokeWordModel", name := "water", desc := "(I)I" } : Jvm.MethodName) prog_19_method_98_code (6 : Nat) (Option.some Jvm.ClassFile.FieldType.int)) ∈ lw_all := lw_g (lw_at lw_m7 227 rfl) rfl
theorem q1795 : (Jvm.Cond.methodLink "SmokeWordModel" (432 : Nat) ({ cls := "SmokeWordModel", name := "withWorth", desc := "()I" } : Jvm.MethodName)) ∈ lw_all := lw_g (lw_at lw_m7 228 rfl) rfl
theorem q1796 : (Jvm.Cond.privateMethod ({ cls := "SmokeWordModel", name := "withWorth", desc := "()I" } : Jvm.MethodName)) ∈ lw_tbl := lw_at lw_m7 229 rfl
theorem q1797 : (Jvm.Cond.instanceMethod ({ cls := "SmokeWordModel", name := "withWorth", desc := "()I" } : Jvm.MethodName)) ∈ lw_all := lw_g (lw_at lw_m7 230 rfl) rfl
theorem q1798 : (Jvm.Cond.code ({ cls := "SmokeWordModel", name := "withWorth", desc := "()I" } : Jvm.MethodName) prog_19_method_97_code (3 : Nat) (Option.some Jvm.ClassFile.FieldType.int)) ∈ lw_all := lw_g (lw_at lw_m7 231 rfl) rfl
theorem q1800 : (Jvm.Cond.instanceMethod ({ cls := "SmokeWordModel", name := "clear", desc := "(II)I" } : Jvm.MethodName)) ∈ lw_all := lw_g (lw_at lw_m7 233 rfl) rfl
theorem q1801 : (Jvm.Cond.selects "SmokeWordModel" ({ cls := "SmokeWordModel", name := "clear", desc := "(II)I" } : Jvm.MethodName) ({ cls := "SmokeWordModel", name := "clear", desc := "(II)I" } : Jvm.MethodName)) ∈ lw_all := lw_g (lw_at lw_m7 234 rfl) rfl
theorem q1802 : (Jvm.Cond.code ({ cls := "SmokeWordModel", name := "clear", desc := "(II)I" } : Jvm.MethodName) prog_19_method_99_code (8 : Nat) (Option.some Jvm.ClassFile.FieldType.int)) ∈ lw_all := lw_g (lw_at lw_m7 235 rfl) rfl
theorem q1804 : (Jvm.Cond.instanceMethod ({ cls := "SmokeWordModel", name := "silent", desc := "(II)I" } : Jvm.MethodName)) ∈ lw_all := lw_g (lw_at lw_m7 237 rfl) rfl
theorem q1805 : (Jvm.Cond.selects "SmokeWordModel" ({ cls := "SmokeWordModel", name := "silent", desc := "(II)I" } : Jvm.MethodName) ({ cls := "SmokeWordModel", name := "silent", desc := "(II)I" } : Jvm.MethodName)) ∈ lw_all := lw_g (lw_at lw_m7 238 rfl) rfl
theorem q1806 : (Jvm.Cond.code ({ cls := "SmokeWordModel", name := "silent", desc := "(II)I" } : Jvm.MethodName) prog_19_method_100_code (7 : Nat) (Option.some Jvm.ClassFile.FieldType.int)) ∈ lw_all := lw_g (lw_at lw_m7 239 rfl) rfl
theorem q1808 : (Jvm.Cond.instanceMethod ({ cls := "SmokeWordModel", name := "pence", desc := "(II)I" } : Jvm.MethodName)) ∈ lw_all := lw_g (lw_at lw_m8 1 rfl) rfl
theorem q1809 : (Jvm.Cond.selects "SmokeWordModel" ({ cls := "SmokeWordModel", name := "pence", desc := "(II)I" } : Jvm.MethodName) ({ cls := "SmokeWordModel", name := "pence", desc := "(II)I" } : Jvm.MethodName)) ∈ lw_all := lw_g (lw_at lw_m8 2 rfl) rfl
theorem q1810 : (Jvm.Cond.code ({ cls := "SmokeWordModel", name := "pence", desc := "(II)I" } : Jvm.MethodName) prog_19_method_101_code (9 : Nat) (Option.some Jvm.ClassFile.FieldType.int)) ∈ lw_all := lw_g (lw_at lw_m8 3 rfl) rfl
theorem q1811 : (Jvm.Cond.constantLong "SmokeWordModel" (435 : Nat) (9999 : Int64)) ∈ lw_all := lw_g (lw_at lw_m8 4 rfl) rfl
theorem q1813 : (Jvm.Cond.instanceMethod ({ cls := "SmokeWordModel", name := "rests", desc := "(IIII)I" } : Jvm.MethodName)) ∈ lw_all := lw_g (lw_at lw_m8 6 rfl) rfl
theorem q1814 : (Jvm.Cond.selects "SmokeWordModel" ({ cls := "SmokeWordModel", name := "rests", desc := "(IIII)I" } : Jvm.MethodName) ({ cls := "SmokeWordModel", name := "rests", desc := "(IIII)I" } : Jvm.MethodName)) ∈ lw_all := lw_g (lw_at lw_m8 7 rfl) rfl
theorem q1815 : (Jvm.Cond.code ({ cls := "SmokeWordModel", name := "rests", desc := "(IIII)I" } : Jvm.MethodName) prog_19_method_103_code (8 : Nat) (Option.some Jvm.ClassFile.FieldType.int)) ∈ lw_all := lw_g (lw_at lw_m8 8 rfl) rfl
theorem q1816 : (Jvm.Cond.methodLink "SmokeWordModel" (437 : Nat) ({ cls := "SmokeWordModel", name := "isRest", desc := "(II)Z" } : Jvm.MethodName)) ∈ lw_all := lw_g (lw_at lw_m8 9 rfl) rfl
theorem q1817 : (Jvm.Cond.privateMethod ({ cls := "SmokeWordModel", name := "isRest", desc := "(II)Z" } : Jvm.MethodName)) ∈ lw_tbl := lw_at lw_m8 10 rfl
theorem q1818 : (Jvm.Cond.instanceMethod ({ cls := "SmokeWordModel", name := "isRest", desc := "(II)Z" } : Jvm.MethodName)) ∈ lw_all := lw_g (lw_at lw_m8 11 rfl) rfl
theorem q1819 : (Jvm.Cond.code ({ cls := "SmokeWordModel", name := "isRest", desc := "(II)Z" } : Jvm.MethodName) prog_19_method_102_code (4 : Nat) (Option.some Jvm.ClassFile.FieldType.boolean)) ∈ lw_all := lw_g (lw_at lw_m8 12 rfl) rfl
theorem q1821 : (Jvm.Cond.instanceMethod ({ cls := "SmokeWordModel", name := "first", desc := "(I)I" } : Jvm.MethodName)) ∈ lw_all := lw_g (lw_at lw_m8 14 rfl) rfl
theorem q1822 : (Jvm.Cond.selects "SmokeWordModel" ({ cls := "SmokeWordModel", name := "first", desc := "(I)I" } : Jvm.MethodName) ({ cls := "SmokeWordModel", name := "first", desc := "(I)I" } : Jvm.MethodName)) ∈ lw_all := lw_g (lw_at lw_m8 15 rfl) rfl
theorem q1823 : (Jvm.Cond.code ({ cls := "SmokeWordModel", name := "first", desc := "(I)I" } : Jvm.MethodName) prog_19_method_104_code (5 : Nat) (Option.some Jvm.ClassFile.FieldType.int)) ∈ lw_all := lw_g (lw_at lw_m8 16 rfl) rfl
theorem q1825 : (Jvm.Cond.instanceMethod ({ cls := "SmokeWordModel", name := "note", desc := "(II)I" } : Jvm.MethodName)) ∈ lw_all := lw_g (lw_at lw_m8 18 rfl) rfl
theorem q1826 : (Jvm.Cond.selects "SmokeWordModel" ({ cls := "SmokeWordModel", name := "note", desc := "(II)I" } : Jvm.MethodName) ({ cls := "SmokeWordModel", name := "note", desc := "(II)I" } : Jvm.MethodName)) ∈ lw_all := lw_g (lw_at lw_m8 19 rfl) rfl
theorem q1827 : (Jvm.Cond.code ({ cls := "SmokeWordModel", name := "note", desc := "(II)I" } : Jvm.MethodName) prog_19_method_105_code (4 : Nat) (Option.some Jvm.ClassFile.FieldType.int)) ∈ lw_all := lw_g (lw_at lw_m8 20 rfl) rfl
theorem q1829 : (Jvm.Cond.instanceMethod ({ cls := "SmokeWordModel", name := "ruled", desc := "(I)I" } : Jvm.MethodName)) ∈ lw_all := lw_g (lw_at lw_m8 22 rfl) rfl
theorem q1830 : (Jvm.Cond.selects "SmokeWordModel" ({ cls := "SmokeWordModel", name := "ruled", desc := "(I)I" } : Jvm.MethodName) ({ cls := "SmokeWordModel", name := "ruled", desc := "(I)I" } : Jvm.MethodName)) ∈ lw_all := lw_g (lw_at lw_m8 23 rfl) rfl
theorem q1831 : (Jvm.Cond.code ({ cls := "SmokeWordModel", name := "ruled", desc := "(I)I" } : Jvm.MethodName) prog_19_method_109_code (5 : Nat) (Option.some Jvm.ClassFile.FieldType.int)) ∈ lw_all := lw_g (lw_at lw_m8 24 rfl) rfl
theorem q1832 : (Jvm.Cond.methodLink "SmokeWordModel" (446 : Nat) ({ cls := "SmokeWordModel", name := "fillsFits", desc := "()V" } : Jvm.MethodName)) ∈ lw_all := lw_g (lw_at lw_m8 25 rfl) rfl
theorem q1833 : (Jvm.Cond.privateMethod ({ cls := "SmokeWordModel", name := "fillsFits", desc := "()V" } : Jvm.MethodName)) ∈ lw_tbl := lw_at lw_m8 26 rfl
theorem q1834 : (Jvm.Cond.instanceMethod ({ cls := "SmokeWordModel", name := "fillsFits", desc := "()V" } : Jvm.MethodName)) ∈ lw_all := lw_g (lw_at lw_m8 27 rfl) rfl
theorem q1835 : (Jvm.Cond.code ({ cls := "SmokeWordModel", name := "fillsFits", desc := "()V" } : Jvm.MethodName) prog_19_method_108_code (4 : Nat) (Option.none : Option Jvm.ClassFile.FieldType)) ∈ lw_all := lw_g (lw_at lw_m8 28 rfl) rfl
theorem q1836 : (Jvm.Cond.methodLink "SmokeWordModel" (440 : Nat) ({ cls := "SmokeWordModel", name := "spot", desc := "(II)I" } : Jvm.MethodName)) ∈ lw_all := lw_g (lw_at lw_m8 29 rfl) rfl
theorem q1837 : (Jvm.Cond.static ({ cls := "SmokeWordModel", name := "spot", desc := "(II)I" } : Jvm.MethodName)) ∈ lw_all := lw_g (lw_at lw_m8 30 rfl) rfl
theorem q1838 : (Jvm.Cond.code ({ cls := "SmokeWordModel", name := "spot", desc := "(II)I" } : Jvm.MethodName) prog_19_method_106_code (2 : Nat) (Option.some Jvm.ClassFile.FieldType.int)) ∈ lw_all := lw_g (lw_at lw_m8 31 rfl) rfl
theorem q1839 : (Jvm.Cond.methodLink "SmokeWordModel" (443 : Nat) ({ cls := "SmokeWordModel", name := "areNotesSo", desc := "(I)Z" } : Jvm.MethodName)) ∈ lw_all := lw_g (lw_at lw_m8 32 rfl) rfl
theorem q1840 : (Jvm.Cond.privateMethod ({ cls := "SmokeWordModel", name := "areNotesSo", desc := "(I)Z" } : Jvm.MethodName)) ∈ lw_tbl := lw_at lw_m8 33 rfl
theorem q1841 : (Jvm.Cond.instanceMethod ({ cls := "SmokeWordModel", name := "areNotesSo", desc := "(I)Z" } : Jvm.MethodName)) ∈ lw_all := lw_g (lw_at lw_m8 34 rfl) rfl
theorem q1842 : (Jvm.Cond.code ({ cls := "SmokeWordModel", name := "areNotesSo", desc := "(I)Z" } : Jvm.MethodName) prog_19_method_107_code (3 : Nat) (Option.some Jvm.ClassFile.FieldType.boolean)) ∈ lw_all := lw_g (lw_at lw_m8 35 rfl) rfl
theorem q1844 : (Jvm.Cond.instanceMethod ({ cls := "SmokeWordModel", name := "look", desc := "(I)I" } : Jvm.MethodName)) ∈ lw_all := lw_g (lw_at lw_m8 37 rfl) rfl
theorem q1845 : (Jvm.Cond.selects "SmokeWordModel" ({ cls := "SmokeWordModel", name := "look", desc := "(I)I" } : Jvm.MethodName) ({ cls := "SmokeWordModel", name := "look", desc := "(I)I" } : Jvm.MethodName)) ∈ lw_all := lw_g (lw_at lw_m8 38 rfl) rfl
theorem q1846 : (Jvm.Cond.code ({ cls := "SmokeWordModel", name := "look", desc := "(I)I" } : Jvm.MethodName) prog_19_method_111_code (4 : Nat) (Option.some Jvm.ClassFile.FieldType.int)) ∈ lw_all := lw_g (lw_at lw_m8 39 rfl) rfl
theorem q1847 : (Jvm.Cond.methodLink "SmokeWordModel" (449 : Nat) ({ cls := "SmokeWordModel", name := "alikeAt", desc := "(I)I" } : Jvm.MethodName)) ∈ lw_all := lw_g (lw_at lw_m8 40 rfl) rfl
theorem q1848 : (Jvm.Cond.privateMethod ({ cls := "SmokeWordModel", name := "alikeAt", desc := "(I)I" } : Jvm.MethodName)) ∈ lw_tbl := lw_at lw_m8 41 rfl
theorem q1849 : (Jvm.Cond.instanceMethod ({ cls := "SmokeWordModel", name := "alikeAt", desc := "(I)I" } : Jvm.MethodName)) ∈ lw_all := lw_g (lw_at lw_m8 42 rfl) rfl
theorem q1850 : (Jvm.Cond.code ({ cls := "SmokeWordModel", name := "alikeAt", desc := "(I)I" } : Jvm.MethodName) prog_19_method_110_code (6 : Nat) (Option.some Jvm.ClassFile.FieldType.int)) ∈ lw_all := lw_g (lw_at lw_m8 43 rfl) rfl
theorem q1852 : (Jvm.Cond.instanceMethod ({ cls := "SmokeWordModel", name := "seed", desc := "(I)I" } : Jvm.MethodName)) ∈ lw_all := lw_g (lw_at lw_m8 45 rfl) rfl
theorem q1853 : (Jvm.Cond.selects "SmokeWordModel" ({ cls := "SmokeWordModel", name := "seed", desc := "(I)I" } : Jvm.MethodName) ({ cls := "SmokeWordModel", name := "seed", desc := "(I)I" } : Jvm.MethodName)) ∈ lw_all := lw_g (lw_at lw_m8 46 rfl) rfl
theorem q1854 : (Jvm.Cond.code ({ cls := "SmokeWordModel", name := "seed", desc := "(I)I" } : Jvm.MethodName) prog_19_method_112_code (3 : Nat) (Option.some Jvm.ClassFile.FieldType.int)) ∈ lw_all := lw_g (lw_at lw_m8 47 rfl) rfl
theorem q1856 : (Jvm.Cond.instanceMethod ({ cls := "SmokeWordModel", name := "sparks", desc := "(IIII)I" } : Jvm.MethodName)) ∈ lw_all := lw_g (lw_at lw_m8 49 rfl) rfl
theorem q1857 : (Jvm.Cond.selects "SmokeWordModel" ({ cls := "SmokeWordModel", name := "sparks", desc := "(IIII)I" } : Jvm.MethodName) ({ cls := "SmokeWordModel", name := "sparks", desc := "(IIII)I" } : Jvm.MethodName)) ∈ lw_all := lw_g (lw_at lw_m8 50 rfl) rfl
theorem q1858 : (Jvm.Cond.code ({ cls := "SmokeWordModel", name := "sparks", desc := "(IIII)I" } : Jvm.MethodName) prog_19_method_115_code (9 : Nat) (Option.some Jvm.ClassFile.FieldType.int)) ∈ lw_all := lw_g (lw_at lw_m8 51 rfl) rfl
theorem q1859 : (Jvm.Cond.constantLong "SmokeWordModel" (467 : Nat) (10 : Int64)) ∈ lw_all := lw_g (lw_at lw_m8 52 rfl) rfl
theorem q1860 : (Jvm.Cond.methodLink "SmokeWordModel" (469 : Nat) ({ cls := "SmokeWordModel", name := "draw", desc := "(I)I" } : Jvm.MethodName)) ∈ lw_all := lw_g (lw_at lw_m8 53 rfl) rfl
theorem q1861 : (Jvm.Cond.privateMethod ({ cls := "SmokeWordModel", name := "draw", desc := "(I)I" } : Jvm.MethodName)) ∈ lw_tbl := lw_at lw_m8 54 rfl
theorem q1862 : (Jvm.Cond.instanceMethod ({ cls := "SmokeWordModel", name := "draw", desc := "(I)I" } : Jvm.MethodName)) ∈ lw_all := lw_g (lw_at lw_m8 55 rfl) rfl
theorem q1863 : (Jvm.Cond.code ({ cls := "SmokeWordModel", name := "draw", desc := "(I)I" } : Jvm.MethodName) prog_19_method_113_code (2 : Nat) (Option.some Jvm.ClassFile.FieldType.int)) ∈ lw_all := lw_g (lw_at lw_m8 56 rfl) rfl
theorem q1864 : (Jvm.Cond.constantLong "SmokeWordModel" (459 : Nat) (1103515245 : Int64)) ∈ lw_all := lw_g (lw_at lw_m8 57 rfl) rfl
theorem q1865 : (Jvm.Cond.constantLong "SmokeWordModel" (461 : Nat) (12345 : Int64)) ∈ lw_all := lw_g (lw_at lw_m8 58 rfl) rfl
theorem q1866 : (Jvm.Cond.constantLong "SmokeWordModel" (463 : Nat) (2147483648 : Int64)) ∈ lw_all := lw_g (lw_at lw_m8 59 rfl) rfl
theorem q1867 : (Jvm.Cond.constantLong "SmokeWordModel" (465 : Nat) (65536 : Int64)) ∈ lw_all := lw_g (lw_at lw_m8 60 rfl) rfl
theorem q1868 : (Jvm.Cond.methodLink "SmokeWordModel" (472 : Nat) ({ cls := "SmokeWordModel", name := "sparksOn", desc := "(I)V" } : Jvm.MethodName)) ∈ lw_all := lw_g (lw_at lw_m8 61 rfl) rfl
theorem q1869 : (Jvm.Cond.privateMethod ({ cls := "SmokeWordModel", name := "sparksOn", desc := "(I)V" } : Jvm.MethodName)) ∈ lw_tbl := lw_at lw_m8 62 rfl
theorem q1870 : (Jvm.Cond.instanceMethod ({ cls := "SmokeWordModel", name := "sparksOn", desc := "(I)V" } : Jvm.MethodName)) ∈ lw_all := lw_g (lw_at lw_m8 63 rfl) rfl
theorem q1871 : (Jvm.Cond.code ({ cls := "SmokeWordModel", name := "sparksOn", desc := "(I)V" } : Jvm.MethodName) prog_19_method_114_code (2 : Nat) (Option.none : Option Jvm.ClassFile.FieldType)) ∈ lw_all := lw_g (lw_at lw_m8 64 rfl) rfl
theorem q1873 : (Jvm.Cond.instanceMethod ({ cls := "SmokeWordModel", name := "count", desc := "(I)I" } : Jvm.MethodName)) ∈ lw_all := lw_g (lw_at lw_m8 66 rfl) rfl
theorem q1874 : (Jvm.Cond.selects "SmokeWordModel" ({ cls := "SmokeWordModel", name := "count", desc := "(I)I" } : Jvm.MethodName) ({ cls := "SmokeWordModel", name := "count", desc := "(I)I" } : Jvm.MethodName)) ∈ lw_all := lw_g (lw_at lw_m8 67 rfl) rfl
theorem q1875 : (Jvm.Cond.code ({ cls := "SmokeWordModel", name := "count", desc := "(I)I" } : Jvm.MethodName) prog_19_method_116_code (2 : Nat) (Option.some Jvm.ClassFile.FieldType.int)) ∈ lw_all := lw_g (lw_at lw_m8 68 rfl) rfl
theorem q1877 : (Jvm.Cond.instanceMethod ({ cls := "SmokeWordModel", name := "image", desc := "(I)I" } : Jvm.MethodName)) ∈ lw_all := lw_g (lw_at lw_m8 70 rfl) rfl
theorem q1878 : (Jvm.Cond.selects "SmokeWordModel" ({ cls := "SmokeWordModel", name := "image", desc := "(I)I" } : Jvm.MethodName) ({ cls := "SmokeWordModel", name := "image", desc := "(I)I" } : Jvm.MethodName)) ∈ lw_all := lw_g (lw_at lw_m8 71 rfl) rfl
theorem q1879 : (Jvm.Cond.code ({ cls := "SmokeWordModel", name := "image", desc := "(I)I" } : Jvm.MethodName) prog_19_method_117_code (3 : Nat) (Option.some Jvm.ClassFile.FieldType.int)) ∈ lw_all := lw_g (lw_at lw_m8 72 rfl) rfl
theorem q1880 : (Jvm.Cond.constantLong "SmokeWordModel" (475 : Nat) (3 : Int64)) ∈ lw_all := lw_g (lw_at lw_m8 73 rfl) rfl
theorem q1882 : (Jvm.Cond.instanceMethod ({ cls := "SmokeWordModel", name := "back", desc := "(I)I" } : Jvm.MethodName)) ∈ lw_all := lw_g (lw_at lw_m8 75 rfl) rfl
theorem q1883 : (Jvm.Cond.selects "SmokeWordModel" ({ cls := "SmokeWordModel", name := "back", desc := "(I)I" } : Jvm.MethodName) ({ cls := "SmokeWordModel", name := "back", desc := "(I)I" } : Jvm.MethodName)) ∈ lw_all := lw_g (lw_at lw_m8 76 rfl) rfl
theorem q1884 : (Jvm.Cond.code ({ cls := "SmokeWordModel", name := "back", desc := "(I)I" } : Jvm.MethodName) prog_19_method_118_code (3 : Nat) (Option.some Jvm.ClassFile.FieldType.int)) ∈ lw_all := lw_g (lw_at lw_m8 77 rfl) rfl
theorem q1894 : (Jvm.Cond.castable "SmokeWordModel" "java/lang/Object") ∈ lw_tbl := lw_at lw_m8 87 rfl
theorem in_X4 : ∀ w ∈ wsX40, w ∈ lw_all := lw_in wsX40 [1302, 1304, 1306, 1308, 1310, 1312, 1314, 1316, 1318, 1320, 1322, 1324, 1326, 1328, 1330, 1332, 1334, 1336, 1338, 1340, 1342, 1344, 1346, 1348, 1350, 1352, 1354, 1356, 1358, 1360, 1362, 1364, 1366, 1368, 1370, 1372, 1374, 1376, 1378, 1380, 1382, 1384, 1386] (by decide +kernel) (by decide +kernel)
