/-! SmokeWord -/
set_option maxRecDepth 100000
def RX0 : String := "SmokeWord"
def TX0 : u_T := fun k => match k with
  | 0 => ("SmokeWord", "valley", "LSmokeWord$Valley;", false)
  | 1 => ("SmokeWord", "state", "LSmokeWord$State;", true)
  | 2 => ("SmokeWord", "kept", "LSmokeWord$State;", true)
  | 3 => ("SmokeWord", "rules", "Ljava/util/ArrayList;", true)
  | 4 => ("SmokeWord", "inForce", "I", false)
  | 5 => ("SmokeWord", "wrong", "LSmokeWord$Wrong;", true)
  | 6 => ("SmokeWord", "tape", "[B", true)
  | 7 => ("SmokeWord", "taped", "I", false)
  | 8 => ("SmokeWord", "noteWhen", "[I", true)
  | 9 => ("SmokeWord", "noteWhere", "[I", true)
  | 10 => ("SmokeWord", "notes", "I", false)
  | 11 => ("SmokeWord", "draw", "I", false)
  | 12 => ("SmokeWord", "words", "[J", true)
  | 13 => ("SmokeWord", "row", "[I", true)
  | 14 => ("SmokeWord", "bestRow", "[I", true)
  | 15 => ("SmokeWord", "rowMany", "I", false)
  | 16 => ("SmokeWord", "rowAt", "I", false)
  | 17 => ("SmokeWord", "byRow", "Z", false)
  | 18 => ("SmokeWord", "came", "I", false)
  | 19 => ("SmokeWord", "past", "[LSmokeWord$State;", true)
  | 20 => ("SmokeWord", "pastMany", "I", false)
  | 21 => ("SmokeWord", "pastAt", "I", false)
  | 22 => ("SmokeWord", "mostLeft", "I", false)
  | 23 => ("SmokeWord", "firstHas", "[I", true)
  | 24 => ("SmokeWord", "secondHas", "[I", true)
  | 25 => ("SmokeWord", "course", "[I", true)
  | 26 => ("SmokeWord", "shows", "[I", true)
  | _ => ("SmokeWord", "images", "[LSmokeWord$Image;", true)
def tyX0 : Nat → FieldType := fun k => match k with
  | 0 => .object "SmokeWord$Valley"
  | 1 => .object "SmokeWord$State"
  | 2 => .object "SmokeWord$State"
  | 3 => .object "java/util/ArrayList"
  | 4 => .int
  | 5 => .object "SmokeWord$Wrong"
  | 6 => .array .byte
  | 7 => .int
  | 8 => .array .int
  | 9 => .array .int
  | 10 => .int
  | 11 => .int
  | 12 => .array .long
  | 13 => .array .int
  | 14 => .array .int
  | 15 => .int
  | 16 => .int
  | 17 => .boolean
  | 18 => .int
  | 19 => .array (.object "SmokeWord$State")
  | 20 => .int
  | 21 => .int
  | 22 => .int
  | 23 => .array .int
  | 24 => .array .int
  | 25 => .array .int
  | 26 => .array .int
  | _ => .array (.object "SmokeWord$Image")
abbrev wsX00 : List Cond := u_ws RX0 TX0 28
set_option maxRecDepth 100000 in
theorem nmX0 : ∀ a, a < 28 → ∀ b, b < 28 → a ≠ b → (TX0 a).2.1 ≠ (TX0 b).2.1 := by decide +kernel
set_option maxRecDepth 100000 in
theorem tyX0_ok : ∀ k, k < 28 → parseFieldDescriptor (TX0 k).2.2.1 = some (tyX0 k) := by decide +kernel
abbrev cX0_init : ByteArray := prog_1_method_4_code
def yX0_init : MethodName := ⟨RX0, "<init>", "()V"⟩
def dkwX0_init_7 : List UInt8 := [189, 0, 91, 181, 0, 93, 177]
abbrev dktX0_init_7 : List UInt8 := dkwX0_init_7 ++ []
def dkwX0_init_6 : List UInt8 := [188, 10, 181, 0, 82, 42, 16, 61, 188, 10, 181, 0, 85, 42, 17, 1, 171, 188, 10, 181, 0, 88, 42, 7]
abbrev dktX0_init_6 : List UInt8 := dkwX0_init_6 ++ dktX0_init_7
def dkwX0_init_5 : List UInt8 := [181, 0, 68, 42, 16, 20, 184, 0, 71, 181, 0, 75, 42, 16, 25, 188, 10, 181, 0, 79, 42, 16, 25]
abbrev dktX0_init_5 : List UInt8 := dkwX0_init_5 ++ dktX0_init_6
def dkwX0_init_4 : List UInt8 := [178, 0, 57, 190, 188, 11, 181, 0, 61, 42, 16, 6, 188, 10, 181, 0, 65, 42, 16, 6, 188, 10]
abbrev dktX0_init_4 : List UInt8 := dkwX0_init_4 ++ dktX0_init_5
def dkwX0_init_3 : List UInt8 := [188, 8, 181, 0, 46, 42, 16, 10, 188, 10, 181, 0, 50, 42, 16, 10, 188, 10, 181, 0, 54, 42]
abbrev dktX0_init_3 : List UInt8 := dkwX0_init_3 ++ dktX0_init_4
def dkwX0_init_2 : List UInt8 := [181, 0, 31, 42, 2, 181, 0, 35, 42, 187, 0, 39, 89, 183, 0, 41, 181, 0, 42, 42, 17, 1, 144]
abbrev dktX0_init_2 : List UInt8 := dkwX0_init_2 ++ dktX0_init_3
def dkwX0_init_1 : List UInt8 := [181, 0, 19, 42, 187, 0, 16, 89, 183, 0, 18, 181, 0, 23, 42, 187, 0, 26, 89, 5, 183, 0, 28]
abbrev dktX0_init_1 : List UInt8 := dkwX0_init_1 ++ dktX0_init_2
def dkwX0_init_0 : List UInt8 := [42, 183, 0, 1, 42, 187, 0, 7, 89, 183, 0, 9, 181, 0, 10, 42, 187, 0, 16, 89, 183, 0, 18]
abbrev dktX0_init_0 : List UInt8 := dkwX0_init_0 ++ dktX0_init_1
theorem dksX0_init_0 : cX0_init.data.toList.drop 0 = dktX0_init_0 := by decide +kernel
theorem dksX0_init_1 : cX0_init.data.toList.drop 23 = dktX0_init_1 := dk_seg dksX0_init_0 23 rfl rfl
theorem dksX0_init_2 : cX0_init.data.toList.drop 46 = dktX0_init_2 := dk_seg dksX0_init_1 23 rfl rfl
theorem dksX0_init_3 : cX0_init.data.toList.drop 69 = dktX0_init_3 := dk_seg dksX0_init_2 23 rfl rfl
theorem dksX0_init_4 : cX0_init.data.toList.drop 91 = dktX0_init_4 := dk_seg dksX0_init_3 22 rfl rfl
theorem dksX0_init_5 : cX0_init.data.toList.drop 113 = dktX0_init_5 := dk_seg dksX0_init_4 22 rfl rfl
theorem dksX0_init_6 : cX0_init.data.toList.drop 136 = dktX0_init_6 := dk_seg dksX0_init_5 23 rfl rfl
theorem dksX0_init_7 : cX0_init.data.toList.drop 160 = dktX0_init_7 := dk_seg dksX0_init_6 24 rfl rfl
theorem dX0_init_0 : decode cX0_init 0 = .ok (.aload_n 0, 1) := dk_42 (dk_at dksX0_init_0 0 rfl rfl)
theorem dX0_init_1 : decode cX0_init 1 = .ok (.invokespecial 1, 3) := dk_183 0 1 (dk_at dksX0_init_0 1 rfl rfl)
theorem dX0_init_4 : decode cX0_init 4 = .ok (.aload_n 0, 1) := dk_42 (dk_at dksX0_init_0 4 rfl rfl)
theorem dX0_init_5 : decode cX0_init 5 = .ok (.new 7, 3) := dk_187 0 7 (dk_at dksX0_init_0 5 rfl rfl)
theorem dX0_init_8 : decode cX0_init 8 = .ok (.dup, 1) := dk_89 (dk_at dksX0_init_0 8 rfl rfl)
theorem dX0_init_9 : decode cX0_init 9 = .ok (.invokespecial 9, 3) := dk_183 0 9 (dk_at dksX0_init_0 9 rfl rfl)
theorem dX0_init_12 : decode cX0_init 12 = .ok (.putfield 10, 3) := dk_181 0 10 (dk_at dksX0_init_0 12 rfl rfl)
theorem dX0_init_15 : decode cX0_init 15 = .ok (.aload_n 0, 1) := dk_42 (dk_at dksX0_init_0 15 rfl rfl)
theorem dX0_init_16 : decode cX0_init 16 = .ok (.new 16, 3) := dk_187 0 16 (dk_at dksX0_init_0 16 rfl rfl)
theorem dX0_init_19 : decode cX0_init 19 = .ok (.dup, 1) := dk_89 (dk_at dksX0_init_0 19 rfl rfl)
theorem dX0_init_20 : decode cX0_init 20 = .ok (.invokespecial 18, 3) := dk_183 0 18 (dk_at dksX0_init_0 20 rfl rfl)
theorem dX0_init_23 : decode cX0_init 23 = .ok (.putfield 19, 3) := dk_181 0 19 (dk_at dksX0_init_1 0 rfl rfl)
theorem dX0_init_26 : decode cX0_init 26 = .ok (.aload_n 0, 1) := dk_42 (dk_at dksX0_init_1 3 rfl rfl)
theorem dX0_init_27 : decode cX0_init 27 = .ok (.new 16, 3) := dk_187 0 16 (dk_at dksX0_init_1 4 rfl rfl)
theorem dX0_init_30 : decode cX0_init 30 = .ok (.dup, 1) := dk_89 (dk_at dksX0_init_1 7 rfl rfl)
theorem dX0_init_31 : decode cX0_init 31 = .ok (.invokespecial 18, 3) := dk_183 0 18 (dk_at dksX0_init_1 8 rfl rfl)
theorem dX0_init_34 : decode cX0_init 34 = .ok (.putfield 23, 3) := dk_181 0 23 (dk_at dksX0_init_1 11 rfl rfl)
theorem dX0_init_37 : decode cX0_init 37 = .ok (.aload_n 0, 1) := dk_42 (dk_at dksX0_init_1 14 rfl rfl)
theorem dX0_init_38 : decode cX0_init 38 = .ok (.new 26, 3) := dk_187 0 26 (dk_at dksX0_init_1 15 rfl rfl)
theorem dX0_init_41 : decode cX0_init 41 = .ok (.dup, 1) := dk_89 (dk_at dksX0_init_1 18 rfl rfl)
theorem dX0_init_42 : decode cX0_init 42 = .ok (.iconst 2, 1) := dk_5 (dk_at dksX0_init_1 19 rfl rfl)
theorem dX0_init_43 : decode cX0_init 43 = .ok (.invokespecial 28, 3) := dk_183 0 28 (dk_at dksX0_init_1 20 rfl rfl)
theorem dX0_init_46 : decode cX0_init 46 = .ok (.putfield 31, 3) := dk_181 0 31 (dk_at dksX0_init_2 0 rfl rfl)
theorem dX0_init_49 : decode cX0_init 49 = .ok (.aload_n 0, 1) := dk_42 (dk_at dksX0_init_2 3 rfl rfl)
theorem dX0_init_50 : decode cX0_init 50 = .ok (.iconst (-1), 1) := dk_2 (dk_at dksX0_init_2 4 rfl rfl)
theorem dX0_init_51 : decode cX0_init 51 = .ok (.putfield 35, 3) := dk_181 0 35 (dk_at dksX0_init_2 5 rfl rfl)
theorem dX0_init_54 : decode cX0_init 54 = .ok (.aload_n 0, 1) := dk_42 (dk_at dksX0_init_2 8 rfl rfl)
theorem dX0_init_55 : decode cX0_init 55 = .ok (.new 39, 3) := dk_187 0 39 (dk_at dksX0_init_2 9 rfl rfl)
theorem dX0_init_58 : decode cX0_init 58 = .ok (.dup, 1) := dk_89 (dk_at dksX0_init_2 12 rfl rfl)
theorem dX0_init_59 : decode cX0_init 59 = .ok (.invokespecial 41, 3) := dk_183 0 41 (dk_at dksX0_init_2 13 rfl rfl)
theorem dX0_init_62 : decode cX0_init 62 = .ok (.putfield 42, 3) := dk_181 0 42 (dk_at dksX0_init_2 16 rfl rfl)
theorem dX0_init_65 : decode cX0_init 65 = .ok (.aload_n 0, 1) := dk_42 (dk_at dksX0_init_2 19 rfl rfl)
theorem dX0_init_66 : decode cX0_init 66 = .ok (.sipush 400, 3) := dk_17 1 144 (dk_at dksX0_init_2 20 rfl rfl)
theorem dX0_init_69 : decode cX0_init 69 = .ok (.newarray .byte, 2) := dk_188_8 (dk_at dksX0_init_3 0 rfl rfl)
theorem dX0_init_71 : decode cX0_init 71 = .ok (.putfield 46, 3) := dk_181 0 46 (dk_at dksX0_init_3 2 rfl rfl)
theorem dX0_init_74 : decode cX0_init 74 = .ok (.aload_n 0, 1) := dk_42 (dk_at dksX0_init_3 5 rfl rfl)
theorem dX0_init_75 : decode cX0_init 75 = .ok (.bipush 10, 2) := dk_16 10 (dk_at dksX0_init_3 6 rfl rfl)
theorem dX0_init_77 : decode cX0_init 77 = .ok (.newarray .int, 2) := dk_188_10 (dk_at dksX0_init_3 8 rfl rfl)
theorem dX0_init_79 : decode cX0_init 79 = .ok (.putfield 50, 3) := dk_181 0 50 (dk_at dksX0_init_3 10 rfl rfl)
theorem dX0_init_82 : decode cX0_init 82 = .ok (.aload_n 0, 1) := dk_42 (dk_at dksX0_init_3 13 rfl rfl)
theorem dX0_init_83 : decode cX0_init 83 = .ok (.bipush 10, 2) := dk_16 10 (dk_at dksX0_init_3 14 rfl rfl)
theorem dX0_init_85 : decode cX0_init 85 = .ok (.newarray .int, 2) := dk_188_10 (dk_at dksX0_init_3 16 rfl rfl)
theorem dX0_init_87 : decode cX0_init 87 = .ok (.putfield 54, 3) := dk_181 0 54 (dk_at dksX0_init_3 18 rfl rfl)
theorem dX0_init_90 : decode cX0_init 90 = .ok (.aload_n 0, 1) := dk_42 (dk_at dksX0_init_3 21 rfl rfl)
theorem dX0_init_91 : decode cX0_init 91 = .ok (.getstatic 57, 3) := dk_178 0 57 (dk_at dksX0_init_4 0 rfl rfl)
theorem dX0_init_94 : decode cX0_init 94 = .ok (.arraylength, 1) := dk_190 (dk_at dksX0_init_4 3 rfl rfl)
theorem dX0_init_95 : decode cX0_init 95 = .ok (.newarray .long, 2) := dk_188_11 (dk_at dksX0_init_4 4 rfl rfl)
theorem dX0_init_97 : decode cX0_init 97 = .ok (.putfield 61, 3) := dk_181 0 61 (dk_at dksX0_init_4 6 rfl rfl)
theorem dX0_init_100 : decode cX0_init 100 = .ok (.aload_n 0, 1) := dk_42 (dk_at dksX0_init_4 9 rfl rfl)
theorem dX0_init_101 : decode cX0_init 101 = .ok (.bipush 6, 2) := dk_16 6 (dk_at dksX0_init_4 10 rfl rfl)
theorem dX0_init_103 : decode cX0_init 103 = .ok (.newarray .int, 2) := dk_188_10 (dk_at dksX0_init_4 12 rfl rfl)
theorem dX0_init_105 : decode cX0_init 105 = .ok (.putfield 65, 3) := dk_181 0 65 (dk_at dksX0_init_4 14 rfl rfl)
theorem dX0_init_108 : decode cX0_init 108 = .ok (.aload_n 0, 1) := dk_42 (dk_at dksX0_init_4 17 rfl rfl)
theorem dX0_init_109 : decode cX0_init 109 = .ok (.bipush 6, 2) := dk_16 6 (dk_at dksX0_init_4 18 rfl rfl)
theorem dX0_init_111 : decode cX0_init 111 = .ok (.newarray .int, 2) := dk_188_10 (dk_at dksX0_init_4 20 rfl rfl)
theorem dX0_init_113 : decode cX0_init 113 = .ok (.putfield 68, 3) := dk_181 0 68 (dk_at dksX0_init_5 0 rfl rfl)
theorem dX0_init_116 : decode cX0_init 116 = .ok (.aload_n 0, 1) := dk_42 (dk_at dksX0_init_5 3 rfl rfl)
theorem dX0_init_117 : decode cX0_init 117 = .ok (.bipush 20, 2) := dk_16 20 (dk_at dksX0_init_5 4 rfl rfl)
theorem dX0_init_119 : decode cX0_init 119 = .ok (.invokestatic 71, 3) := dk_184 0 71 (dk_at dksX0_init_5 6 rfl rfl)
theorem dX0_init_122 : decode cX0_init 122 = .ok (.putfield 75, 3) := dk_181 0 75 (dk_at dksX0_init_5 9 rfl rfl)
theorem dX0_init_125 : decode cX0_init 125 = .ok (.aload_n 0, 1) := dk_42 (dk_at dksX0_init_5 12 rfl rfl)
theorem dX0_init_126 : decode cX0_init 126 = .ok (.bipush 25, 2) := dk_16 25 (dk_at dksX0_init_5 13 rfl rfl)
theorem dX0_init_128 : decode cX0_init 128 = .ok (.newarray .int, 2) := dk_188_10 (dk_at dksX0_init_5 15 rfl rfl)
theorem dX0_init_130 : decode cX0_init 130 = .ok (.putfield 79, 3) := dk_181 0 79 (dk_at dksX0_init_5 17 rfl rfl)
theorem dX0_init_133 : decode cX0_init 133 = .ok (.aload_n 0, 1) := dk_42 (dk_at dksX0_init_5 20 rfl rfl)
theorem dX0_init_134 : decode cX0_init 134 = .ok (.bipush 25, 2) := dk_16 25 (dk_at dksX0_init_5 21 rfl rfl)
theorem dX0_init_136 : decode cX0_init 136 = .ok (.newarray .int, 2) := dk_188_10 (dk_at dksX0_init_6 0 rfl rfl)
theorem dX0_init_138 : decode cX0_init 138 = .ok (.putfield 82, 3) := dk_181 0 82 (dk_at dksX0_init_6 2 rfl rfl)
theorem dX0_init_141 : decode cX0_init 141 = .ok (.aload_n 0, 1) := dk_42 (dk_at dksX0_init_6 5 rfl rfl)
theorem dX0_init_142 : decode cX0_init 142 = .ok (.bipush 61, 2) := dk_16 61 (dk_at dksX0_init_6 6 rfl rfl)
theorem dX0_init_144 : decode cX0_init 144 = .ok (.newarray .int, 2) := dk_188_10 (dk_at dksX0_init_6 8 rfl rfl)
theorem dX0_init_146 : decode cX0_init 146 = .ok (.putfield 85, 3) := dk_181 0 85 (dk_at dksX0_init_6 10 rfl rfl)
theorem dX0_init_149 : decode cX0_init 149 = .ok (.aload_n 0, 1) := dk_42 (dk_at dksX0_init_6 13 rfl rfl)
theorem dX0_init_150 : decode cX0_init 150 = .ok (.sipush 427, 3) := dk_17 1 171 (dk_at dksX0_init_6 14 rfl rfl)
theorem dX0_init_153 : decode cX0_init 153 = .ok (.newarray .int, 2) := dk_188_10 (dk_at dksX0_init_6 17 rfl rfl)
theorem dX0_init_155 : decode cX0_init 155 = .ok (.putfield 88, 3) := dk_181 0 88 (dk_at dksX0_init_6 19 rfl rfl)
theorem dX0_init_158 : decode cX0_init 158 = .ok (.aload_n 0, 1) := dk_42 (dk_at dksX0_init_6 22 rfl rfl)
theorem dX0_init_159 : decode cX0_init 159 = .ok (.iconst 4, 1) := dk_7 (dk_at dksX0_init_6 23 rfl rfl)
theorem dX0_init_160 : decode cX0_init 160 = .ok (.anewarray 91, 3) := dk_189 0 91 (dk_at dksX0_init_7 0 rfl rfl)
theorem dX0_init_163 : decode cX0_init 163 = .ok (.putfield 93, 3) := dk_181 0 93 (dk_at dksX0_init_7 3 rfl rfl)
theorem dX0_init_166 : decode cX0_init 166 = .ok (.return_, 1) := dk_177 (dk_at dksX0_init_7 6 rfl rfl)
abbrev cX0_newStates : ByteArray := prog_1_method_25_code
def yX0_newStates : MethodName := ⟨RX0, "newStates", "(I)[LSmokeWord$State;"⟩
def dkwX0_newStates_1 : List UInt8 := [132, 2, 1, 167, 255, 238, 43, 176]
abbrev dktX0_newStates_1 : List UInt8 := dkwX0_newStates_1 ++ []
def dkwX0_newStates_0 : List UInt8 := [26, 189, 0, 16, 76, 3, 61, 28, 26, 162, 0, 19, 43, 28, 187, 0, 16, 89, 183, 0, 18, 83]
abbrev dktX0_newStates_0 : List UInt8 := dkwX0_newStates_0 ++ dktX0_newStates_1
theorem dksX0_newStates_0 : cX0_newStates.data.toList.drop 0 = dktX0_newStates_0 := by decide +kernel
theorem dksX0_newStates_1 : cX0_newStates.data.toList.drop 22 = dktX0_newStates_1 := dk_seg dksX0_newStates_0 22 rfl rfl
theorem dX0_newStates_0 : decode cX0_newStates 0 = .ok (.iload_n 0, 1) := dk_26 (dk_at dksX0_newStates_0 0 rfl rfl)
theorem dX0_newStates_1 : decode cX0_newStates 1 = .ok (.anewarray 16, 3) := dk_189 0 16 (dk_at dksX0_newStates_0 1 rfl rfl)
theorem dX0_newStates_4 : decode cX0_newStates 4 = .ok (.astore_n 1, 1) := dk_76 (dk_at dksX0_newStates_0 4 rfl rfl)
theorem dX0_newStates_5 : decode cX0_newStates 5 = .ok (.iconst 0, 1) := dk_3 (dk_at dksX0_newStates_0 5 rfl rfl)
theorem dX0_newStates_6 : decode cX0_newStates 6 = .ok (.istore_n 2, 1) := dk_61 (dk_at dksX0_newStates_0 6 rfl rfl)
theorem dX0_newStates_7 : decode cX0_newStates 7 = .ok (.iload_n 2, 1) := dk_28 (dk_at dksX0_newStates_0 7 rfl rfl)
theorem dX0_newStates_8 : decode cX0_newStates 8 = .ok (.iload_n 0, 1) := dk_26 (dk_at dksX0_newStates_0 8 rfl rfl)
theorem dX0_newStates_9 : decode cX0_newStates 9 = .ok (.if_icmp .ge 19, 3) := dk_162 0 19 (dk_at dksX0_newStates_0 9 rfl rfl)
theorem dX0_newStates_12 : decode cX0_newStates 12 = .ok (.aload_n 1, 1) := dk_43 (dk_at dksX0_newStates_0 12 rfl rfl)
theorem dX0_newStates_13 : decode cX0_newStates 13 = .ok (.iload_n 2, 1) := dk_28 (dk_at dksX0_newStates_0 13 rfl rfl)
theorem dX0_newStates_14 : decode cX0_newStates 14 = .ok (.new 16, 3) := dk_187 0 16 (dk_at dksX0_newStates_0 14 rfl rfl)
theorem dX0_newStates_17 : decode cX0_newStates 17 = .ok (.dup, 1) := dk_89 (dk_at dksX0_newStates_0 17 rfl rfl)
theorem dX0_newStates_18 : decode cX0_newStates 18 = .ok (.invokespecial 18, 3) := dk_183 0 18 (dk_at dksX0_newStates_0 18 rfl rfl)
theorem dX0_newStates_21 : decode cX0_newStates 21 = .ok (.aastore, 1) := dk_83 (dk_at dksX0_newStates_0 21 rfl rfl)
theorem dX0_newStates_22 : decode cX0_newStates 22 = .ok (.iinc 2 1, 3) := dk_132 2 1 (dk_at dksX0_newStates_1 0 rfl rfl)
theorem dX0_newStates_25 : decode cX0_newStates 25 = .ok (.goto (-18), 3) := dk_167 255 238 (dk_at dksX0_newStates_1 3 rfl rfl)
theorem dX0_newStates_28 : decode cX0_newStates 28 = .ok (.aload_n 1, 1) := dk_43 (dk_at dksX0_newStates_1 6 rfl rfl)
theorem dX0_newStates_29 : decode cX0_newStates 29 = .ok (.areturn, 1) := dk_176 (dk_at dksX0_newStates_1 7 rfl rfl)
abbrev cX0_feed : ByteArray := prog_1_method_9_code
def yX0_feed : MethodName := ⟨RX0, "feed", "(IIIII)I"⟩
def dkwX0_feed_2 : List UInt8 := [172]
abbrev dktX0_feed_2 : List UInt8 := dkwX0_feed_2 ++ []
def dkwX0_feed_1 : List UInt8 := [182, 0, 118, 42, 29, 182, 0, 118, 42, 21, 4, 182, 0, 118, 42, 21, 5, 182, 0, 118, 42, 180, 0, 115]
abbrev dktX0_feed_1 : List UInt8 := dkwX0_feed_1 ++ dktX0_feed_2
def dkwX0_feed_0 : List UInt8 := [42, 180, 0, 115, 16, 20, 96, 17, 1, 144, 164, 0, 5, 2, 172, 42, 27, 182, 0, 118, 42, 28]
abbrev dktX0_feed_0 : List UInt8 := dkwX0_feed_0 ++ dktX0_feed_1
theorem dksX0_feed_0 : cX0_feed.data.toList.drop 0 = dktX0_feed_0 := by decide +kernel
theorem dksX0_feed_1 : cX0_feed.data.toList.drop 22 = dktX0_feed_1 := dk_seg dksX0_feed_0 22 rfl rfl
theorem dksX0_feed_2 : cX0_feed.data.toList.drop 46 = dktX0_feed_2 := dk_seg dksX0_feed_1 24 rfl rfl
theorem dX0_feed_0 : decode cX0_feed 0 = .ok (.aload_n 0, 1) := dk_42 (dk_at dksX0_feed_0 0 rfl rfl)
theorem dX0_feed_1 : decode cX0_feed 1 = .ok (.getfield 115, 3) := dk_180 0 115 (dk_at dksX0_feed_0 1 rfl rfl)
theorem dX0_feed_4 : decode cX0_feed 4 = .ok (.bipush 20, 2) := dk_16 20 (dk_at dksX0_feed_0 4 rfl rfl)
theorem dX0_feed_6 : decode cX0_feed 6 = .ok (.iadd, 1) := dk_96 (dk_at dksX0_feed_0 6 rfl rfl)
theorem dX0_feed_7 : decode cX0_feed 7 = .ok (.sipush 400, 3) := dk_17 1 144 (dk_at dksX0_feed_0 7 rfl rfl)
theorem dX0_feed_10 : decode cX0_feed 10 = .ok (.if_icmp .le 5, 3) := dk_164 0 5 (dk_at dksX0_feed_0 10 rfl rfl)
theorem dX0_feed_13 : decode cX0_feed 13 = .ok (.iconst (-1), 1) := dk_2 (dk_at dksX0_feed_0 13 rfl rfl)
theorem dX0_feed_14 : decode cX0_feed 14 = .ok (.ireturn, 1) := dk_172 (dk_at dksX0_feed_0 14 rfl rfl)
theorem dX0_feed_15 : decode cX0_feed 15 = .ok (.aload_n 0, 1) := dk_42 (dk_at dksX0_feed_0 15 rfl rfl)
theorem dX0_feed_16 : decode cX0_feed 16 = .ok (.iload_n 1, 1) := dk_27 (dk_at dksX0_feed_0 16 rfl rfl)
theorem dX0_feed_17 : decode cX0_feed 17 = .ok (.invokevirtual 118, 3) := dk_182 0 118 (dk_at dksX0_feed_0 17 rfl rfl)
theorem dX0_feed_20 : decode cX0_feed 20 = .ok (.aload_n 0, 1) := dk_42 (dk_at dksX0_feed_0 20 rfl rfl)
theorem dX0_feed_21 : decode cX0_feed 21 = .ok (.iload_n 2, 1) := dk_28 (dk_at dksX0_feed_0 21 rfl rfl)
theorem dX0_feed_22 : decode cX0_feed 22 = .ok (.invokevirtual 118, 3) := dk_182 0 118 (dk_at dksX0_feed_1 0 rfl rfl)
theorem dX0_feed_25 : decode cX0_feed 25 = .ok (.aload_n 0, 1) := dk_42 (dk_at dksX0_feed_1 3 rfl rfl)
theorem dX0_feed_26 : decode cX0_feed 26 = .ok (.iload_n 3, 1) := dk_29 (dk_at dksX0_feed_1 4 rfl rfl)
theorem dX0_feed_27 : decode cX0_feed 27 = .ok (.invokevirtual 118, 3) := dk_182 0 118 (dk_at dksX0_feed_1 5 rfl rfl)
theorem dX0_feed_30 : decode cX0_feed 30 = .ok (.aload_n 0, 1) := dk_42 (dk_at dksX0_feed_1 8 rfl rfl)
theorem dX0_feed_31 : decode cX0_feed 31 = .ok (.iload 4, 2) := dk_21 4 (dk_at dksX0_feed_1 9 rfl rfl)
theorem dX0_feed_33 : decode cX0_feed 33 = .ok (.invokevirtual 118, 3) := dk_182 0 118 (dk_at dksX0_feed_1 11 rfl rfl)
theorem dX0_feed_36 : decode cX0_feed 36 = .ok (.aload_n 0, 1) := dk_42 (dk_at dksX0_feed_1 14 rfl rfl)
theorem dX0_feed_37 : decode cX0_feed 37 = .ok (.iload 5, 2) := dk_21 5 (dk_at dksX0_feed_1 15 rfl rfl)
theorem dX0_feed_39 : decode cX0_feed 39 = .ok (.invokevirtual 118, 3) := dk_182 0 118 (dk_at dksX0_feed_1 17 rfl rfl)
theorem dX0_feed_42 : decode cX0_feed 42 = .ok (.aload_n 0, 1) := dk_42 (dk_at dksX0_feed_1 20 rfl rfl)
theorem dX0_feed_43 : decode cX0_feed 43 = .ok (.getfield 115, 3) := dk_180 0 115 (dk_at dksX0_feed_1 21 rfl rfl)
theorem dX0_feed_46 : decode cX0_feed 46 = .ok (.ireturn, 1) := dk_172 (dk_at dksX0_feed_2 0 rfl rfl)
abbrev cX0_put : ByteArray := prog_1_method_10_code
def yX0_put : MethodName := ⟨RX0, "put", "(I)V"⟩
def dkwX0_put_1 : List UInt8 := [180, 0, 115, 4, 96, 181, 0, 115, 132, 2, 248, 167, 255, 226, 177]
abbrev dktX0_put_1 : List UInt8 := dkwX0_put_1 ++ []
def dkwX0_put_0 : List UInt8 := [16, 24, 61, 28, 155, 0, 32, 42, 180, 0, 46, 42, 180, 0, 115, 27, 28, 122, 145, 84, 42, 89]
abbrev dktX0_put_0 : List UInt8 := dkwX0_put_0 ++ dktX0_put_1
theorem dksX0_put_0 : cX0_put.data.toList.drop 0 = dktX0_put_0 := by decide +kernel
theorem dksX0_put_1 : cX0_put.data.toList.drop 22 = dktX0_put_1 := dk_seg dksX0_put_0 22 rfl rfl
theorem dX0_put_0 : decode cX0_put 0 = .ok (.bipush 24, 2) := dk_16 24 (dk_at dksX0_put_0 0 rfl rfl)
theorem dX0_put_2 : decode cX0_put 2 = .ok (.istore_n 2, 1) := dk_61 (dk_at dksX0_put_0 2 rfl rfl)
theorem dX0_put_3 : decode cX0_put 3 = .ok (.iload_n 2, 1) := dk_28 (dk_at dksX0_put_0 3 rfl rfl)
theorem dX0_put_4 : decode cX0_put 4 = .ok (.ifCond .lt 32, 3) := dk_155 0 32 (dk_at dksX0_put_0 4 rfl rfl)
theorem dX0_put_7 : decode cX0_put 7 = .ok (.aload_n 0, 1) := dk_42 (dk_at dksX0_put_0 7 rfl rfl)
theorem dX0_put_8 : decode cX0_put 8 = .ok (.getfield 46, 3) := dk_180 0 46 (dk_at dksX0_put_0 8 rfl rfl)
theorem dX0_put_11 : decode cX0_put 11 = .ok (.aload_n 0, 1) := dk_42 (dk_at dksX0_put_0 11 rfl rfl)
theorem dX0_put_12 : decode cX0_put 12 = .ok (.getfield 115, 3) := dk_180 0 115 (dk_at dksX0_put_0 12 rfl rfl)
theorem dX0_put_15 : decode cX0_put 15 = .ok (.iload_n 1, 1) := dk_27 (dk_at dksX0_put_0 15 rfl rfl)
theorem dX0_put_16 : decode cX0_put 16 = .ok (.iload_n 2, 1) := dk_28 (dk_at dksX0_put_0 16 rfl rfl)
theorem dX0_put_17 : decode cX0_put 17 = .ok (.ishr, 1) := dk_122 (dk_at dksX0_put_0 17 rfl rfl)
theorem dX0_put_18 : decode cX0_put 18 = .ok (.i2b, 1) := dk_145 (dk_at dksX0_put_0 18 rfl rfl)
theorem dX0_put_19 : decode cX0_put 19 = .ok (.bastore, 1) := dk_84 (dk_at dksX0_put_0 19 rfl rfl)
theorem dX0_put_20 : decode cX0_put 20 = .ok (.aload_n 0, 1) := dk_42 (dk_at dksX0_put_0 20 rfl rfl)
theorem dX0_put_21 : decode cX0_put 21 = .ok (.dup, 1) := dk_89 (dk_at dksX0_put_0 21 rfl rfl)
theorem dX0_put_22 : decode cX0_put 22 = .ok (.getfield 115, 3) := dk_180 0 115 (dk_at dksX0_put_1 0 rfl rfl)
theorem dX0_put_25 : decode cX0_put 25 = .ok (.iconst 1, 1) := dk_4 (dk_at dksX0_put_1 3 rfl rfl)
theorem dX0_put_26 : decode cX0_put 26 = .ok (.iadd, 1) := dk_96 (dk_at dksX0_put_1 4 rfl rfl)
theorem dX0_put_27 : decode cX0_put 27 = .ok (.putfield 115, 3) := dk_181 0 115 (dk_at dksX0_put_1 5 rfl rfl)
theorem dX0_put_30 : decode cX0_put 30 = .ok (.iinc 2 (-8), 3) := dk_132 2 248 (dk_at dksX0_put_1 8 rfl rfl)
theorem dX0_put_33 : decode cX0_put 33 = .ok (.goto (-30), 3) := dk_167 255 226 (dk_at dksX0_put_1 11 rfl rfl)
theorem dX0_put_36 : decode cX0_put 36 = .ok (.return_, 1) := dk_177 (dk_at dksX0_put_1 14 rfl rfl)
abbrev cX0_end : ByteArray := prog_1_method_11_code
def yX0_end : MethodName := ⟨RX0, "end", "(I)I"⟩
def dkwX0_end_0 : List UInt8 := [27, 155, 0, 11, 27, 42, 180, 0, 115, 164, 0, 5, 2, 172, 42, 27, 181, 0, 115, 27, 172]
abbrev dktX0_end_0 : List UInt8 := dkwX0_end_0 ++ []
theorem dksX0_end_0 : cX0_end.data.toList.drop 0 = dktX0_end_0 := by decide +kernel
theorem dX0_end_0 : decode cX0_end 0 = .ok (.iload_n 1, 1) := dk_27 (dk_at dksX0_end_0 0 rfl rfl)
theorem dX0_end_1 : decode cX0_end 1 = .ok (.ifCond .lt 11, 3) := dk_155 0 11 (dk_at dksX0_end_0 1 rfl rfl)
theorem dX0_end_4 : decode cX0_end 4 = .ok (.iload_n 1, 1) := dk_27 (dk_at dksX0_end_0 4 rfl rfl)
theorem dX0_end_5 : decode cX0_end 5 = .ok (.aload_n 0, 1) := dk_42 (dk_at dksX0_end_0 5 rfl rfl)
theorem dX0_end_6 : decode cX0_end 6 = .ok (.getfield 115, 3) := dk_180 0 115 (dk_at dksX0_end_0 6 rfl rfl)
theorem dX0_end_9 : decode cX0_end 9 = .ok (.if_icmp .le 5, 3) := dk_164 0 5 (dk_at dksX0_end_0 9 rfl rfl)
theorem dX0_end_12 : decode cX0_end 12 = .ok (.iconst (-1), 1) := dk_2 (dk_at dksX0_end_0 12 rfl rfl)
theorem dX0_end_13 : decode cX0_end 13 = .ok (.ireturn, 1) := dk_172 (dk_at dksX0_end_0 13 rfl rfl)
theorem dX0_end_14 : decode cX0_end 14 = .ok (.aload_n 0, 1) := dk_42 (dk_at dksX0_end_0 14 rfl rfl)
theorem dX0_end_15 : decode cX0_end 15 = .ok (.iload_n 1, 1) := dk_27 (dk_at dksX0_end_0 15 rfl rfl)
theorem dX0_end_16 : decode cX0_end 16 = .ok (.putfield 115, 3) := dk_181 0 115 (dk_at dksX0_end_0 16 rfl rfl)
theorem dX0_end_19 : decode cX0_end 19 = .ok (.iload_n 1, 1) := dk_27 (dk_at dksX0_end_0 19 rfl rfl)
theorem dX0_end_20 : decode cX0_end 20 = .ok (.ireturn, 1) := dk_172 (dk_at dksX0_end_0 20 rfl rfl)
abbrev cX0_valley : ByteArray := prog_1_method_12_code
def yX0_valley : MethodName := ⟨RX0, "valley", "()I"⟩
def dkwX0_valley_3 : List UInt8 := [78, 42, 3, 181, 0, 115, 45, 191]
abbrev dktX0_valley_3 : List UInt8 := dkwX0_valley_3 ++ []
def dkwX0_valley_2 : List UInt8 := [60, 42, 3, 181, 0, 115, 27, 172, 76, 16, 254, 43, 180, 0, 112, 100, 61, 42, 3, 181, 0, 115, 28, 172]
abbrev dktX0_valley_2 : List UInt8 := dkwX0_valley_2 ++ dktX0_valley_3
def dkwX0_valley_1 : List UInt8 := [42, 180, 0, 10, 182, 0, 129, 42, 3, 181, 0, 133, 42, 3, 181, 0, 136, 42, 180, 0, 10, 182, 0, 100]
abbrev dktX0_valley_1 : List UInt8 := dkwX0_valley_1 ++ dktX0_valley_2
def dkwX0_valley_0 : List UInt8 := [42, 187, 0, 121, 89, 42, 178, 0, 57, 16, 40, 183, 0, 123, 182, 0, 126, 181, 0, 10, 42, 180, 0, 19]
abbrev dktX0_valley_0 : List UInt8 := dkwX0_valley_0 ++ dktX0_valley_1
theorem dksX0_valley_0 : cX0_valley.data.toList.drop 0 = dktX0_valley_0 := by decide +kernel
theorem dksX0_valley_1 : cX0_valley.data.toList.drop 24 = dktX0_valley_1 := dk_seg dksX0_valley_0 24 rfl rfl
theorem dksX0_valley_2 : cX0_valley.data.toList.drop 48 = dktX0_valley_2 := dk_seg dksX0_valley_1 24 rfl rfl
theorem dksX0_valley_3 : cX0_valley.data.toList.drop 72 = dktX0_valley_3 := dk_seg dksX0_valley_2 24 rfl rfl
theorem dX0_valley_0 : decode cX0_valley 0 = .ok (.aload_n 0, 1) := dk_42 (dk_at dksX0_valley_0 0 rfl rfl)
theorem dX0_valley_1 : decode cX0_valley 1 = .ok (.new 121, 3) := dk_187 0 121 (dk_at dksX0_valley_0 1 rfl rfl)
theorem dX0_valley_4 : decode cX0_valley 4 = .ok (.dup, 1) := dk_89 (dk_at dksX0_valley_0 4 rfl rfl)
theorem dX0_valley_5 : decode cX0_valley 5 = .ok (.aload_n 0, 1) := dk_42 (dk_at dksX0_valley_0 5 rfl rfl)
theorem dX0_valley_6 : decode cX0_valley 6 = .ok (.getstatic 57, 3) := dk_178 0 57 (dk_at dksX0_valley_0 6 rfl rfl)
theorem dX0_valley_9 : decode cX0_valley 9 = .ok (.bipush 40, 2) := dk_16 40 (dk_at dksX0_valley_0 9 rfl rfl)
theorem dX0_valley_11 : decode cX0_valley 11 = .ok (.invokespecial 123, 3) := dk_183 0 123 (dk_at dksX0_valley_0 11 rfl rfl)
theorem dX0_valley_14 : decode cX0_valley 14 = .ok (.invokevirtual 126, 3) := dk_182 0 126 (dk_at dksX0_valley_0 14 rfl rfl)
theorem dX0_valley_17 : decode cX0_valley 17 = .ok (.putfield 10, 3) := dk_181 0 10 (dk_at dksX0_valley_0 17 rfl rfl)
theorem dX0_valley_20 : decode cX0_valley 20 = .ok (.aload_n 0, 1) := dk_42 (dk_at dksX0_valley_0 20 rfl rfl)
theorem dX0_valley_21 : decode cX0_valley 21 = .ok (.getfield 19, 3) := dk_180 0 19 (dk_at dksX0_valley_0 21 rfl rfl)
theorem dX0_valley_24 : decode cX0_valley 24 = .ok (.aload_n 0, 1) := dk_42 (dk_at dksX0_valley_1 0 rfl rfl)
theorem dX0_valley_25 : decode cX0_valley 25 = .ok (.getfield 10, 3) := dk_180 0 10 (dk_at dksX0_valley_1 1 rfl rfl)
theorem dX0_valley_28 : decode cX0_valley 28 = .ok (.invokevirtual 129, 3) := dk_182 0 129 (dk_at dksX0_valley_1 4 rfl rfl)
theorem dX0_valley_31 : decode cX0_valley 31 = .ok (.aload_n 0, 1) := dk_42 (dk_at dksX0_valley_1 7 rfl rfl)
theorem dX0_valley_32 : decode cX0_valley 32 = .ok (.iconst 0, 1) := dk_3 (dk_at dksX0_valley_1 8 rfl rfl)
theorem dX0_valley_33 : decode cX0_valley 33 = .ok (.putfield 133, 3) := dk_181 0 133 (dk_at dksX0_valley_1 9 rfl rfl)
theorem dX0_valley_36 : decode cX0_valley 36 = .ok (.aload_n 0, 1) := dk_42 (dk_at dksX0_valley_1 12 rfl rfl)
theorem dX0_valley_37 : decode cX0_valley 37 = .ok (.iconst 0, 1) := dk_3 (dk_at dksX0_valley_1 13 rfl rfl)
theorem dX0_valley_38 : decode cX0_valley 38 = .ok (.putfield 136, 3) := dk_181 0 136 (dk_at dksX0_valley_1 14 rfl rfl)
theorem dX0_valley_41 : decode cX0_valley 41 = .ok (.aload_n 0, 1) := dk_42 (dk_at dksX0_valley_1 17 rfl rfl)
theorem dX0_valley_42 : decode cX0_valley 42 = .ok (.getfield 10, 3) := dk_180 0 10 (dk_at dksX0_valley_1 18 rfl rfl)
theorem dX0_valley_45 : decode cX0_valley 45 = .ok (.invokevirtual 100, 3) := dk_182 0 100 (dk_at dksX0_valley_1 21 rfl rfl)
theorem dX0_valley_48 : decode cX0_valley 48 = .ok (.istore_n 1, 1) := dk_60 (dk_at dksX0_valley_2 0 rfl rfl)
theorem dX0_valley_49 : decode cX0_valley 49 = .ok (.aload_n 0, 1) := dk_42 (dk_at dksX0_valley_2 1 rfl rfl)
theorem dX0_valley_50 : decode cX0_valley 50 = .ok (.iconst 0, 1) := dk_3 (dk_at dksX0_valley_2 2 rfl rfl)
theorem dX0_valley_51 : decode cX0_valley 51 = .ok (.putfield 115, 3) := dk_181 0 115 (dk_at dksX0_valley_2 3 rfl rfl)
theorem dX0_valley_54 : decode cX0_valley 54 = .ok (.iload_n 1, 1) := dk_27 (dk_at dksX0_valley_2 6 rfl rfl)
theorem dX0_valley_55 : decode cX0_valley 55 = .ok (.ireturn, 1) := dk_172 (dk_at dksX0_valley_2 7 rfl rfl)
theorem dX0_valley_56 : decode cX0_valley 56 = .ok (.astore_n 1, 1) := dk_76 (dk_at dksX0_valley_2 8 rfl rfl)
theorem dX0_valley_57 : decode cX0_valley 57 = .ok (.bipush (-2), 2) := dk_16 254 (dk_at dksX0_valley_2 9 rfl rfl)
theorem dX0_valley_59 : decode cX0_valley 59 = .ok (.aload_n 1, 1) := dk_43 (dk_at dksX0_valley_2 11 rfl rfl)
theorem dX0_valley_60 : decode cX0_valley 60 = .ok (.getfield 112, 3) := dk_180 0 112 (dk_at dksX0_valley_2 12 rfl rfl)
theorem dX0_valley_63 : decode cX0_valley 63 = .ok (.isub, 1) := dk_100 (dk_at dksX0_valley_2 15 rfl rfl)
theorem dX0_valley_64 : decode cX0_valley 64 = .ok (.istore_n 2, 1) := dk_61 (dk_at dksX0_valley_2 16 rfl rfl)
theorem dX0_valley_65 : decode cX0_valley 65 = .ok (.aload_n 0, 1) := dk_42 (dk_at dksX0_valley_2 17 rfl rfl)
theorem dX0_valley_66 : decode cX0_valley 66 = .ok (.iconst 0, 1) := dk_3 (dk_at dksX0_valley_2 18 rfl rfl)
theorem dX0_valley_67 : decode cX0_valley 67 = .ok (.putfield 115, 3) := dk_181 0 115 (dk_at dksX0_valley_2 19 rfl rfl)
theorem dX0_valley_70 : decode cX0_valley 70 = .ok (.iload_n 2, 1) := dk_28 (dk_at dksX0_valley_2 22 rfl rfl)
theorem dX0_valley_71 : decode cX0_valley 71 = .ok (.ireturn, 1) := dk_172 (dk_at dksX0_valley_2 23 rfl rfl)
theorem dX0_valley_72 : decode cX0_valley 72 = .ok (.astore_n 3, 1) := dk_78 (dk_at dksX0_valley_3 0 rfl rfl)
theorem dX0_valley_73 : decode cX0_valley 73 = .ok (.aload_n 0, 1) := dk_42 (dk_at dksX0_valley_3 1 rfl rfl)
theorem dX0_valley_74 : decode cX0_valley 74 = .ok (.iconst 0, 1) := dk_3 (dk_at dksX0_valley_3 2 rfl rfl)
theorem dX0_valley_75 : decode cX0_valley 75 = .ok (.putfield 115, 3) := dk_181 0 115 (dk_at dksX0_valley_3 3 rfl rfl)
theorem dX0_valley_78 : decode cX0_valley 78 = .ok (.aload_n 3, 1) := dk_45 (dk_at dksX0_valley_3 6 rfl rfl)
theorem dX0_valley_79 : decode cX0_valley 79 = .ok (.athrow, 1) := dk_191 (dk_at dksX0_valley_3 7 rfl rfl)
abbrev cX0_in : ByteArray := prog_1_method_1_code
def yX0_in : MethodName := ⟨RX0, "in", "(JJJ)Z"⟩
def dkwX0_in_0 : List UInt8 := [30, 32, 148, 155, 0, 14, 30, 22, 4, 148, 157, 0, 7, 4, 167, 0, 4, 3, 172]
abbrev dktX0_in_0 : List UInt8 := dkwX0_in_0 ++ []
theorem dksX0_in_0 : cX0_in.data.toList.drop 0 = dktX0_in_0 := by decide +kernel
theorem dX0_in_0 : decode cX0_in 0 = .ok (.lload_n 0, 1) := dk_30 (dk_at dksX0_in_0 0 rfl rfl)
theorem dX0_in_1 : decode cX0_in 1 = .ok (.lload_n 2, 1) := dk_32 (dk_at dksX0_in_0 1 rfl rfl)
theorem dX0_in_2 : decode cX0_in 2 = .ok (.lcmp, 1) := dk_148 (dk_at dksX0_in_0 2 rfl rfl)
theorem dX0_in_3 : decode cX0_in 3 = .ok (.ifCond .lt 14, 3) := dk_155 0 14 (dk_at dksX0_in_0 3 rfl rfl)
theorem dX0_in_6 : decode cX0_in 6 = .ok (.lload_n 0, 1) := dk_30 (dk_at dksX0_in_0 6 rfl rfl)
theorem dX0_in_7 : decode cX0_in 7 = .ok (.lload 4, 2) := dk_22 4 (dk_at dksX0_in_0 7 rfl rfl)
theorem dX0_in_9 : decode cX0_in 9 = .ok (.lcmp, 1) := dk_148 (dk_at dksX0_in_0 9 rfl rfl)
theorem dX0_in_10 : decode cX0_in 10 = .ok (.ifCond .gt 7, 3) := dk_157 0 7 (dk_at dksX0_in_0 10 rfl rfl)
theorem dX0_in_13 : decode cX0_in 13 = .ok (.iconst 1, 1) := dk_4 (dk_at dksX0_in_0 13 rfl rfl)
theorem dX0_in_14 : decode cX0_in 14 = .ok (.goto 4, 3) := dk_167 0 4 (dk_at dksX0_in_0 14 rfl rfl)
theorem dX0_in_17 : decode cX0_in 17 = .ok (.iconst 0, 1) := dk_3 (dk_at dksX0_in_0 17 rfl rfl)
theorem dX0_in_18 : decode cX0_in 18 = .ok (.ireturn, 1) := dk_172 (dk_at dksX0_in_0 18 rfl rfl)
abbrev cX0_fails : ByteArray := prog_1_method_8_code
def yX0_fails : MethodName := ⟨RX0, "fails", "(II)LSmokeWord$Wrong;"⟩
def dkwX0_fails_0 : List UInt8 := [42, 180, 0, 42, 4, 16, 8, 28, 104, 96, 27, 96, 181, 0, 112, 42, 180, 0, 42, 176]
abbrev dktX0_fails_0 : List UInt8 := dkwX0_fails_0 ++ []
theorem dksX0_fails_0 : cX0_fails.data.toList.drop 0 = dktX0_fails_0 := by decide +kernel
theorem dX0_fails_0 : decode cX0_fails 0 = .ok (.aload_n 0, 1) := dk_42 (dk_at dksX0_fails_0 0 rfl rfl)
theorem dX0_fails_1 : decode cX0_fails 1 = .ok (.getfield 42, 3) := dk_180 0 42 (dk_at dksX0_fails_0 1 rfl rfl)
theorem dX0_fails_4 : decode cX0_fails 4 = .ok (.iconst 1, 1) := dk_4 (dk_at dksX0_fails_0 4 rfl rfl)
theorem dX0_fails_5 : decode cX0_fails 5 = .ok (.bipush 8, 2) := dk_16 8 (dk_at dksX0_fails_0 5 rfl rfl)
theorem dX0_fails_7 : decode cX0_fails 7 = .ok (.iload_n 2, 1) := dk_28 (dk_at dksX0_fails_0 7 rfl rfl)
theorem dX0_fails_8 : decode cX0_fails 8 = .ok (.imul, 1) := dk_104 (dk_at dksX0_fails_0 8 rfl rfl)
theorem dX0_fails_9 : decode cX0_fails 9 = .ok (.iadd, 1) := dk_96 (dk_at dksX0_fails_0 9 rfl rfl)
theorem dX0_fails_10 : decode cX0_fails 10 = .ok (.iload_n 1, 1) := dk_27 (dk_at dksX0_fails_0 10 rfl rfl)
theorem dX0_fails_11 : decode cX0_fails 11 = .ok (.iadd, 1) := dk_96 (dk_at dksX0_fails_0 11 rfl rfl)
theorem dX0_fails_12 : decode cX0_fails 12 = .ok (.putfield 112, 3) := dk_181 0 112 (dk_at dksX0_fails_0 12 rfl rfl)
theorem dX0_fails_15 : decode cX0_fails 15 = .ok (.aload_n 0, 1) := dk_42 (dk_at dksX0_fails_0 15 rfl rfl)
theorem dX0_fails_16 : decode cX0_fails 16 = .ok (.getfield 42, 3) := dk_180 0 42 (dk_at dksX0_fails_0 16 rfl rfl)
theorem dX0_fails_19 : decode cX0_fails 19 = .ok (.areturn, 1) := dk_176 (dk_at dksX0_fails_0 19 rfl rfl)
abbrev cX0_rule : ByteArray := prog_1_method_13_code
def yX0_rule : MethodName := ⟨RX0, "rule", "()I"⟩
def dkwX0_rule_2 : List UInt8 := [3, 181, 0, 115, 28, 172, 78, 42, 3, 181, 0, 115, 45, 191]
abbrev dktX0_rule_2 : List UInt8 := dkwX0_rule_2 ++ []
def dkwX0_rule_1 : List UInt8 := [183, 0, 123, 182, 0, 142, 60, 42, 3, 181, 0, 115, 27, 172, 76, 16, 254, 43, 180, 0, 112, 100, 61, 42]
abbrev dktX0_rule_1 : List UInt8 := dkwX0_rule_1 ++ dktX0_rule_2
def dkwX0_rule_0 : List UInt8 := [42, 180, 0, 31, 182, 0, 139, 16, 6, 160, 0, 5, 2, 172, 187, 0, 121, 89, 42, 178, 0, 57, 16, 12]
abbrev dktX0_rule_0 : List UInt8 := dkwX0_rule_0 ++ dktX0_rule_1
theorem dksX0_rule_0 : cX0_rule.data.toList.drop 0 = dktX0_rule_0 := by decide +kernel
theorem dksX0_rule_1 : cX0_rule.data.toList.drop 24 = dktX0_rule_1 := dk_seg dksX0_rule_0 24 rfl rfl
theorem dksX0_rule_2 : cX0_rule.data.toList.drop 48 = dktX0_rule_2 := dk_seg dksX0_rule_1 24 rfl rfl
theorem dX0_rule_0 : decode cX0_rule 0 = .ok (.aload_n 0, 1) := dk_42 (dk_at dksX0_rule_0 0 rfl rfl)
theorem dX0_rule_1 : decode cX0_rule 1 = .ok (.getfield 31, 3) := dk_180 0 31 (dk_at dksX0_rule_0 1 rfl rfl)
theorem dX0_rule_4 : decode cX0_rule 4 = .ok (.invokevirtual 139, 3) := dk_182 0 139 (dk_at dksX0_rule_0 4 rfl rfl)
theorem dX0_rule_7 : decode cX0_rule 7 = .ok (.bipush 6, 2) := dk_16 6 (dk_at dksX0_rule_0 7 rfl rfl)
theorem dX0_rule_9 : decode cX0_rule 9 = .ok (.if_icmp .ne 5, 3) := dk_160 0 5 (dk_at dksX0_rule_0 9 rfl rfl)
theorem dX0_rule_12 : decode cX0_rule 12 = .ok (.iconst (-1), 1) := dk_2 (dk_at dksX0_rule_0 12 rfl rfl)
theorem dX0_rule_13 : decode cX0_rule 13 = .ok (.ireturn, 1) := dk_172 (dk_at dksX0_rule_0 13 rfl rfl)
theorem dX0_rule_14 : decode cX0_rule 14 = .ok (.new 121, 3) := dk_187 0 121 (dk_at dksX0_rule_0 14 rfl rfl)
theorem dX0_rule_17 : decode cX0_rule 17 = .ok (.dup, 1) := dk_89 (dk_at dksX0_rule_0 17 rfl rfl)
theorem dX0_rule_18 : decode cX0_rule 18 = .ok (.aload_n 0, 1) := dk_42 (dk_at dksX0_rule_0 18 rfl rfl)
theorem dX0_rule_19 : decode cX0_rule 19 = .ok (.getstatic 57, 3) := dk_178 0 57 (dk_at dksX0_rule_0 19 rfl rfl)
theorem dX0_rule_22 : decode cX0_rule 22 = .ok (.bipush 12, 2) := dk_16 12 (dk_at dksX0_rule_0 22 rfl rfl)
theorem dX0_rule_24 : decode cX0_rule 24 = .ok (.invokespecial 123, 3) := dk_183 0 123 (dk_at dksX0_rule_1 0 rfl rfl)
theorem dX0_rule_27 : decode cX0_rule 27 = .ok (.invokevirtual 142, 3) := dk_182 0 142 (dk_at dksX0_rule_1 3 rfl rfl)
theorem dX0_rule_30 : decode cX0_rule 30 = .ok (.istore_n 1, 1) := dk_60 (dk_at dksX0_rule_1 6 rfl rfl)
theorem dX0_rule_31 : decode cX0_rule 31 = .ok (.aload_n 0, 1) := dk_42 (dk_at dksX0_rule_1 7 rfl rfl)
theorem dX0_rule_32 : decode cX0_rule 32 = .ok (.iconst 0, 1) := dk_3 (dk_at dksX0_rule_1 8 rfl rfl)
theorem dX0_rule_33 : decode cX0_rule 33 = .ok (.putfield 115, 3) := dk_181 0 115 (dk_at dksX0_rule_1 9 rfl rfl)
theorem dX0_rule_36 : decode cX0_rule 36 = .ok (.iload_n 1, 1) := dk_27 (dk_at dksX0_rule_1 12 rfl rfl)
theorem dX0_rule_37 : decode cX0_rule 37 = .ok (.ireturn, 1) := dk_172 (dk_at dksX0_rule_1 13 rfl rfl)
theorem dX0_rule_38 : decode cX0_rule 38 = .ok (.astore_n 1, 1) := dk_76 (dk_at dksX0_rule_1 14 rfl rfl)
theorem dX0_rule_39 : decode cX0_rule 39 = .ok (.bipush (-2), 2) := dk_16 254 (dk_at dksX0_rule_1 15 rfl rfl)
theorem dX0_rule_41 : decode cX0_rule 41 = .ok (.aload_n 1, 1) := dk_43 (dk_at dksX0_rule_1 17 rfl rfl)
theorem dX0_rule_42 : decode cX0_rule 42 = .ok (.getfield 112, 3) := dk_180 0 112 (dk_at dksX0_rule_1 18 rfl rfl)
theorem dX0_rule_45 : decode cX0_rule 45 = .ok (.isub, 1) := dk_100 (dk_at dksX0_rule_1 21 rfl rfl)
theorem dX0_rule_46 : decode cX0_rule 46 = .ok (.istore_n 2, 1) := dk_61 (dk_at dksX0_rule_1 22 rfl rfl)
theorem dX0_rule_47 : decode cX0_rule 47 = .ok (.aload_n 0, 1) := dk_42 (dk_at dksX0_rule_1 23 rfl rfl)
theorem dX0_rule_48 : decode cX0_rule 48 = .ok (.iconst 0, 1) := dk_3 (dk_at dksX0_rule_2 0 rfl rfl)
theorem dX0_rule_49 : decode cX0_rule 49 = .ok (.putfield 115, 3) := dk_181 0 115 (dk_at dksX0_rule_2 1 rfl rfl)
theorem dX0_rule_52 : decode cX0_rule 52 = .ok (.iload_n 2, 1) := dk_28 (dk_at dksX0_rule_2 4 rfl rfl)
theorem dX0_rule_53 : decode cX0_rule 53 = .ok (.ireturn, 1) := dk_172 (dk_at dksX0_rule_2 5 rfl rfl)
theorem dX0_rule_54 : decode cX0_rule 54 = .ok (.astore_n 3, 1) := dk_78 (dk_at dksX0_rule_2 6 rfl rfl)
theorem dX0_rule_55 : decode cX0_rule 55 = .ok (.aload_n 0, 1) := dk_42 (dk_at dksX0_rule_2 7 rfl rfl)
theorem dX0_rule_56 : decode cX0_rule 56 = .ok (.iconst 0, 1) := dk_3 (dk_at dksX0_rule_2 8 rfl rfl)
theorem dX0_rule_57 : decode cX0_rule 57 = .ok (.putfield 115, 3) := dk_181 0 115 (dk_at dksX0_rule_2 9 rfl rfl)
theorem dX0_rule_60 : decode cX0_rule 60 = .ok (.aload_n 3, 1) := dk_45 (dk_at dksX0_rule_2 12 rfl rfl)
theorem dX0_rule_61 : decode cX0_rule 61 = .ok (.athrow, 1) := dk_191 (dk_at dksX0_rule_2 13 rfl rfl)
abbrev cX0_force : ByteArray := prog_1_method_14_code
def yX0_force : MethodName := ⟨RX0, "force", "(I)I"⟩
def dkwX0_force_1 : List UInt8 := [42, 180, 0, 35, 61, 42, 27, 181, 0, 35, 28, 172]
abbrev dktX0_force_1 : List UInt8 := dkwX0_force_1 ++ []
def dkwX0_force_0 : List UInt8 := [27, 133, 20, 0, 145, 42, 180, 0, 31, 182, 0, 139, 4, 100, 133, 184, 0, 104, 154, 0, 6, 16, 254, 172]
abbrev dktX0_force_0 : List UInt8 := dkwX0_force_0 ++ dktX0_force_1
theorem dksX0_force_0 : cX0_force.data.toList.drop 0 = dktX0_force_0 := by decide +kernel
theorem dksX0_force_1 : cX0_force.data.toList.drop 24 = dktX0_force_1 := dk_seg dksX0_force_0 24 rfl rfl
theorem dX0_force_0 : decode cX0_force 0 = .ok (.iload_n 1, 1) := dk_27 (dk_at dksX0_force_0 0 rfl rfl)
theorem dX0_force_1 : decode cX0_force 1 = .ok (.i2l, 1) := dk_133 (dk_at dksX0_force_0 1 rfl rfl)
theorem dX0_force_2 : decode cX0_force 2 = .ok (.ldc2_w 145, 3) := dk_20 0 145 (dk_at dksX0_force_0 2 rfl rfl)
theorem dX0_force_5 : decode cX0_force 5 = .ok (.aload_n 0, 1) := dk_42 (dk_at dksX0_force_0 5 rfl rfl)
theorem dX0_force_6 : decode cX0_force 6 = .ok (.getfield 31, 3) := dk_180 0 31 (dk_at dksX0_force_0 6 rfl rfl)
theorem dX0_force_9 : decode cX0_force 9 = .ok (.invokevirtual 139, 3) := dk_182 0 139 (dk_at dksX0_force_0 9 rfl rfl)
theorem dX0_force_12 : decode cX0_force 12 = .ok (.iconst 1, 1) := dk_4 (dk_at dksX0_force_0 12 rfl rfl)
theorem dX0_force_13 : decode cX0_force 13 = .ok (.isub, 1) := dk_100 (dk_at dksX0_force_0 13 rfl rfl)
theorem dX0_force_14 : decode cX0_force 14 = .ok (.i2l, 1) := dk_133 (dk_at dksX0_force_0 14 rfl rfl)
theorem dX0_force_15 : decode cX0_force 15 = .ok (.invokestatic 104, 3) := dk_184 0 104 (dk_at dksX0_force_0 15 rfl rfl)
theorem dX0_force_18 : decode cX0_force 18 = .ok (.ifCond .ne 6, 3) := dk_154 0 6 (dk_at dksX0_force_0 18 rfl rfl)
theorem dX0_force_21 : decode cX0_force 21 = .ok (.bipush (-2), 2) := dk_16 254 (dk_at dksX0_force_0 21 rfl rfl)
theorem dX0_force_23 : decode cX0_force 23 = .ok (.ireturn, 1) := dk_172 (dk_at dksX0_force_0 23 rfl rfl)
theorem dX0_force_24 : decode cX0_force 24 = .ok (.aload_n 0, 1) := dk_42 (dk_at dksX0_force_1 0 rfl rfl)
theorem dX0_force_25 : decode cX0_force 25 = .ok (.getfield 35, 3) := dk_180 0 35 (dk_at dksX0_force_1 1 rfl rfl)
theorem dX0_force_28 : decode cX0_force 28 = .ok (.istore_n 2, 1) := dk_61 (dk_at dksX0_force_1 4 rfl rfl)
theorem dX0_force_29 : decode cX0_force 29 = .ok (.aload_n 0, 1) := dk_42 (dk_at dksX0_force_1 5 rfl rfl)
theorem dX0_force_30 : decode cX0_force 30 = .ok (.iload_n 1, 1) := dk_27 (dk_at dksX0_force_1 6 rfl rfl)
theorem dX0_force_31 : decode cX0_force 31 = .ok (.putfield 35, 3) := dk_181 0 35 (dk_at dksX0_force_1 7 rfl rfl)
theorem dX0_force_34 : decode cX0_force 34 = .ok (.iload_n 2, 1) := dk_28 (dk_at dksX0_force_1 10 rfl rfl)
theorem dX0_force_35 : decode cX0_force 35 = .ok (.ireturn, 1) := dk_172 (dk_at dksX0_force_1 11 rfl rfl)
abbrev cX0_house : ByteArray := prog_1_method_15_code
def yX0_house : MethodName := ⟨RX0, "house", "(II)I"⟩
def dkwX0_house_4 : List UInt8 := [46, 172, 2, 172]
abbrev dktX0_house_4 : List UInt8 := dkwX0_house_4 ++ []
def dkwX0_house_3 : List UInt8 := [180, 0, 157, 27, 46, 172, 42, 180, 0, 10, 180, 0, 160, 27, 46, 172, 42, 180, 0, 19, 180, 0, 163, 27]
abbrev dktX0_house_3 : List UInt8 := dkwX0_house_3 ++ dktX0_house_4
def dkwX0_house_2 : List UInt8 := [42, 180, 0, 19, 180, 0, 151, 27, 46, 172, 42, 180, 0, 19, 180, 0, 154, 27, 46, 172, 42, 180, 0, 19]
abbrev dktX0_house_2 : List UInt8 := dkwX0_house_2 ++ dktX0_house_3
def dkwX0_house_1 : List UInt8 := [170, 0, 0, 0, 83, 0, 0, 0, 0, 0, 0, 0, 4, 0, 0, 0, 33, 0, 0, 0, 43, 0, 0, 0, 53, 0, 0, 0, 63, 0, 0, 0, 73]
abbrev dktX0_house_1 : List UInt8 := dkwX0_house_1 ++ dktX0_house_2
def dkwX0_house_0 : List UInt8 := [42, 27, 182, 0, 147, 154, 0, 5, 2, 172, 28]
abbrev dktX0_house_0 : List UInt8 := dkwX0_house_0 ++ dktX0_house_1
theorem dksX0_house_0 : cX0_house.data.toList.drop 0 = dktX0_house_0 := by decide +kernel
theorem dksX0_house_1 : cX0_house.data.toList.drop 11 = dktX0_house_1 := dk_seg dksX0_house_0 11 rfl rfl
theorem dksX0_house_2 : cX0_house.data.toList.drop 44 = dktX0_house_2 := dk_seg dksX0_house_1 33 rfl rfl
theorem dksX0_house_3 : cX0_house.data.toList.drop 68 = dktX0_house_3 := dk_seg dksX0_house_2 24 rfl rfl
theorem dksX0_house_4 : cX0_house.data.toList.drop 92 = dktX0_house_4 := dk_seg dksX0_house_3 24 rfl rfl
theorem dX0_house_0 : decode cX0_house 0 = .ok (.aload_n 0, 1) := dk_42 (dk_at dksX0_house_0 0 rfl rfl)
theorem dX0_house_1 : decode cX0_house 1 = .ok (.iload_n 1, 1) := dk_27 (dk_at dksX0_house_0 1 rfl rfl)
theorem dX0_house_2 : decode cX0_house 2 = .ok (.invokevirtual 147, 3) := dk_182 0 147 (dk_at dksX0_house_0 2 rfl rfl)
theorem dX0_house_5 : decode cX0_house 5 = .ok (.ifCond .ne 5, 3) := dk_154 0 5 (dk_at dksX0_house_0 5 rfl rfl)
theorem dX0_house_8 : decode cX0_house 8 = .ok (.iconst (-1), 1) := dk_2 (dk_at dksX0_house_0 8 rfl rfl)
theorem dX0_house_9 : decode cX0_house 9 = .ok (.ireturn, 1) := dk_172 (dk_at dksX0_house_0 9 rfl rfl)
theorem dX0_house_10 : decode cX0_house 10 = .ok (.iload_n 2, 1) := dk_28 (dk_at dksX0_house_0 10 rfl rfl)
theorem dX0_house_11 : decode cX0_house 11 = .ok (.tableswitch 83 0 4 #[33, 43, 53, 63, 73], 33) := by decide +kernel
theorem dX0_house_44 : decode cX0_house 44 = .ok (.aload_n 0, 1) := dk_42 (dk_at dksX0_house_2 0 rfl rfl)
theorem dX0_house_45 : decode cX0_house 45 = .ok (.getfield 19, 3) := dk_180 0 19 (dk_at dksX0_house_2 1 rfl rfl)
theorem dX0_house_48 : decode cX0_house 48 = .ok (.getfield 151, 3) := dk_180 0 151 (dk_at dksX0_house_2 4 rfl rfl)
theorem dX0_house_51 : decode cX0_house 51 = .ok (.iload_n 1, 1) := dk_27 (dk_at dksX0_house_2 7 rfl rfl)
theorem dX0_house_52 : decode cX0_house 52 = .ok (.iaload, 1) := dk_46 (dk_at dksX0_house_2 8 rfl rfl)
theorem dX0_house_53 : decode cX0_house 53 = .ok (.ireturn, 1) := dk_172 (dk_at dksX0_house_2 9 rfl rfl)
theorem dX0_house_54 : decode cX0_house 54 = .ok (.aload_n 0, 1) := dk_42 (dk_at dksX0_house_2 10 rfl rfl)
theorem dX0_house_55 : decode cX0_house 55 = .ok (.getfield 19, 3) := dk_180 0 19 (dk_at dksX0_house_2 11 rfl rfl)
theorem dX0_house_58 : decode cX0_house 58 = .ok (.getfield 154, 3) := dk_180 0 154 (dk_at dksX0_house_2 14 rfl rfl)
theorem dX0_house_61 : decode cX0_house 61 = .ok (.iload_n 1, 1) := dk_27 (dk_at dksX0_house_2 17 rfl rfl)
theorem dX0_house_62 : decode cX0_house 62 = .ok (.iaload, 1) := dk_46 (dk_at dksX0_house_2 18 rfl rfl)
theorem dX0_house_63 : decode cX0_house 63 = .ok (.ireturn, 1) := dk_172 (dk_at dksX0_house_2 19 rfl rfl)
theorem dX0_house_64 : decode cX0_house 64 = .ok (.aload_n 0, 1) := dk_42 (dk_at dksX0_house_2 20 rfl rfl)
theorem dX0_house_65 : decode cX0_house 65 = .ok (.getfield 19, 3) := dk_180 0 19 (dk_at dksX0_house_2 21 rfl rfl)
theorem dX0_house_68 : decode cX0_house 68 = .ok (.getfield 157, 3) := dk_180 0 157 (dk_at dksX0_house_3 0 rfl rfl)
theorem dX0_house_71 : decode cX0_house 71 = .ok (.iload_n 1, 1) := dk_27 (dk_at dksX0_house_3 3 rfl rfl)
theorem dX0_house_72 : decode cX0_house 72 = .ok (.iaload, 1) := dk_46 (dk_at dksX0_house_3 4 rfl rfl)
theorem dX0_house_73 : decode cX0_house 73 = .ok (.ireturn, 1) := dk_172 (dk_at dksX0_house_3 5 rfl rfl)
theorem dX0_house_74 : decode cX0_house 74 = .ok (.aload_n 0, 1) := dk_42 (dk_at dksX0_house_3 6 rfl rfl)
theorem dX0_house_75 : decode cX0_house 75 = .ok (.getfield 10, 3) := dk_180 0 10 (dk_at dksX0_house_3 7 rfl rfl)
theorem dX0_house_78 : decode cX0_house 78 = .ok (.getfield 160, 3) := dk_180 0 160 (dk_at dksX0_house_3 10 rfl rfl)
theorem dX0_house_81 : decode cX0_house 81 = .ok (.iload_n 1, 1) := dk_27 (dk_at dksX0_house_3 13 rfl rfl)
theorem dX0_house_82 : decode cX0_house 82 = .ok (.iaload, 1) := dk_46 (dk_at dksX0_house_3 14 rfl rfl)
theorem dX0_house_83 : decode cX0_house 83 = .ok (.ireturn, 1) := dk_172 (dk_at dksX0_house_3 15 rfl rfl)
theorem dX0_house_84 : decode cX0_house 84 = .ok (.aload_n 0, 1) := dk_42 (dk_at dksX0_house_3 16 rfl rfl)
theorem dX0_house_85 : decode cX0_house 85 = .ok (.getfield 19, 3) := dk_180 0 19 (dk_at dksX0_house_3 17 rfl rfl)
theorem dX0_house_88 : decode cX0_house 88 = .ok (.getfield 163, 3) := dk_180 0 163 (dk_at dksX0_house_3 20 rfl rfl)
theorem dX0_house_91 : decode cX0_house 91 = .ok (.iload_n 1, 1) := dk_27 (dk_at dksX0_house_3 23 rfl rfl)
theorem dX0_house_92 : decode cX0_house 92 = .ok (.iaload, 1) := dk_46 (dk_at dksX0_house_4 0 rfl rfl)
theorem dX0_house_93 : decode cX0_house 93 = .ok (.ireturn, 1) := dk_172 (dk_at dksX0_house_4 1 rfl rfl)
theorem dX0_house_94 : decode cX0_house 94 = .ok (.iconst (-1), 1) := dk_2 (dk_at dksX0_house_4 2 rfl rfl)
theorem dX0_house_95 : decode cX0_house 95 = .ok (.ireturn, 1) := dk_172 (dk_at dksX0_house_4 3 rfl rfl)
abbrev cX0_isHouse : ByteArray := prog_1_method_6_code
def yX0_isHouse : MethodName := ⟨RX0, "isHouse", "(I)Z"⟩
def dkwX0_isHouse_0 : List UInt8 := [27, 133, 9, 42, 180, 0, 10, 182, 0, 100, 4, 100, 133, 184, 0, 104, 172]
abbrev dktX0_isHouse_0 : List UInt8 := dkwX0_isHouse_0 ++ []
theorem dksX0_isHouse_0 : cX0_isHouse.data.toList.drop 0 = dktX0_isHouse_0 := by decide +kernel
theorem dX0_isHouse_0 : decode cX0_isHouse 0 = .ok (.iload_n 1, 1) := dk_27 (dk_at dksX0_isHouse_0 0 rfl rfl)
theorem dX0_isHouse_1 : decode cX0_isHouse 1 = .ok (.i2l, 1) := dk_133 (dk_at dksX0_isHouse_0 1 rfl rfl)
theorem dX0_isHouse_2 : decode cX0_isHouse 2 = .ok (.lconst 0, 1) := dk_9 (dk_at dksX0_isHouse_0 2 rfl rfl)
theorem dX0_isHouse_3 : decode cX0_isHouse 3 = .ok (.aload_n 0, 1) := dk_42 (dk_at dksX0_isHouse_0 3 rfl rfl)
theorem dX0_isHouse_4 : decode cX0_isHouse 4 = .ok (.getfield 10, 3) := dk_180 0 10 (dk_at dksX0_isHouse_0 4 rfl rfl)
theorem dX0_isHouse_7 : decode cX0_isHouse 7 = .ok (.invokevirtual 100, 3) := dk_182 0 100 (dk_at dksX0_isHouse_0 7 rfl rfl)
theorem dX0_isHouse_10 : decode cX0_isHouse 10 = .ok (.iconst 1, 1) := dk_4 (dk_at dksX0_isHouse_0 10 rfl rfl)
theorem dX0_isHouse_11 : decode cX0_isHouse 11 = .ok (.isub, 1) := dk_100 (dk_at dksX0_isHouse_0 11 rfl rfl)
theorem dX0_isHouse_12 : decode cX0_isHouse 12 = .ok (.i2l, 1) := dk_133 (dk_at dksX0_isHouse_0 12 rfl rfl)
theorem dX0_isHouse_13 : decode cX0_isHouse 13 = .ok (.invokestatic 104, 3) := dk_184 0 104 (dk_at dksX0_isHouse_0 13 rfl rfl)
theorem dX0_isHouse_16 : decode cX0_isHouse 16 = .ok (.ireturn, 1) := dk_172 (dk_at dksX0_isHouse_0 16 rfl rfl)
abbrev cX0_far : ByteArray := prog_1_method_16_code
def yX0_far : MethodName := ⟨RX0, "far", "(II)I"⟩
def dkwX0_far_1 : List UInt8 := [182, 0, 169, 17, 39, 16, 161, 0, 8, 16, 254, 167, 0, 12, 42, 180, 0, 10, 27, 28, 182, 0, 169, 172]
abbrev dktX0_far_1 : List UInt8 := dkwX0_far_1 ++ []
def dkwX0_far_0 : List UInt8 := [42, 27, 182, 0, 166, 153, 0, 11, 42, 28, 182, 0, 166, 154, 0, 5, 2, 172, 42, 180, 0, 10, 27, 28]
abbrev dktX0_far_0 : List UInt8 := dkwX0_far_0 ++ dktX0_far_1
theorem dksX0_far_0 : cX0_far.data.toList.drop 0 = dktX0_far_0 := by decide +kernel
theorem dksX0_far_1 : cX0_far.data.toList.drop 24 = dktX0_far_1 := dk_seg dksX0_far_0 24 rfl rfl
theorem dX0_far_0 : decode cX0_far 0 = .ok (.aload_n 0, 1) := dk_42 (dk_at dksX0_far_0 0 rfl rfl)
theorem dX0_far_1 : decode cX0_far 1 = .ok (.iload_n 1, 1) := dk_27 (dk_at dksX0_far_0 1 rfl rfl)
theorem dX0_far_2 : decode cX0_far 2 = .ok (.invokevirtual 166, 3) := dk_182 0 166 (dk_at dksX0_far_0 2 rfl rfl)
theorem dX0_far_5 : decode cX0_far 5 = .ok (.ifCond .eq 11, 3) := dk_153 0 11 (dk_at dksX0_far_0 5 rfl rfl)
theorem dX0_far_8 : decode cX0_far 8 = .ok (.aload_n 0, 1) := dk_42 (dk_at dksX0_far_0 8 rfl rfl)
theorem dX0_far_9 : decode cX0_far 9 = .ok (.iload_n 2, 1) := dk_28 (dk_at dksX0_far_0 9 rfl rfl)
theorem dX0_far_10 : decode cX0_far 10 = .ok (.invokevirtual 166, 3) := dk_182 0 166 (dk_at dksX0_far_0 10 rfl rfl)
theorem dX0_far_13 : decode cX0_far 13 = .ok (.ifCond .ne 5, 3) := dk_154 0 5 (dk_at dksX0_far_0 13 rfl rfl)
theorem dX0_far_16 : decode cX0_far 16 = .ok (.iconst (-1), 1) := dk_2 (dk_at dksX0_far_0 16 rfl rfl)
theorem dX0_far_17 : decode cX0_far 17 = .ok (.ireturn, 1) := dk_172 (dk_at dksX0_far_0 17 rfl rfl)
theorem dX0_far_18 : decode cX0_far 18 = .ok (.aload_n 0, 1) := dk_42 (dk_at dksX0_far_0 18 rfl rfl)
theorem dX0_far_19 : decode cX0_far 19 = .ok (.getfield 10, 3) := dk_180 0 10 (dk_at dksX0_far_0 19 rfl rfl)
theorem dX0_far_22 : decode cX0_far 22 = .ok (.iload_n 1, 1) := dk_27 (dk_at dksX0_far_0 22 rfl rfl)
theorem dX0_far_23 : decode cX0_far 23 = .ok (.iload_n 2, 1) := dk_28 (dk_at dksX0_far_0 23 rfl rfl)
theorem dX0_far_24 : decode cX0_far 24 = .ok (.invokevirtual 169, 3) := dk_182 0 169 (dk_at dksX0_far_1 0 rfl rfl)
theorem dX0_far_27 : decode cX0_far 27 = .ok (.sipush 10000, 3) := dk_17 39 16 (dk_at dksX0_far_1 3 rfl rfl)
theorem dX0_far_30 : decode cX0_far 30 = .ok (.if_icmp .lt 8, 3) := dk_161 0 8 (dk_at dksX0_far_1 6 rfl rfl)
theorem dX0_far_33 : decode cX0_far 33 = .ok (.bipush (-2), 2) := dk_16 254 (dk_at dksX0_far_1 9 rfl rfl)
theorem dX0_far_35 : decode cX0_far 35 = .ok (.goto 12, 3) := dk_167 0 12 (dk_at dksX0_far_1 11 rfl rfl)
theorem dX0_far_38 : decode cX0_far 38 = .ok (.aload_n 0, 1) := dk_42 (dk_at dksX0_far_1 14 rfl rfl)
theorem dX0_far_39 : decode cX0_far 39 = .ok (.getfield 10, 3) := dk_180 0 10 (dk_at dksX0_far_1 15 rfl rfl)
theorem dX0_far_42 : decode cX0_far 42 = .ok (.iload_n 1, 1) := dk_27 (dk_at dksX0_far_1 18 rfl rfl)
theorem dX0_far_43 : decode cX0_far 43 = .ok (.iload_n 2, 1) := dk_28 (dk_at dksX0_far_1 19 rfl rfl)
theorem dX0_far_44 : decode cX0_far 44 = .ok (.invokevirtual 169, 3) := dk_182 0 169 (dk_at dksX0_far_1 20 rfl rfl)
theorem dX0_far_47 : decode cX0_far 47 = .ok (.ireturn, 1) := dk_172 (dk_at dksX0_far_1 23 rfl rfl)
abbrev cX0_isPlace : ByteArray := prog_1_method_7_code
def yX0_isPlace : MethodName := ⟨RX0, "isPlace", "(I)Z"⟩
def dkwX0_isPlace_1 : List UInt8 := [4, 167, 0, 4, 3, 172]
abbrev dktX0_isPlace_1 : List UInt8 := dkwX0_isPlace_1 ++ []
def dkwX0_isPlace_0 : List UInt8 := [42, 182, 0, 108, 153, 0, 24, 27, 133, 9, 42, 180, 0, 10, 182, 0, 100, 133, 184, 0, 104, 153, 0, 7]
abbrev dktX0_isPlace_0 : List UInt8 := dkwX0_isPlace_0 ++ dktX0_isPlace_1
theorem dksX0_isPlace_0 : cX0_isPlace.data.toList.drop 0 = dktX0_isPlace_0 := by decide +kernel
theorem dksX0_isPlace_1 : cX0_isPlace.data.toList.drop 24 = dktX0_isPlace_1 := dk_seg dksX0_isPlace_0 24 rfl rfl
theorem dX0_isPlace_0 : decode cX0_isPlace 0 = .ok (.aload_n 0, 1) := dk_42 (dk_at dksX0_isPlace_0 0 rfl rfl)
theorem dX0_isPlace_1 : decode cX0_isPlace 1 = .ok (.invokevirtual 108, 3) := dk_182 0 108 (dk_at dksX0_isPlace_0 1 rfl rfl)
theorem dX0_isPlace_4 : decode cX0_isPlace 4 = .ok (.ifCond .eq 24, 3) := dk_153 0 24 (dk_at dksX0_isPlace_0 4 rfl rfl)
theorem dX0_isPlace_7 : decode cX0_isPlace 7 = .ok (.iload_n 1, 1) := dk_27 (dk_at dksX0_isPlace_0 7 rfl rfl)
theorem dX0_isPlace_8 : decode cX0_isPlace 8 = .ok (.i2l, 1) := dk_133 (dk_at dksX0_isPlace_0 8 rfl rfl)
theorem dX0_isPlace_9 : decode cX0_isPlace 9 = .ok (.lconst 0, 1) := dk_9 (dk_at dksX0_isPlace_0 9 rfl rfl)
theorem dX0_isPlace_10 : decode cX0_isPlace 10 = .ok (.aload_n 0, 1) := dk_42 (dk_at dksX0_isPlace_0 10 rfl rfl)
theorem dX0_isPlace_11 : decode cX0_isPlace 11 = .ok (.getfield 10, 3) := dk_180 0 10 (dk_at dksX0_isPlace_0 11 rfl rfl)
theorem dX0_isPlace_14 : decode cX0_isPlace 14 = .ok (.invokevirtual 100, 3) := dk_182 0 100 (dk_at dksX0_isPlace_0 14 rfl rfl)
theorem dX0_isPlace_17 : decode cX0_isPlace 17 = .ok (.i2l, 1) := dk_133 (dk_at dksX0_isPlace_0 17 rfl rfl)
theorem dX0_isPlace_18 : decode cX0_isPlace 18 = .ok (.invokestatic 104, 3) := dk_184 0 104 (dk_at dksX0_isPlace_0 18 rfl rfl)
theorem dX0_isPlace_21 : decode cX0_isPlace 21 = .ok (.ifCond .eq 7, 3) := dk_153 0 7 (dk_at dksX0_isPlace_0 21 rfl rfl)
theorem dX0_isPlace_24 : decode cX0_isPlace 24 = .ok (.iconst 1, 1) := dk_4 (dk_at dksX0_isPlace_1 0 rfl rfl)
theorem dX0_isPlace_25 : decode cX0_isPlace 25 = .ok (.goto 4, 3) := dk_167 0 4 (dk_at dksX0_isPlace_1 1 rfl rfl)
theorem dX0_isPlace_28 : decode cX0_isPlace 28 = .ok (.iconst 0, 1) := dk_3 (dk_at dksX0_isPlace_1 4 rfl rfl)
theorem dX0_isPlace_29 : decode cX0_isPlace 29 = .ok (.ireturn, 1) := dk_172 (dk_at dksX0_isPlace_1 5 rfl rfl)
abbrev cX0_isValley : ByteArray := prog_1_method_5_code
def yX0_isValley : MethodName := ⟨RX0, "isValley", "()Z"⟩
def dkwX0_isValley_0 : List UInt8 := [42, 180, 0, 10, 180, 0, 97, 158, 0, 7, 4, 167, 0, 4, 3, 172]
abbrev dktX0_isValley_0 : List UInt8 := dkwX0_isValley_0 ++ []
theorem dksX0_isValley_0 : cX0_isValley.data.toList.drop 0 = dktX0_isValley_0 := by decide +kernel
theorem dX0_isValley_0 : decode cX0_isValley 0 = .ok (.aload_n 0, 1) := dk_42 (dk_at dksX0_isValley_0 0 rfl rfl)
theorem dX0_isValley_1 : decode cX0_isValley 1 = .ok (.getfield 10, 3) := dk_180 0 10 (dk_at dksX0_isValley_0 1 rfl rfl)
theorem dX0_isValley_4 : decode cX0_isValley 4 = .ok (.getfield 97, 3) := dk_180 0 97 (dk_at dksX0_isValley_0 4 rfl rfl)
theorem dX0_isValley_7 : decode cX0_isValley 7 = .ok (.ifCond .le 7, 3) := dk_158 0 7 (dk_at dksX0_isValley_0 7 rfl rfl)
theorem dX0_isValley_10 : decode cX0_isValley 10 = .ok (.iconst 1, 1) := dk_4 (dk_at dksX0_isValley_0 10 rfl rfl)
theorem dX0_isValley_11 : decode cX0_isValley 11 = .ok (.goto 4, 3) := dk_167 0 4 (dk_at dksX0_isValley_0 11 rfl rfl)
theorem dX0_isValley_14 : decode cX0_isValley 14 = .ok (.iconst 0, 1) := dk_3 (dk_at dksX0_isValley_0 14 rfl rfl)
theorem dX0_isValley_15 : decode cX0_isValley 15 = .ok (.ireturn, 1) := dk_172 (dk_at dksX0_isValley_0 15 rfl rfl)
abbrev cX0_undo : ByteArray := prog_1_method_27_code
def yX0_undo : MethodName := ⟨RX0, "undo", "()I"⟩
def dkwX0_undo_2 : List UInt8 := [180, 1, 10, 50, 182, 1, 13, 42, 180, 0, 136, 172]
abbrev dktX0_undo_2 : List UInt8 := dkwX0_undo_2 ++ []
def dkwX0_undo_1 : List UInt8 := [181, 1, 10, 42, 89, 180, 0, 136, 4, 100, 181, 0, 136, 42, 180, 0, 19, 42, 180, 0, 75, 42]
abbrev dktX0_undo_1 : List UInt8 := dkwX0_undo_1 ++ dktX0_undo_2
def dkwX0_undo_0 : List UInt8 := [42, 180, 0, 136, 154, 0, 5, 2, 172, 42, 42, 180, 1, 10, 16, 20, 96, 4, 100, 16, 20, 112]
abbrev dktX0_undo_0 : List UInt8 := dkwX0_undo_0 ++ dktX0_undo_1
theorem dksX0_undo_0 : cX0_undo.data.toList.drop 0 = dktX0_undo_0 := by decide +kernel
theorem dksX0_undo_1 : cX0_undo.data.toList.drop 22 = dktX0_undo_1 := dk_seg dksX0_undo_0 22 rfl rfl
theorem dksX0_undo_2 : cX0_undo.data.toList.drop 44 = dktX0_undo_2 := dk_seg dksX0_undo_1 22 rfl rfl
theorem dX0_undo_0 : decode cX0_undo 0 = .ok (.aload_n 0, 1) := dk_42 (dk_at dksX0_undo_0 0 rfl rfl)
theorem dX0_undo_1 : decode cX0_undo 1 = .ok (.getfield 136, 3) := dk_180 0 136 (dk_at dksX0_undo_0 1 rfl rfl)
theorem dX0_undo_4 : decode cX0_undo 4 = .ok (.ifCond .ne 5, 3) := dk_154 0 5 (dk_at dksX0_undo_0 4 rfl rfl)
theorem dX0_undo_7 : decode cX0_undo 7 = .ok (.iconst (-1), 1) := dk_2 (dk_at dksX0_undo_0 7 rfl rfl)
theorem dX0_undo_8 : decode cX0_undo 8 = .ok (.ireturn, 1) := dk_172 (dk_at dksX0_undo_0 8 rfl rfl)
theorem dX0_undo_9 : decode cX0_undo 9 = .ok (.aload_n 0, 1) := dk_42 (dk_at dksX0_undo_0 9 rfl rfl)
theorem dX0_undo_10 : decode cX0_undo 10 = .ok (.aload_n 0, 1) := dk_42 (dk_at dksX0_undo_0 10 rfl rfl)
theorem dX0_undo_11 : decode cX0_undo 11 = .ok (.getfield 266, 3) := dk_180 1 10 (dk_at dksX0_undo_0 11 rfl rfl)
theorem dX0_undo_14 : decode cX0_undo 14 = .ok (.bipush 20, 2) := dk_16 20 (dk_at dksX0_undo_0 14 rfl rfl)
theorem dX0_undo_16 : decode cX0_undo 16 = .ok (.iadd, 1) := dk_96 (dk_at dksX0_undo_0 16 rfl rfl)
theorem dX0_undo_17 : decode cX0_undo 17 = .ok (.iconst 1, 1) := dk_4 (dk_at dksX0_undo_0 17 rfl rfl)
theorem dX0_undo_18 : decode cX0_undo 18 = .ok (.isub, 1) := dk_100 (dk_at dksX0_undo_0 18 rfl rfl)
theorem dX0_undo_19 : decode cX0_undo 19 = .ok (.bipush 20, 2) := dk_16 20 (dk_at dksX0_undo_0 19 rfl rfl)
theorem dX0_undo_21 : decode cX0_undo 21 = .ok (.irem, 1) := dk_112 (dk_at dksX0_undo_0 21 rfl rfl)
theorem dX0_undo_22 : decode cX0_undo 22 = .ok (.putfield 266, 3) := dk_181 1 10 (dk_at dksX0_undo_1 0 rfl rfl)
theorem dX0_undo_25 : decode cX0_undo 25 = .ok (.aload_n 0, 1) := dk_42 (dk_at dksX0_undo_1 3 rfl rfl)
theorem dX0_undo_26 : decode cX0_undo 26 = .ok (.dup, 1) := dk_89 (dk_at dksX0_undo_1 4 rfl rfl)
theorem dX0_undo_27 : decode cX0_undo 27 = .ok (.getfield 136, 3) := dk_180 0 136 (dk_at dksX0_undo_1 5 rfl rfl)
theorem dX0_undo_30 : decode cX0_undo 30 = .ok (.iconst 1, 1) := dk_4 (dk_at dksX0_undo_1 8 rfl rfl)
theorem dX0_undo_31 : decode cX0_undo 31 = .ok (.isub, 1) := dk_100 (dk_at dksX0_undo_1 9 rfl rfl)
theorem dX0_undo_32 : decode cX0_undo 32 = .ok (.putfield 136, 3) := dk_181 0 136 (dk_at dksX0_undo_1 10 rfl rfl)
theorem dX0_undo_35 : decode cX0_undo 35 = .ok (.aload_n 0, 1) := dk_42 (dk_at dksX0_undo_1 13 rfl rfl)
theorem dX0_undo_36 : decode cX0_undo 36 = .ok (.getfield 19, 3) := dk_180 0 19 (dk_at dksX0_undo_1 14 rfl rfl)
theorem dX0_undo_39 : decode cX0_undo 39 = .ok (.aload_n 0, 1) := dk_42 (dk_at dksX0_undo_1 17 rfl rfl)
theorem dX0_undo_40 : decode cX0_undo 40 = .ok (.getfield 75, 3) := dk_180 0 75 (dk_at dksX0_undo_1 18 rfl rfl)
theorem dX0_undo_43 : decode cX0_undo 43 = .ok (.aload_n 0, 1) := dk_42 (dk_at dksX0_undo_1 21 rfl rfl)
theorem dX0_undo_44 : decode cX0_undo 44 = .ok (.getfield 266, 3) := dk_180 1 10 (dk_at dksX0_undo_2 0 rfl rfl)
theorem dX0_undo_47 : decode cX0_undo 47 = .ok (.aaload, 1) := dk_50 (dk_at dksX0_undo_2 3 rfl rfl)
theorem dX0_undo_48 : decode cX0_undo 48 = .ok (.invokevirtual 269, 3) := dk_182 1 13 (dk_at dksX0_undo_2 4 rfl rfl)
theorem dX0_undo_51 : decode cX0_undo 51 = .ok (.aload_n 0, 1) := dk_42 (dk_at dksX0_undo_2 7 rfl rfl)
theorem dX0_undo_52 : decode cX0_undo 52 = .ok (.getfield 136, 3) := dk_180 0 136 (dk_at dksX0_undo_2 8 rfl rfl)
theorem dX0_undo_55 : decode cX0_undo 55 = .ok (.ireturn, 1) := dk_172 (dk_at dksX0_undo_2 11 rfl rfl)
abbrev cX0_hour : ByteArray := prog_1_method_28_code
def yX0_hour : MethodName := ⟨RX0, "hour", "()I"⟩
def dkwX0_hour_1 : List UInt8 := [182, 1, 20, 42, 42, 180, 0, 19, 182, 1, 8, 172]
abbrev dktX0_hour_1 : List UInt8 := dkwX0_hour_1 ++ []
def dkwX0_hour_0 : List UInt8 := [42, 182, 0, 108, 153, 0, 16, 42, 180, 0, 19, 180, 0, 195, 17, 3, 231, 160, 0, 5, 2, 172, 42]
abbrev dktX0_hour_0 : List UInt8 := dkwX0_hour_0 ++ dktX0_hour_1
theorem dksX0_hour_0 : cX0_hour.data.toList.drop 0 = dktX0_hour_0 := by decide +kernel
theorem dksX0_hour_1 : cX0_hour.data.toList.drop 23 = dktX0_hour_1 := dk_seg dksX0_hour_0 23 rfl rfl
theorem dX0_hour_0 : decode cX0_hour 0 = .ok (.aload_n 0, 1) := dk_42 (dk_at dksX0_hour_0 0 rfl rfl)
theorem dX0_hour_1 : decode cX0_hour 1 = .ok (.invokevirtual 108, 3) := dk_182 0 108 (dk_at dksX0_hour_0 1 rfl rfl)
theorem dX0_hour_4 : decode cX0_hour 4 = .ok (.ifCond .eq 16, 3) := dk_153 0 16 (dk_at dksX0_hour_0 4 rfl rfl)
theorem dX0_hour_7 : decode cX0_hour 7 = .ok (.aload_n 0, 1) := dk_42 (dk_at dksX0_hour_0 7 rfl rfl)
theorem dX0_hour_8 : decode cX0_hour 8 = .ok (.getfield 19, 3) := dk_180 0 19 (dk_at dksX0_hour_0 8 rfl rfl)
theorem dX0_hour_11 : decode cX0_hour 11 = .ok (.getfield 195, 3) := dk_180 0 195 (dk_at dksX0_hour_0 11 rfl rfl)
theorem dX0_hour_14 : decode cX0_hour 14 = .ok (.sipush 999, 3) := dk_17 3 231 (dk_at dksX0_hour_0 14 rfl rfl)
theorem dX0_hour_17 : decode cX0_hour 17 = .ok (.if_icmp .ne 5, 3) := dk_160 0 5 (dk_at dksX0_hour_0 17 rfl rfl)
theorem dX0_hour_20 : decode cX0_hour 20 = .ok (.iconst (-1), 1) := dk_2 (dk_at dksX0_hour_0 20 rfl rfl)
theorem dX0_hour_21 : decode cX0_hour 21 = .ok (.ireturn, 1) := dk_172 (dk_at dksX0_hour_0 21 rfl rfl)
theorem dX0_hour_22 : decode cX0_hour 22 = .ok (.aload_n 0, 1) := dk_42 (dk_at dksX0_hour_0 22 rfl rfl)
theorem dX0_hour_23 : decode cX0_hour 23 = .ok (.invokevirtual 276, 3) := dk_182 1 20 (dk_at dksX0_hour_1 0 rfl rfl)
theorem dX0_hour_26 : decode cX0_hour 26 = .ok (.aload_n 0, 1) := dk_42 (dk_at dksX0_hour_1 3 rfl rfl)
theorem dX0_hour_27 : decode cX0_hour 27 = .ok (.aload_n 0, 1) := dk_42 (dk_at dksX0_hour_1 4 rfl rfl)
theorem dX0_hour_28 : decode cX0_hour 28 = .ok (.getfield 19, 3) := dk_180 0 19 (dk_at dksX0_hour_1 5 rfl rfl)
theorem dX0_hour_31 : decode cX0_hour 31 = .ok (.invokevirtual 264, 3) := dk_182 1 8 (dk_at dksX0_hour_1 8 rfl rfl)
theorem dX0_hour_34 : decode cX0_hour 34 = .ok (.ireturn, 1) := dk_172 (dk_at dksX0_hour_1 11 rfl rfl)
abbrev cX0_keeps : ByteArray := prog_1_method_26_code
def yX0_keeps : MethodName := ⟨RX0, "keeps", "()V"⟩
def dkwX0_keeps_1 : List UInt8 := [16, 20, 112, 181, 1, 10, 42, 16, 20, 42, 180, 0, 136, 4, 96, 184, 1, 17, 181, 0, 136, 177]
abbrev dktX0_keeps_1 : List UInt8 := dkwX0_keeps_1 ++ []
def dkwX0_keeps_0 : List UInt8 := [42, 180, 0, 75, 42, 180, 1, 10, 50, 42, 180, 0, 19, 182, 1, 13, 42, 42, 180, 1, 10, 4, 96]
abbrev dktX0_keeps_0 : List UInt8 := dkwX0_keeps_0 ++ dktX0_keeps_1
theorem dksX0_keeps_0 : cX0_keeps.data.toList.drop 0 = dktX0_keeps_0 := by decide +kernel
theorem dksX0_keeps_1 : cX0_keeps.data.toList.drop 23 = dktX0_keeps_1 := dk_seg dksX0_keeps_0 23 rfl rfl
theorem dX0_keeps_0 : decode cX0_keeps 0 = .ok (.aload_n 0, 1) := dk_42 (dk_at dksX0_keeps_0 0 rfl rfl)
theorem dX0_keeps_1 : decode cX0_keeps 1 = .ok (.getfield 75, 3) := dk_180 0 75 (dk_at dksX0_keeps_0 1 rfl rfl)
theorem dX0_keeps_4 : decode cX0_keeps 4 = .ok (.aload_n 0, 1) := dk_42 (dk_at dksX0_keeps_0 4 rfl rfl)
theorem dX0_keeps_5 : decode cX0_keeps 5 = .ok (.getfield 266, 3) := dk_180 1 10 (dk_at dksX0_keeps_0 5 rfl rfl)
theorem dX0_keeps_8 : decode cX0_keeps 8 = .ok (.aaload, 1) := dk_50 (dk_at dksX0_keeps_0 8 rfl rfl)
theorem dX0_keeps_9 : decode cX0_keeps 9 = .ok (.aload_n 0, 1) := dk_42 (dk_at dksX0_keeps_0 9 rfl rfl)
theorem dX0_keeps_10 : decode cX0_keeps 10 = .ok (.getfield 19, 3) := dk_180 0 19 (dk_at dksX0_keeps_0 10 rfl rfl)
theorem dX0_keeps_13 : decode cX0_keeps 13 = .ok (.invokevirtual 269, 3) := dk_182 1 13 (dk_at dksX0_keeps_0 13 rfl rfl)
theorem dX0_keeps_16 : decode cX0_keeps 16 = .ok (.aload_n 0, 1) := dk_42 (dk_at dksX0_keeps_0 16 rfl rfl)
theorem dX0_keeps_17 : decode cX0_keeps 17 = .ok (.aload_n 0, 1) := dk_42 (dk_at dksX0_keeps_0 17 rfl rfl)
theorem dX0_keeps_18 : decode cX0_keeps 18 = .ok (.getfield 266, 3) := dk_180 1 10 (dk_at dksX0_keeps_0 18 rfl rfl)
theorem dX0_keeps_21 : decode cX0_keeps 21 = .ok (.iconst 1, 1) := dk_4 (dk_at dksX0_keeps_0 21 rfl rfl)
theorem dX0_keeps_22 : decode cX0_keeps 22 = .ok (.iadd, 1) := dk_96 (dk_at dksX0_keeps_0 22 rfl rfl)
theorem dX0_keeps_23 : decode cX0_keeps 23 = .ok (.bipush 20, 2) := dk_16 20 (dk_at dksX0_keeps_1 0 rfl rfl)
theorem dX0_keeps_25 : decode cX0_keeps 25 = .ok (.irem, 1) := dk_112 (dk_at dksX0_keeps_1 2 rfl rfl)
theorem dX0_keeps_26 : decode cX0_keeps 26 = .ok (.putfield 266, 3) := dk_181 1 10 (dk_at dksX0_keeps_1 3 rfl rfl)
theorem dX0_keeps_29 : decode cX0_keeps 29 = .ok (.aload_n 0, 1) := dk_42 (dk_at dksX0_keeps_1 6 rfl rfl)
theorem dX0_keeps_30 : decode cX0_keeps 30 = .ok (.bipush 20, 2) := dk_16 20 (dk_at dksX0_keeps_1 7 rfl rfl)
theorem dX0_keeps_32 : decode cX0_keeps 32 = .ok (.aload_n 0, 1) := dk_42 (dk_at dksX0_keeps_1 9 rfl rfl)
theorem dX0_keeps_33 : decode cX0_keeps 33 = .ok (.getfield 136, 3) := dk_180 0 136 (dk_at dksX0_keeps_1 10 rfl rfl)
theorem dX0_keeps_36 : decode cX0_keeps 36 = .ok (.iconst 1, 1) := dk_4 (dk_at dksX0_keeps_1 13 rfl rfl)
theorem dX0_keeps_37 : decode cX0_keeps 37 = .ok (.iadd, 1) := dk_96 (dk_at dksX0_keeps_1 14 rfl rfl)
theorem dX0_keeps_38 : decode cX0_keeps 38 = .ok (.invokestatic 273, 3) := dk_184 1 17 (dk_at dksX0_keeps_1 15 rfl rfl)
theorem dX0_keeps_41 : decode cX0_keeps 41 = .ok (.putfield 136, 3) := dk_181 0 136 (dk_at dksX0_keeps_1 18 rfl rfl)
theorem dX0_keeps_44 : decode cX0_keeps 44 = .ok (.return_, 1) := dk_177 (dk_at dksX0_keeps_1 21 rfl rfl)
abbrev cX0_goesOn : ByteArray := prog_1_method_23_code
def yX0_goesOn : MethodName := ⟨RX0, "goesOn", "(LSmokeWord$State;)I"⟩
def dkwX0_goesOn_1 : List UInt8 := [96, 181, 0, 195, 28, 172]
abbrev dktX0_goesOn_1 : List UInt8 := dkwX0_goesOn_1 ++ []
def dkwX0_goesOn_0 : List UInt8 := [42, 42, 43, 182, 0, 254, 181, 1, 1, 43, 42, 180, 0, 10, 182, 1, 4, 61, 43, 89, 180, 0, 195, 4]
abbrev dktX0_goesOn_0 : List UInt8 := dkwX0_goesOn_0 ++ dktX0_goesOn_1
theorem dksX0_goesOn_0 : cX0_goesOn.data.toList.drop 0 = dktX0_goesOn_0 := by decide +kernel
theorem dksX0_goesOn_1 : cX0_goesOn.data.toList.drop 24 = dktX0_goesOn_1 := dk_seg dksX0_goesOn_0 24 rfl rfl
theorem dX0_goesOn_0 : decode cX0_goesOn 0 = .ok (.aload_n 0, 1) := dk_42 (dk_at dksX0_goesOn_0 0 rfl rfl)
theorem dX0_goesOn_1 : decode cX0_goesOn 1 = .ok (.aload_n 0, 1) := dk_42 (dk_at dksX0_goesOn_0 1 rfl rfl)
theorem dX0_goesOn_2 : decode cX0_goesOn 2 = .ok (.aload_n 1, 1) := dk_43 (dk_at dksX0_goesOn_0 2 rfl rfl)
theorem dX0_goesOn_3 : decode cX0_goesOn 3 = .ok (.invokevirtual 254, 3) := dk_182 0 254 (dk_at dksX0_goesOn_0 3 rfl rfl)
theorem dX0_goesOn_6 : decode cX0_goesOn 6 = .ok (.putfield 257, 3) := dk_181 1 1 (dk_at dksX0_goesOn_0 6 rfl rfl)
theorem dX0_goesOn_9 : decode cX0_goesOn 9 = .ok (.aload_n 1, 1) := dk_43 (dk_at dksX0_goesOn_0 9 rfl rfl)
theorem dX0_goesOn_10 : decode cX0_goesOn 10 = .ok (.aload_n 0, 1) := dk_42 (dk_at dksX0_goesOn_0 10 rfl rfl)
theorem dX0_goesOn_11 : decode cX0_goesOn 11 = .ok (.getfield 10, 3) := dk_180 0 10 (dk_at dksX0_goesOn_0 11 rfl rfl)
theorem dX0_goesOn_14 : decode cX0_goesOn 14 = .ok (.invokevirtual 260, 3) := dk_182 1 4 (dk_at dksX0_goesOn_0 14 rfl rfl)
theorem dX0_goesOn_17 : decode cX0_goesOn 17 = .ok (.istore_n 2, 1) := dk_61 (dk_at dksX0_goesOn_0 17 rfl rfl)
theorem dX0_goesOn_18 : decode cX0_goesOn 18 = .ok (.aload_n 1, 1) := dk_43 (dk_at dksX0_goesOn_0 18 rfl rfl)
theorem dX0_goesOn_19 : decode cX0_goesOn 19 = .ok (.dup, 1) := dk_89 (dk_at dksX0_goesOn_0 19 rfl rfl)
theorem dX0_goesOn_20 : decode cX0_goesOn 20 = .ok (.getfield 195, 3) := dk_180 0 195 (dk_at dksX0_goesOn_0 20 rfl rfl)
theorem dX0_goesOn_23 : decode cX0_goesOn 23 = .ok (.iconst 1, 1) := dk_4 (dk_at dksX0_goesOn_0 23 rfl rfl)
theorem dX0_goesOn_24 : decode cX0_goesOn 24 = .ok (.iadd, 1) := dk_96 (dk_at dksX0_goesOn_1 0 rfl rfl)
theorem dX0_goesOn_25 : decode cX0_goesOn 25 = .ok (.putfield 195, 3) := dk_181 0 195 (dk_at dksX0_goesOn_1 1 rfl rfl)
theorem dX0_goesOn_28 : decode cX0_goesOn 28 = .ok (.iload_n 2, 1) := dk_28 (dk_at dksX0_goesOn_1 4 rfl rfl)
theorem dX0_goesOn_29 : decode cX0_goesOn 29 = .ok (.ireturn, 1) := dk_172 (dk_at dksX0_goesOn_1 5 rfl rfl)
abbrev cX0_brigade : ByteArray := prog_1_method_22_code
def yX0_brigade : MethodName := ⟨RX0, "brigade", "(LSmokeWord$State;)I"⟩
def dkwX0_brigade_5 : List UInt8 := [28, 92, 46, 4, 96, 79, 29, 172]
abbrev dktX0_brigade_5 : List UInt8 := dkwX0_brigade_5 ++ []
def dkwX0_brigade_4 : List UInt8 := [180, 0, 154, 28, 3, 43, 180, 0, 154, 28, 46, 43, 180, 0, 192, 100, 184, 0, 249, 79, 43, 180, 0, 163]
abbrev dktX0_brigade_4 : List UInt8 := dkwX0_brigade_4 ++ dktX0_brigade_5
def dkwX0_brigade_3 : List UInt8 := [180, 0, 177, 4, 100, 61, 43, 180, 0, 154, 28, 46, 158, 0, 7, 28, 167, 0, 4, 2, 62, 43]
abbrev dktX0_brigade_3 : List UInt8 := dkwX0_brigade_3 ++ dktX0_brigade_4
def dkwX0_brigade_2 : List UInt8 := [182, 0, 242, 43, 182, 0, 246, 43, 182, 0, 225, 154, 0, 10, 43, 180, 0, 177, 154, 0, 5, 2, 172, 43]
abbrev dktX0_brigade_2 : List UInt8 := dkwX0_brigade_2 ++ dktX0_brigade_3
def dkwX0_brigade_1 : List UInt8 := [182, 0, 235, 167, 0, 8, 42, 43, 182, 0, 239, 61, 28, 2, 159, 0, 12, 43, 42, 180, 0, 10, 28]
abbrev dktX0_brigade_1 : List UInt8 := dkwX0_brigade_1 ++ dktX0_brigade_2
def dkwX0_brigade_0 : List UInt8 := [43, 182, 0, 225, 154, 0, 45, 43, 182, 0, 228, 154, 0, 38, 42, 180, 0, 231, 153, 0, 11, 42, 43]
abbrev dktX0_brigade_0 : List UInt8 := dkwX0_brigade_0 ++ dktX0_brigade_1
theorem dksX0_brigade_0 : cX0_brigade.data.toList.drop 0 = dktX0_brigade_0 := by decide +kernel
theorem dksX0_brigade_1 : cX0_brigade.data.toList.drop 23 = dktX0_brigade_1 := dk_seg dksX0_brigade_0 23 rfl rfl
theorem dksX0_brigade_2 : cX0_brigade.data.toList.drop 46 = dktX0_brigade_2 := dk_seg dksX0_brigade_1 23 rfl rfl
theorem dksX0_brigade_3 : cX0_brigade.data.toList.drop 70 = dktX0_brigade_3 := dk_seg dksX0_brigade_2 24 rfl rfl
theorem dksX0_brigade_4 : cX0_brigade.data.toList.drop 92 = dktX0_brigade_4 := dk_seg dksX0_brigade_3 22 rfl rfl
theorem dksX0_brigade_5 : cX0_brigade.data.toList.drop 116 = dktX0_brigade_5 := dk_seg dksX0_brigade_4 24 rfl rfl
theorem dX0_brigade_0 : decode cX0_brigade 0 = .ok (.aload_n 1, 1) := dk_43 (dk_at dksX0_brigade_0 0 rfl rfl)
theorem dX0_brigade_1 : decode cX0_brigade 1 = .ok (.invokevirtual 225, 3) := dk_182 0 225 (dk_at dksX0_brigade_0 1 rfl rfl)
theorem dX0_brigade_4 : decode cX0_brigade 4 = .ok (.ifCond .ne 45, 3) := dk_154 0 45 (dk_at dksX0_brigade_0 4 rfl rfl)
theorem dX0_brigade_7 : decode cX0_brigade 7 = .ok (.aload_n 1, 1) := dk_43 (dk_at dksX0_brigade_0 7 rfl rfl)
theorem dX0_brigade_8 : decode cX0_brigade 8 = .ok (.invokevirtual 228, 3) := dk_182 0 228 (dk_at dksX0_brigade_0 8 rfl rfl)
theorem dX0_brigade_11 : decode cX0_brigade 11 = .ok (.ifCond .ne 38, 3) := dk_154 0 38 (dk_at dksX0_brigade_0 11 rfl rfl)
theorem dX0_brigade_14 : decode cX0_brigade 14 = .ok (.aload_n 0, 1) := dk_42 (dk_at dksX0_brigade_0 14 rfl rfl)
theorem dX0_brigade_15 : decode cX0_brigade 15 = .ok (.getfield 231, 3) := dk_180 0 231 (dk_at dksX0_brigade_0 15 rfl rfl)
theorem dX0_brigade_18 : decode cX0_brigade 18 = .ok (.ifCond .eq 11, 3) := dk_153 0 11 (dk_at dksX0_brigade_0 18 rfl rfl)
theorem dX0_brigade_21 : decode cX0_brigade 21 = .ok (.aload_n 0, 1) := dk_42 (dk_at dksX0_brigade_0 21 rfl rfl)
theorem dX0_brigade_22 : decode cX0_brigade 22 = .ok (.aload_n 1, 1) := dk_43 (dk_at dksX0_brigade_0 22 rfl rfl)
theorem dX0_brigade_23 : decode cX0_brigade 23 = .ok (.invokevirtual 235, 3) := dk_182 0 235 (dk_at dksX0_brigade_1 0 rfl rfl)
theorem dX0_brigade_26 : decode cX0_brigade 26 = .ok (.goto 8, 3) := dk_167 0 8 (dk_at dksX0_brigade_1 3 rfl rfl)
theorem dX0_brigade_29 : decode cX0_brigade 29 = .ok (.aload_n 0, 1) := dk_42 (dk_at dksX0_brigade_1 6 rfl rfl)
theorem dX0_brigade_30 : decode cX0_brigade 30 = .ok (.aload_n 1, 1) := dk_43 (dk_at dksX0_brigade_1 7 rfl rfl)
theorem dX0_brigade_31 : decode cX0_brigade 31 = .ok (.invokevirtual 239, 3) := dk_182 0 239 (dk_at dksX0_brigade_1 8 rfl rfl)
theorem dX0_brigade_34 : decode cX0_brigade 34 = .ok (.istore_n 2, 1) := dk_61 (dk_at dksX0_brigade_1 11 rfl rfl)
theorem dX0_brigade_35 : decode cX0_brigade 35 = .ok (.iload_n 2, 1) := dk_28 (dk_at dksX0_brigade_1 12 rfl rfl)
theorem dX0_brigade_36 : decode cX0_brigade 36 = .ok (.iconst (-1), 1) := dk_2 (dk_at dksX0_brigade_1 13 rfl rfl)
theorem dX0_brigade_37 : decode cX0_brigade 37 = .ok (.if_icmp .eq 12, 3) := dk_159 0 12 (dk_at dksX0_brigade_1 14 rfl rfl)
theorem dX0_brigade_40 : decode cX0_brigade 40 = .ok (.aload_n 1, 1) := dk_43 (dk_at dksX0_brigade_1 17 rfl rfl)
theorem dX0_brigade_41 : decode cX0_brigade 41 = .ok (.aload_n 0, 1) := dk_42 (dk_at dksX0_brigade_1 18 rfl rfl)
theorem dX0_brigade_42 : decode cX0_brigade 42 = .ok (.getfield 10, 3) := dk_180 0 10 (dk_at dksX0_brigade_1 19 rfl rfl)
theorem dX0_brigade_45 : decode cX0_brigade 45 = .ok (.iload_n 2, 1) := dk_28 (dk_at dksX0_brigade_1 22 rfl rfl)
theorem dX0_brigade_46 : decode cX0_brigade 46 = .ok (.invokevirtual 242, 3) := dk_182 0 242 (dk_at dksX0_brigade_2 0 rfl rfl)
theorem dX0_brigade_49 : decode cX0_brigade 49 = .ok (.aload_n 1, 1) := dk_43 (dk_at dksX0_brigade_2 3 rfl rfl)
theorem dX0_brigade_50 : decode cX0_brigade 50 = .ok (.invokevirtual 246, 3) := dk_182 0 246 (dk_at dksX0_brigade_2 4 rfl rfl)
theorem dX0_brigade_53 : decode cX0_brigade 53 = .ok (.aload_n 1, 1) := dk_43 (dk_at dksX0_brigade_2 7 rfl rfl)
theorem dX0_brigade_54 : decode cX0_brigade 54 = .ok (.invokevirtual 225, 3) := dk_182 0 225 (dk_at dksX0_brigade_2 8 rfl rfl)
theorem dX0_brigade_57 : decode cX0_brigade 57 = .ok (.ifCond .ne 10, 3) := dk_154 0 10 (dk_at dksX0_brigade_2 11 rfl rfl)
theorem dX0_brigade_60 : decode cX0_brigade 60 = .ok (.aload_n 1, 1) := dk_43 (dk_at dksX0_brigade_2 14 rfl rfl)
theorem dX0_brigade_61 : decode cX0_brigade 61 = .ok (.getfield 177, 3) := dk_180 0 177 (dk_at dksX0_brigade_2 15 rfl rfl)
theorem dX0_brigade_64 : decode cX0_brigade 64 = .ok (.ifCond .ne 5, 3) := dk_154 0 5 (dk_at dksX0_brigade_2 18 rfl rfl)
theorem dX0_brigade_67 : decode cX0_brigade 67 = .ok (.iconst (-1), 1) := dk_2 (dk_at dksX0_brigade_2 21 rfl rfl)
theorem dX0_brigade_68 : decode cX0_brigade 68 = .ok (.ireturn, 1) := dk_172 (dk_at dksX0_brigade_2 22 rfl rfl)
theorem dX0_brigade_69 : decode cX0_brigade 69 = .ok (.aload_n 1, 1) := dk_43 (dk_at dksX0_brigade_2 23 rfl rfl)
theorem dX0_brigade_70 : decode cX0_brigade 70 = .ok (.getfield 177, 3) := dk_180 0 177 (dk_at dksX0_brigade_3 0 rfl rfl)
theorem dX0_brigade_73 : decode cX0_brigade 73 = .ok (.iconst 1, 1) := dk_4 (dk_at dksX0_brigade_3 3 rfl rfl)
theorem dX0_brigade_74 : decode cX0_brigade 74 = .ok (.isub, 1) := dk_100 (dk_at dksX0_brigade_3 4 rfl rfl)
theorem dX0_brigade_75 : decode cX0_brigade 75 = .ok (.istore_n 2, 1) := dk_61 (dk_at dksX0_brigade_3 5 rfl rfl)
theorem dX0_brigade_76 : decode cX0_brigade 76 = .ok (.aload_n 1, 1) := dk_43 (dk_at dksX0_brigade_3 6 rfl rfl)
theorem dX0_brigade_77 : decode cX0_brigade 77 = .ok (.getfield 154, 3) := dk_180 0 154 (dk_at dksX0_brigade_3 7 rfl rfl)
theorem dX0_brigade_80 : decode cX0_brigade 80 = .ok (.iload_n 2, 1) := dk_28 (dk_at dksX0_brigade_3 10 rfl rfl)
theorem dX0_brigade_81 : decode cX0_brigade 81 = .ok (.iaload, 1) := dk_46 (dk_at dksX0_brigade_3 11 rfl rfl)
theorem dX0_brigade_82 : decode cX0_brigade 82 = .ok (.ifCond .le 7, 3) := dk_158 0 7 (dk_at dksX0_brigade_3 12 rfl rfl)
theorem dX0_brigade_85 : decode cX0_brigade 85 = .ok (.iload_n 2, 1) := dk_28 (dk_at dksX0_brigade_3 15 rfl rfl)
theorem dX0_brigade_86 : decode cX0_brigade 86 = .ok (.goto 4, 3) := dk_167 0 4 (dk_at dksX0_brigade_3 16 rfl rfl)
theorem dX0_brigade_89 : decode cX0_brigade 89 = .ok (.iconst (-1), 1) := dk_2 (dk_at dksX0_brigade_3 19 rfl rfl)
theorem dX0_brigade_90 : decode cX0_brigade 90 = .ok (.istore_n 3, 1) := dk_62 (dk_at dksX0_brigade_3 20 rfl rfl)
theorem dX0_brigade_91 : decode cX0_brigade 91 = .ok (.aload_n 1, 1) := dk_43 (dk_at dksX0_brigade_3 21 rfl rfl)
theorem dX0_brigade_92 : decode cX0_brigade 92 = .ok (.getfield 154, 3) := dk_180 0 154 (dk_at dksX0_brigade_4 0 rfl rfl)
theorem dX0_brigade_95 : decode cX0_brigade 95 = .ok (.iload_n 2, 1) := dk_28 (dk_at dksX0_brigade_4 3 rfl rfl)
theorem dX0_brigade_96 : decode cX0_brigade 96 = .ok (.iconst 0, 1) := dk_3 (dk_at dksX0_brigade_4 4 rfl rfl)
theorem dX0_brigade_97 : decode cX0_brigade 97 = .ok (.aload_n 1, 1) := dk_43 (dk_at dksX0_brigade_4 5 rfl rfl)
theorem dX0_brigade_98 : decode cX0_brigade 98 = .ok (.getfield 154, 3) := dk_180 0 154 (dk_at dksX0_brigade_4 6 rfl rfl)
theorem dX0_brigade_101 : decode cX0_brigade 101 = .ok (.iload_n 2, 1) := dk_28 (dk_at dksX0_brigade_4 9 rfl rfl)
theorem dX0_brigade_102 : decode cX0_brigade 102 = .ok (.iaload, 1) := dk_46 (dk_at dksX0_brigade_4 10 rfl rfl)
theorem dX0_brigade_103 : decode cX0_brigade 103 = .ok (.aload_n 1, 1) := dk_43 (dk_at dksX0_brigade_4 11 rfl rfl)
theorem dX0_brigade_104 : decode cX0_brigade 104 = .ok (.getfield 192, 3) := dk_180 0 192 (dk_at dksX0_brigade_4 12 rfl rfl)
theorem dX0_brigade_107 : decode cX0_brigade 107 = .ok (.isub, 1) := dk_100 (dk_at dksX0_brigade_4 15 rfl rfl)
theorem dX0_brigade_108 : decode cX0_brigade 108 = .ok (.invokestatic 249, 3) := dk_184 0 249 (dk_at dksX0_brigade_4 16 rfl rfl)
theorem dX0_brigade_111 : decode cX0_brigade 111 = .ok (.iastore, 1) := dk_79 (dk_at dksX0_brigade_4 19 rfl rfl)
theorem dX0_brigade_112 : decode cX0_brigade 112 = .ok (.aload_n 1, 1) := dk_43 (dk_at dksX0_brigade_4 20 rfl rfl)
theorem dX0_brigade_113 : decode cX0_brigade 113 = .ok (.getfield 163, 3) := dk_180 0 163 (dk_at dksX0_brigade_4 21 rfl rfl)
theorem dX0_brigade_116 : decode cX0_brigade 116 = .ok (.iload_n 2, 1) := dk_28 (dk_at dksX0_brigade_5 0 rfl rfl)
theorem dX0_brigade_117 : decode cX0_brigade 117 = .ok (.dup2, 1) := dk_92 (dk_at dksX0_brigade_5 1 rfl rfl)
theorem dX0_brigade_118 : decode cX0_brigade 118 = .ok (.iaload, 1) := dk_46 (dk_at dksX0_brigade_5 2 rfl rfl)
theorem dX0_brigade_119 : decode cX0_brigade 119 = .ok (.iconst 1, 1) := dk_4 (dk_at dksX0_brigade_5 3 rfl rfl)
theorem dX0_brigade_120 : decode cX0_brigade 120 = .ok (.iadd, 1) := dk_96 (dk_at dksX0_brigade_5 4 rfl rfl)
theorem dX0_brigade_121 : decode cX0_brigade 121 = .ok (.iastore, 1) := dk_79 (dk_at dksX0_brigade_5 5 rfl rfl)
theorem dX0_brigade_122 : decode cX0_brigade 122 = .ok (.iload_n 3, 1) := dk_29 (dk_at dksX0_brigade_5 6 rfl rfl)
theorem dX0_brigade_123 : decode cX0_brigade 123 = .ok (.ireturn, 1) := dk_172 (dk_at dksX0_brigade_5 7 rfl rfl)
abbrev cX0_nextOf : ByteArray := prog_1_method_21_code
def yX0_nextOf : MethodName := ⟨RX0, "nextOf", "(LSmokeWord$State;)I"⟩
def dkwX0_nextOf_2 : List UInt8 := [4, 100, 46, 172, 2, 172]
abbrev dktX0_nextOf_2 : List UInt8 := dkwX0_nextOf_2 ++ []
def dkwX0_nextOf_1 : List UInt8 := [180, 0, 65, 42, 180, 0, 219, 4, 100, 46, 182, 0, 212, 153, 255, 219, 42, 180, 0, 65, 42, 180, 0, 219]
abbrev dktX0_nextOf_1 : List UInt8 := dkwX0_nextOf_1 ++ dktX0_nextOf_2
def dkwX0_nextOf_0 : List UInt8 := [42, 180, 0, 219, 42, 180, 0, 222, 162, 0, 44, 42, 89, 180, 0, 219, 4, 96, 181, 0, 219, 42, 43, 42]
abbrev dktX0_nextOf_0 : List UInt8 := dkwX0_nextOf_0 ++ dktX0_nextOf_1
theorem dksX0_nextOf_0 : cX0_nextOf.data.toList.drop 0 = dktX0_nextOf_0 := by decide +kernel
theorem dksX0_nextOf_1 : cX0_nextOf.data.toList.drop 24 = dktX0_nextOf_1 := dk_seg dksX0_nextOf_0 24 rfl rfl
theorem dksX0_nextOf_2 : cX0_nextOf.data.toList.drop 48 = dktX0_nextOf_2 := dk_seg dksX0_nextOf_1 24 rfl rfl
theorem dX0_nextOf_0 : decode cX0_nextOf 0 = .ok (.aload_n 0, 1) := dk_42 (dk_at dksX0_nextOf_0 0 rfl rfl)
theorem dX0_nextOf_1 : decode cX0_nextOf 1 = .ok (.getfield 219, 3) := dk_180 0 219 (dk_at dksX0_nextOf_0 1 rfl rfl)
theorem dX0_nextOf_4 : decode cX0_nextOf 4 = .ok (.aload_n 0, 1) := dk_42 (dk_at dksX0_nextOf_0 4 rfl rfl)
theorem dX0_nextOf_5 : decode cX0_nextOf 5 = .ok (.getfield 222, 3) := dk_180 0 222 (dk_at dksX0_nextOf_0 5 rfl rfl)
theorem dX0_nextOf_8 : decode cX0_nextOf 8 = .ok (.if_icmp .ge 44, 3) := dk_162 0 44 (dk_at dksX0_nextOf_0 8 rfl rfl)
theorem dX0_nextOf_11 : decode cX0_nextOf 11 = .ok (.aload_n 0, 1) := dk_42 (dk_at dksX0_nextOf_0 11 rfl rfl)
theorem dX0_nextOf_12 : decode cX0_nextOf 12 = .ok (.dup, 1) := dk_89 (dk_at dksX0_nextOf_0 12 rfl rfl)
theorem dX0_nextOf_13 : decode cX0_nextOf 13 = .ok (.getfield 219, 3) := dk_180 0 219 (dk_at dksX0_nextOf_0 13 rfl rfl)
theorem dX0_nextOf_16 : decode cX0_nextOf 16 = .ok (.iconst 1, 1) := dk_4 (dk_at dksX0_nextOf_0 16 rfl rfl)
theorem dX0_nextOf_17 : decode cX0_nextOf 17 = .ok (.iadd, 1) := dk_96 (dk_at dksX0_nextOf_0 17 rfl rfl)
theorem dX0_nextOf_18 : decode cX0_nextOf 18 = .ok (.putfield 219, 3) := dk_181 0 219 (dk_at dksX0_nextOf_0 18 rfl rfl)
theorem dX0_nextOf_21 : decode cX0_nextOf 21 = .ok (.aload_n 0, 1) := dk_42 (dk_at dksX0_nextOf_0 21 rfl rfl)
theorem dX0_nextOf_22 : decode cX0_nextOf 22 = .ok (.aload_n 1, 1) := dk_43 (dk_at dksX0_nextOf_0 22 rfl rfl)
theorem dX0_nextOf_23 : decode cX0_nextOf 23 = .ok (.aload_n 0, 1) := dk_42 (dk_at dksX0_nextOf_0 23 rfl rfl)
theorem dX0_nextOf_24 : decode cX0_nextOf 24 = .ok (.getfield 65, 3) := dk_180 0 65 (dk_at dksX0_nextOf_1 0 rfl rfl)
theorem dX0_nextOf_27 : decode cX0_nextOf 27 = .ok (.aload_n 0, 1) := dk_42 (dk_at dksX0_nextOf_1 3 rfl rfl)
theorem dX0_nextOf_28 : decode cX0_nextOf 28 = .ok (.getfield 219, 3) := dk_180 0 219 (dk_at dksX0_nextOf_1 4 rfl rfl)
theorem dX0_nextOf_31 : decode cX0_nextOf 31 = .ok (.iconst 1, 1) := dk_4 (dk_at dksX0_nextOf_1 7 rfl rfl)
theorem dX0_nextOf_32 : decode cX0_nextOf 32 = .ok (.isub, 1) := dk_100 (dk_at dksX0_nextOf_1 8 rfl rfl)
theorem dX0_nextOf_33 : decode cX0_nextOf 33 = .ok (.iaload, 1) := dk_46 (dk_at dksX0_nextOf_1 9 rfl rfl)
theorem dX0_nextOf_34 : decode cX0_nextOf 34 = .ok (.invokevirtual 212, 3) := dk_182 0 212 (dk_at dksX0_nextOf_1 10 rfl rfl)
theorem dX0_nextOf_37 : decode cX0_nextOf 37 = .ok (.ifCond .eq (-37), 3) := dk_153 255 219 (dk_at dksX0_nextOf_1 13 rfl rfl)
theorem dX0_nextOf_40 : decode cX0_nextOf 40 = .ok (.aload_n 0, 1) := dk_42 (dk_at dksX0_nextOf_1 16 rfl rfl)
theorem dX0_nextOf_41 : decode cX0_nextOf 41 = .ok (.getfield 65, 3) := dk_180 0 65 (dk_at dksX0_nextOf_1 17 rfl rfl)
theorem dX0_nextOf_44 : decode cX0_nextOf 44 = .ok (.aload_n 0, 1) := dk_42 (dk_at dksX0_nextOf_1 20 rfl rfl)
theorem dX0_nextOf_45 : decode cX0_nextOf 45 = .ok (.getfield 219, 3) := dk_180 0 219 (dk_at dksX0_nextOf_1 21 rfl rfl)
theorem dX0_nextOf_48 : decode cX0_nextOf 48 = .ok (.iconst 1, 1) := dk_4 (dk_at dksX0_nextOf_2 0 rfl rfl)
theorem dX0_nextOf_49 : decode cX0_nextOf 49 = .ok (.isub, 1) := dk_100 (dk_at dksX0_nextOf_2 1 rfl rfl)
theorem dX0_nextOf_50 : decode cX0_nextOf 50 = .ok (.iaload, 1) := dk_46 (dk_at dksX0_nextOf_2 2 rfl rfl)
theorem dX0_nextOf_51 : decode cX0_nextOf 51 = .ok (.ireturn, 1) := dk_172 (dk_at dksX0_nextOf_2 3 rfl rfl)
theorem dX0_nextOf_52 : decode cX0_nextOf 52 = .ok (.iconst (-1), 1) := dk_2 (dk_at dksX0_nextOf_2 4 rfl rfl)
theorem dX0_nextOf_53 : decode cX0_nextOf 53 = .ok (.ireturn, 1) := dk_172 (dk_at dksX0_nextOf_2 5 rfl rfl)
abbrev cX0_isReached : ByteArray := prog_1_method_19_code
def yX0_isReached : MethodName := ⟨RX0, "isReached", "(LSmokeWord$State;I)Z"⟩
def dkwX0_isReached_1 : List UInt8 := [3, 172]
abbrev dktX0_isReached_1 : List UInt8 := dkwX0_isReached_1 ++ []
def dkwX0_isReached_0 : List UInt8 := [42, 180, 0, 10, 43, 180, 0, 177, 28, 4, 96, 182, 0, 169, 17, 39, 16, 162, 0, 7, 4, 167, 0, 4]
abbrev dktX0_isReached_0 : List UInt8 := dkwX0_isReached_0 ++ dktX0_isReached_1
theorem dksX0_isReached_0 : cX0_isReached.data.toList.drop 0 = dktX0_isReached_0 := by decide +kernel
theorem dksX0_isReached_1 : cX0_isReached.data.toList.drop 24 = dktX0_isReached_1 := dk_seg dksX0_isReached_0 24 rfl rfl
theorem dX0_isReached_0 : decode cX0_isReached 0 = .ok (.aload_n 0, 1) := dk_42 (dk_at dksX0_isReached_0 0 rfl rfl)
theorem dX0_isReached_1 : decode cX0_isReached 1 = .ok (.getfield 10, 3) := dk_180 0 10 (dk_at dksX0_isReached_0 1 rfl rfl)
theorem dX0_isReached_4 : decode cX0_isReached 4 = .ok (.aload_n 1, 1) := dk_43 (dk_at dksX0_isReached_0 4 rfl rfl)
theorem dX0_isReached_5 : decode cX0_isReached 5 = .ok (.getfield 177, 3) := dk_180 0 177 (dk_at dksX0_isReached_0 5 rfl rfl)
theorem dX0_isReached_8 : decode cX0_isReached 8 = .ok (.iload_n 2, 1) := dk_28 (dk_at dksX0_isReached_0 8 rfl rfl)
theorem dX0_isReached_9 : decode cX0_isReached 9 = .ok (.iconst 1, 1) := dk_4 (dk_at dksX0_isReached_0 9 rfl rfl)
theorem dX0_isReached_10 : decode cX0_isReached 10 = .ok (.iadd, 1) := dk_96 (dk_at dksX0_isReached_0 10 rfl rfl)
theorem dX0_isReached_11 : decode cX0_isReached 11 = .ok (.invokevirtual 169, 3) := dk_182 0 169 (dk_at dksX0_isReached_0 11 rfl rfl)
theorem dX0_isReached_14 : decode cX0_isReached 14 = .ok (.sipush 10000, 3) := dk_17 39 16 (dk_at dksX0_isReached_0 14 rfl rfl)
theorem dX0_isReached_17 : decode cX0_isReached 17 = .ok (.if_icmp .ge 7, 3) := dk_162 0 7 (dk_at dksX0_isReached_0 17 rfl rfl)
theorem dX0_isReached_20 : decode cX0_isReached 20 = .ok (.iconst 1, 1) := dk_4 (dk_at dksX0_isReached_0 20 rfl rfl)
theorem dX0_isReached_21 : decode cX0_isReached 21 = .ok (.goto 4, 3) := dk_167 0 4 (dk_at dksX0_isReached_0 21 rfl rfl)
theorem dX0_isReached_24 : decode cX0_isReached 24 = .ok (.iconst 0, 1) := dk_3 (dk_at dksX0_isReached_1 0 rfl rfl)
theorem dX0_isReached_25 : decode cX0_isReached 25 = .ok (.ireturn, 1) := dk_172 (dk_at dksX0_isReached_1 1 rfl rfl)
abbrev cX0_choiceOf : ByteArray := prog_1_method_20_code
def yX0_choiceOf : MethodName := ⟨RX0, "choiceOf", "(LSmokeWord$State;)I"⟩
def dkwX0_choiceOf_2 : List UInt8 := [157, 0, 6, 167, 0, 9, 21, 5, 61, 22, 6, 66, 132, 5, 1, 167, 255, 203, 28, 172]
abbrev dktX0_choiceOf_2 : List UInt8 := dkwX0_choiceOf_2 ++ []
def dkwX0_choiceOf_1 : List UInt8 := [182, 0, 212, 154, 0, 6, 167, 0, 28, 42, 43, 21, 5, 182, 0, 216, 55, 6, 22, 6, 33, 148]
abbrev dktX0_choiceOf_1 : List UInt8 := dkwX0_choiceOf_1 ++ dktX0_choiceOf_2
def dkwX0_choiceOf_0 : List UInt8 := [2, 61, 9, 66, 3, 54, 5, 21, 5, 42, 180, 0, 10, 182, 0, 100, 162, 0, 47, 42, 43, 21, 5]
abbrev dktX0_choiceOf_0 : List UInt8 := dkwX0_choiceOf_0 ++ dktX0_choiceOf_1
theorem dksX0_choiceOf_0 : cX0_choiceOf.data.toList.drop 0 = dktX0_choiceOf_0 := by decide +kernel
theorem dksX0_choiceOf_1 : cX0_choiceOf.data.toList.drop 23 = dktX0_choiceOf_1 := dk_seg dksX0_choiceOf_0 23 rfl rfl
theorem dksX0_choiceOf_2 : cX0_choiceOf.data.toList.drop 45 = dktX0_choiceOf_2 := dk_seg dksX0_choiceOf_1 22 rfl rfl
theorem dX0_choiceOf_0 : decode cX0_choiceOf 0 = .ok (.iconst (-1), 1) := dk_2 (dk_at dksX0_choiceOf_0 0 rfl rfl)
theorem dX0_choiceOf_1 : decode cX0_choiceOf 1 = .ok (.istore_n 2, 1) := dk_61 (dk_at dksX0_choiceOf_0 1 rfl rfl)
theorem dX0_choiceOf_2 : decode cX0_choiceOf 2 = .ok (.lconst 0, 1) := dk_9 (dk_at dksX0_choiceOf_0 2 rfl rfl)
theorem dX0_choiceOf_3 : decode cX0_choiceOf 3 = .ok (.lstore_n 3, 1) := dk_66 (dk_at dksX0_choiceOf_0 3 rfl rfl)
theorem dX0_choiceOf_4 : decode cX0_choiceOf 4 = .ok (.iconst 0, 1) := dk_3 (dk_at dksX0_choiceOf_0 4 rfl rfl)
theorem dX0_choiceOf_5 : decode cX0_choiceOf 5 = .ok (.istore 5, 2) := dk_54 5 (dk_at dksX0_choiceOf_0 5 rfl rfl)
theorem dX0_choiceOf_7 : decode cX0_choiceOf 7 = .ok (.iload 5, 2) := dk_21 5 (dk_at dksX0_choiceOf_0 7 rfl rfl)
theorem dX0_choiceOf_9 : decode cX0_choiceOf 9 = .ok (.aload_n 0, 1) := dk_42 (dk_at dksX0_choiceOf_0 9 rfl rfl)
theorem dX0_choiceOf_10 : decode cX0_choiceOf 10 = .ok (.getfield 10, 3) := dk_180 0 10 (dk_at dksX0_choiceOf_0 10 rfl rfl)
theorem dX0_choiceOf_13 : decode cX0_choiceOf 13 = .ok (.invokevirtual 100, 3) := dk_182 0 100 (dk_at dksX0_choiceOf_0 13 rfl rfl)
theorem dX0_choiceOf_16 : decode cX0_choiceOf 16 = .ok (.if_icmp .ge 47, 3) := dk_162 0 47 (dk_at dksX0_choiceOf_0 16 rfl rfl)
theorem dX0_choiceOf_19 : decode cX0_choiceOf 19 = .ok (.aload_n 0, 1) := dk_42 (dk_at dksX0_choiceOf_0 19 rfl rfl)
theorem dX0_choiceOf_20 : decode cX0_choiceOf 20 = .ok (.aload_n 1, 1) := dk_43 (dk_at dksX0_choiceOf_0 20 rfl rfl)
theorem dX0_choiceOf_21 : decode cX0_choiceOf 21 = .ok (.iload 5, 2) := dk_21 5 (dk_at dksX0_choiceOf_0 21 rfl rfl)
theorem dX0_choiceOf_23 : decode cX0_choiceOf 23 = .ok (.invokevirtual 212, 3) := dk_182 0 212 (dk_at dksX0_choiceOf_1 0 rfl rfl)
theorem dX0_choiceOf_26 : decode cX0_choiceOf 26 = .ok (.ifCond .ne 6, 3) := dk_154 0 6 (dk_at dksX0_choiceOf_1 3 rfl rfl)
theorem dX0_choiceOf_29 : decode cX0_choiceOf 29 = .ok (.goto 28, 3) := dk_167 0 28 (dk_at dksX0_choiceOf_1 6 rfl rfl)
theorem dX0_choiceOf_32 : decode cX0_choiceOf 32 = .ok (.aload_n 0, 1) := dk_42 (dk_at dksX0_choiceOf_1 9 rfl rfl)
theorem dX0_choiceOf_33 : decode cX0_choiceOf 33 = .ok (.aload_n 1, 1) := dk_43 (dk_at dksX0_choiceOf_1 10 rfl rfl)
theorem dX0_choiceOf_34 : decode cX0_choiceOf 34 = .ok (.iload 5, 2) := dk_21 5 (dk_at dksX0_choiceOf_1 11 rfl rfl)
theorem dX0_choiceOf_36 : decode cX0_choiceOf 36 = .ok (.invokevirtual 216, 3) := dk_182 0 216 (dk_at dksX0_choiceOf_1 13 rfl rfl)
theorem dX0_choiceOf_39 : decode cX0_choiceOf 39 = .ok (.lstore 6, 2) := dk_55 6 (dk_at dksX0_choiceOf_1 16 rfl rfl)
theorem dX0_choiceOf_41 : decode cX0_choiceOf 41 = .ok (.lload 6, 2) := dk_22 6 (dk_at dksX0_choiceOf_1 18 rfl rfl)
theorem dX0_choiceOf_43 : decode cX0_choiceOf 43 = .ok (.lload_n 3, 1) := dk_33 (dk_at dksX0_choiceOf_1 20 rfl rfl)
theorem dX0_choiceOf_44 : decode cX0_choiceOf 44 = .ok (.lcmp, 1) := dk_148 (dk_at dksX0_choiceOf_1 21 rfl rfl)
theorem dX0_choiceOf_45 : decode cX0_choiceOf 45 = .ok (.ifCond .gt 6, 3) := dk_157 0 6 (dk_at dksX0_choiceOf_2 0 rfl rfl)
theorem dX0_choiceOf_48 : decode cX0_choiceOf 48 = .ok (.goto 9, 3) := dk_167 0 9 (dk_at dksX0_choiceOf_2 3 rfl rfl)
theorem dX0_choiceOf_51 : decode cX0_choiceOf 51 = .ok (.iload 5, 2) := dk_21 5 (dk_at dksX0_choiceOf_2 6 rfl rfl)
theorem dX0_choiceOf_53 : decode cX0_choiceOf 53 = .ok (.istore_n 2, 1) := dk_61 (dk_at dksX0_choiceOf_2 8 rfl rfl)
theorem dX0_choiceOf_54 : decode cX0_choiceOf 54 = .ok (.lload 6, 2) := dk_22 6 (dk_at dksX0_choiceOf_2 9 rfl rfl)
theorem dX0_choiceOf_56 : decode cX0_choiceOf 56 = .ok (.lstore_n 3, 1) := dk_66 (dk_at dksX0_choiceOf_2 11 rfl rfl)
theorem dX0_choiceOf_57 : decode cX0_choiceOf 57 = .ok (.iinc 5 1, 3) := dk_132 5 1 (dk_at dksX0_choiceOf_2 12 rfl rfl)
theorem dX0_choiceOf_60 : decode cX0_choiceOf 60 = .ok (.goto (-53), 3) := dk_167 255 203 (dk_at dksX0_choiceOf_2 15 rfl rfl)
theorem dX0_choiceOf_63 : decode cX0_choiceOf 63 = .ok (.iload_n 2, 1) := dk_28 (dk_at dksX0_choiceOf_2 18 rfl rfl)
theorem dX0_choiceOf_64 : decode cX0_choiceOf 64 = .ok (.ireturn, 1) := dk_172 (dk_at dksX0_choiceOf_2 19 rfl rfl)
abbrev cX0_wants : ByteArray := prog_1_method_18_code
def yX0_wants : MethodName := ⟨RX0, "wants", "(LSmokeWord$State;I)J"⟩
def dkwX0_wants_2 : List UInt8 := [192, 0, 206, 42, 180, 0, 61, 182, 0, 208, 173]
abbrev dktX0_wants_2 : List UInt8 := dkwX0_wants_2 ++ []
def dkwX0_wants_1 : List UInt8 := [167, 0, 4, 9, 173, 42, 43, 28, 182, 0, 198, 42, 180, 0, 31, 42, 180, 0, 35, 182, 0, 202]
abbrev dktX0_wants_1 : List UInt8 := dkwX0_wants_1 ++ dktX0_wants_2
def dkwX0_wants_0 : List UInt8 := [42, 180, 0, 35, 2, 160, 0, 24, 43, 180, 0, 154, 28, 46, 158, 0, 13, 43, 180, 0, 157, 28, 46, 133]
abbrev dktX0_wants_0 : List UInt8 := dkwX0_wants_0 ++ dktX0_wants_1
theorem dksX0_wants_0 : cX0_wants.data.toList.drop 0 = dktX0_wants_0 := by decide +kernel
theorem dksX0_wants_1 : cX0_wants.data.toList.drop 24 = dktX0_wants_1 := dk_seg dksX0_wants_0 24 rfl rfl
theorem dksX0_wants_2 : cX0_wants.data.toList.drop 46 = dktX0_wants_2 := dk_seg dksX0_wants_1 22 rfl rfl
theorem dX0_wants_0 : decode cX0_wants 0 = .ok (.aload_n 0, 1) := dk_42 (dk_at dksX0_wants_0 0 rfl rfl)
theorem dX0_wants_1 : decode cX0_wants 1 = .ok (.getfield 35, 3) := dk_180 0 35 (dk_at dksX0_wants_0 1 rfl rfl)
theorem dX0_wants_4 : decode cX0_wants 4 = .ok (.iconst (-1), 1) := dk_2 (dk_at dksX0_wants_0 4 rfl rfl)
theorem dX0_wants_5 : decode cX0_wants 5 = .ok (.if_icmp .ne 24, 3) := dk_160 0 24 (dk_at dksX0_wants_0 5 rfl rfl)
theorem dX0_wants_8 : decode cX0_wants 8 = .ok (.aload_n 1, 1) := dk_43 (dk_at dksX0_wants_0 8 rfl rfl)
theorem dX0_wants_9 : decode cX0_wants 9 = .ok (.getfield 154, 3) := dk_180 0 154 (dk_at dksX0_wants_0 9 rfl rfl)
theorem dX0_wants_12 : decode cX0_wants 12 = .ok (.iload_n 2, 1) := dk_28 (dk_at dksX0_wants_0 12 rfl rfl)
theorem dX0_wants_13 : decode cX0_wants 13 = .ok (.iaload, 1) := dk_46 (dk_at dksX0_wants_0 13 rfl rfl)
theorem dX0_wants_14 : decode cX0_wants 14 = .ok (.ifCond .le 13, 3) := dk_158 0 13 (dk_at dksX0_wants_0 14 rfl rfl)
theorem dX0_wants_17 : decode cX0_wants 17 = .ok (.aload_n 1, 1) := dk_43 (dk_at dksX0_wants_0 17 rfl rfl)
theorem dX0_wants_18 : decode cX0_wants 18 = .ok (.getfield 157, 3) := dk_180 0 157 (dk_at dksX0_wants_0 18 rfl rfl)
theorem dX0_wants_21 : decode cX0_wants 21 = .ok (.iload_n 2, 1) := dk_28 (dk_at dksX0_wants_0 21 rfl rfl)
theorem dX0_wants_22 : decode cX0_wants 22 = .ok (.iaload, 1) := dk_46 (dk_at dksX0_wants_0 22 rfl rfl)
theorem dX0_wants_23 : decode cX0_wants 23 = .ok (.i2l, 1) := dk_133 (dk_at dksX0_wants_0 23 rfl rfl)
theorem dX0_wants_24 : decode cX0_wants 24 = .ok (.goto 4, 3) := dk_167 0 4 (dk_at dksX0_wants_1 0 rfl rfl)
theorem dX0_wants_27 : decode cX0_wants 27 = .ok (.lconst 0, 1) := dk_9 (dk_at dksX0_wants_1 3 rfl rfl)
theorem dX0_wants_28 : decode cX0_wants 28 = .ok (.lreturn, 1) := dk_173 (dk_at dksX0_wants_1 4 rfl rfl)
theorem dX0_wants_29 : decode cX0_wants 29 = .ok (.aload_n 0, 1) := dk_42 (dk_at dksX0_wants_1 5 rfl rfl)
theorem dX0_wants_30 : decode cX0_wants 30 = .ok (.aload_n 1, 1) := dk_43 (dk_at dksX0_wants_1 6 rfl rfl)
theorem dX0_wants_31 : decode cX0_wants 31 = .ok (.iload_n 2, 1) := dk_28 (dk_at dksX0_wants_1 7 rfl rfl)
theorem dX0_wants_32 : decode cX0_wants 32 = .ok (.invokevirtual 198, 3) := dk_182 0 198 (dk_at dksX0_wants_1 8 rfl rfl)
theorem dX0_wants_35 : decode cX0_wants 35 = .ok (.aload_n 0, 1) := dk_42 (dk_at dksX0_wants_1 11 rfl rfl)
theorem dX0_wants_36 : decode cX0_wants 36 = .ok (.getfield 31, 3) := dk_180 0 31 (dk_at dksX0_wants_1 12 rfl rfl)
theorem dX0_wants_39 : decode cX0_wants 39 = .ok (.aload_n 0, 1) := dk_42 (dk_at dksX0_wants_1 15 rfl rfl)
theorem dX0_wants_40 : decode cX0_wants 40 = .ok (.getfield 35, 3) := dk_180 0 35 (dk_at dksX0_wants_1 16 rfl rfl)
theorem dX0_wants_43 : decode cX0_wants 43 = .ok (.invokevirtual 202, 3) := dk_182 0 202 (dk_at dksX0_wants_1 19 rfl rfl)
theorem dX0_wants_46 : decode cX0_wants 46 = .ok (.checkcast 206, 3) := dk_192 0 206 (dk_at dksX0_wants_2 0 rfl rfl)
theorem dX0_wants_49 : decode cX0_wants 49 = .ok (.aload_n 0, 1) := dk_42 (dk_at dksX0_wants_2 3 rfl rfl)
theorem dX0_wants_50 : decode cX0_wants 50 = .ok (.getfield 61, 3) := dk_180 0 61 (dk_at dksX0_wants_2 4 rfl rfl)
theorem dX0_wants_53 : decode cX0_wants 53 = .ok (.invokevirtual 208, 3) := dk_182 0 208 (dk_at dksX0_wants_2 7 rfl rfl)
theorem dX0_wants_56 : decode cX0_wants 56 = .ok (.lreturn, 1) := dk_173 (dk_at dksX0_wants_2 10 rfl rfl)
abbrev cX0_asks : ByteArray := prog_1_method_17_code
def yX0_asks : MethodName := ⟨RX0, "asks", "(LSmokeWord$State;I)V"⟩
def dkwX0_asks_7 : List UInt8 := [180, 0, 195, 133, 80, 177]
abbrev dktX0_asks_7 : List UInt8 := dkwX0_asks_7 ++ []
def dkwX0_asks_6 : List UInt8 := [28, 46, 133, 80, 42, 180, 0, 61, 16, 9, 43, 180, 0, 192, 133, 80, 42, 180, 0, 61, 16, 10, 43]
abbrev dktX0_asks_6 : List UInt8 := dkwX0_asks_6 ++ dktX0_asks_7
def dkwX0_asks_5 : List UInt8 := [133, 80, 42, 180, 0, 61, 16, 7, 43, 182, 0, 189, 133, 80, 42, 180, 0, 61, 16, 8, 43, 180, 0, 163]
abbrev dktX0_asks_5 : List UInt8 := dkwX0_asks_5 ++ dktX0_asks_6
def dkwX0_asks_4 : List UInt8 := [46, 43, 182, 0, 180, 126, 184, 0, 183, 133, 80, 42, 180, 0, 61, 16, 6, 43, 182, 0, 180, 184, 0, 183]
abbrev dktX0_asks_4 : List UInt8 := dkwX0_asks_4 ++ dktX0_asks_5
def dkwX0_asks_3 : List UInt8 := [180, 0, 177, 28, 4, 96, 182, 0, 169, 133, 80, 42, 180, 0, 61, 8, 42, 180, 0, 10, 180, 0, 160, 28]
abbrev dktX0_asks_3 : List UInt8 := dkwX0_asks_3 ++ dktX0_asks_4
def dkwX0_asks_2 : List UInt8 := [158, 0, 7, 4, 167, 0, 4, 3, 184, 0, 173, 133, 80, 42, 180, 0, 61, 7, 42, 180, 0, 10, 43]
abbrev dktX0_asks_2 : List UInt8 := dkwX0_asks_2 ++ dktX0_asks_3
def dkwX0_asks_1 : List UInt8 := [180, 0, 61, 5, 43, 180, 0, 151, 28, 46, 133, 80, 42, 180, 0, 61, 6, 43, 180, 0, 154, 28, 46]
abbrev dktX0_asks_1 : List UInt8 := dkwX0_asks_1 ++ dktX0_asks_2
def dkwX0_asks_0 : List UInt8 := [42, 180, 0, 61, 3, 28, 133, 80, 42, 180, 0, 61, 4, 43, 180, 0, 157, 28, 46, 133, 80, 42]
abbrev dktX0_asks_0 : List UInt8 := dkwX0_asks_0 ++ dktX0_asks_1
theorem dksX0_asks_0 : cX0_asks.data.toList.drop 0 = dktX0_asks_0 := by decide +kernel
theorem dksX0_asks_1 : cX0_asks.data.toList.drop 22 = dktX0_asks_1 := dk_seg dksX0_asks_0 22 rfl rfl
theorem dksX0_asks_2 : cX0_asks.data.toList.drop 45 = dktX0_asks_2 := dk_seg dksX0_asks_1 23 rfl rfl
theorem dksX0_asks_3 : cX0_asks.data.toList.drop 68 = dktX0_asks_3 := dk_seg dksX0_asks_2 23 rfl rfl
theorem dksX0_asks_4 : cX0_asks.data.toList.drop 92 = dktX0_asks_4 := dk_seg dksX0_asks_3 24 rfl rfl
theorem dksX0_asks_5 : cX0_asks.data.toList.drop 116 = dktX0_asks_5 := dk_seg dksX0_asks_4 24 rfl rfl
theorem dksX0_asks_6 : cX0_asks.data.toList.drop 140 = dktX0_asks_6 := dk_seg dksX0_asks_5 24 rfl rfl
theorem dksX0_asks_7 : cX0_asks.data.toList.drop 163 = dktX0_asks_7 := dk_seg dksX0_asks_6 23 rfl rfl
theorem dX0_asks_0 : decode cX0_asks 0 = .ok (.aload_n 0, 1) := dk_42 (dk_at dksX0_asks_0 0 rfl rfl)
theorem dX0_asks_1 : decode cX0_asks 1 = .ok (.getfield 61, 3) := dk_180 0 61 (dk_at dksX0_asks_0 1 rfl rfl)
theorem dX0_asks_4 : decode cX0_asks 4 = .ok (.iconst 0, 1) := dk_3 (dk_at dksX0_asks_0 4 rfl rfl)
theorem dX0_asks_5 : decode cX0_asks 5 = .ok (.iload_n 2, 1) := dk_28 (dk_at dksX0_asks_0 5 rfl rfl)
theorem dX0_asks_6 : decode cX0_asks 6 = .ok (.i2l, 1) := dk_133 (dk_at dksX0_asks_0 6 rfl rfl)
theorem dX0_asks_7 : decode cX0_asks 7 = .ok (.lastore, 1) := dk_80 (dk_at dksX0_asks_0 7 rfl rfl)
theorem dX0_asks_8 : decode cX0_asks 8 = .ok (.aload_n 0, 1) := dk_42 (dk_at dksX0_asks_0 8 rfl rfl)
theorem dX0_asks_9 : decode cX0_asks 9 = .ok (.getfield 61, 3) := dk_180 0 61 (dk_at dksX0_asks_0 9 rfl rfl)
theorem dX0_asks_12 : decode cX0_asks 12 = .ok (.iconst 1, 1) := dk_4 (dk_at dksX0_asks_0 12 rfl rfl)
theorem dX0_asks_13 : decode cX0_asks 13 = .ok (.aload_n 1, 1) := dk_43 (dk_at dksX0_asks_0 13 rfl rfl)
theorem dX0_asks_14 : decode cX0_asks 14 = .ok (.getfield 157, 3) := dk_180 0 157 (dk_at dksX0_asks_0 14 rfl rfl)
theorem dX0_asks_17 : decode cX0_asks 17 = .ok (.iload_n 2, 1) := dk_28 (dk_at dksX0_asks_0 17 rfl rfl)
theorem dX0_asks_18 : decode cX0_asks 18 = .ok (.iaload, 1) := dk_46 (dk_at dksX0_asks_0 18 rfl rfl)
theorem dX0_asks_19 : decode cX0_asks 19 = .ok (.i2l, 1) := dk_133 (dk_at dksX0_asks_0 19 rfl rfl)
theorem dX0_asks_20 : decode cX0_asks 20 = .ok (.lastore, 1) := dk_80 (dk_at dksX0_asks_0 20 rfl rfl)
theorem dX0_asks_21 : decode cX0_asks 21 = .ok (.aload_n 0, 1) := dk_42 (dk_at dksX0_asks_0 21 rfl rfl)
theorem dX0_asks_22 : decode cX0_asks 22 = .ok (.getfield 61, 3) := dk_180 0 61 (dk_at dksX0_asks_1 0 rfl rfl)
theorem dX0_asks_25 : decode cX0_asks 25 = .ok (.iconst 2, 1) := dk_5 (dk_at dksX0_asks_1 3 rfl rfl)
theorem dX0_asks_26 : decode cX0_asks 26 = .ok (.aload_n 1, 1) := dk_43 (dk_at dksX0_asks_1 4 rfl rfl)
theorem dX0_asks_27 : decode cX0_asks 27 = .ok (.getfield 151, 3) := dk_180 0 151 (dk_at dksX0_asks_1 5 rfl rfl)
theorem dX0_asks_30 : decode cX0_asks 30 = .ok (.iload_n 2, 1) := dk_28 (dk_at dksX0_asks_1 8 rfl rfl)
theorem dX0_asks_31 : decode cX0_asks 31 = .ok (.iaload, 1) := dk_46 (dk_at dksX0_asks_1 9 rfl rfl)
theorem dX0_asks_32 : decode cX0_asks 32 = .ok (.i2l, 1) := dk_133 (dk_at dksX0_asks_1 10 rfl rfl)
theorem dX0_asks_33 : decode cX0_asks 33 = .ok (.lastore, 1) := dk_80 (dk_at dksX0_asks_1 11 rfl rfl)
theorem dX0_asks_34 : decode cX0_asks 34 = .ok (.aload_n 0, 1) := dk_42 (dk_at dksX0_asks_1 12 rfl rfl)
theorem dX0_asks_35 : decode cX0_asks 35 = .ok (.getfield 61, 3) := dk_180 0 61 (dk_at dksX0_asks_1 13 rfl rfl)
theorem dX0_asks_38 : decode cX0_asks 38 = .ok (.iconst 3, 1) := dk_6 (dk_at dksX0_asks_1 16 rfl rfl)
theorem dX0_asks_39 : decode cX0_asks 39 = .ok (.aload_n 1, 1) := dk_43 (dk_at dksX0_asks_1 17 rfl rfl)
theorem dX0_asks_40 : decode cX0_asks 40 = .ok (.getfield 154, 3) := dk_180 0 154 (dk_at dksX0_asks_1 18 rfl rfl)
theorem dX0_asks_43 : decode cX0_asks 43 = .ok (.iload_n 2, 1) := dk_28 (dk_at dksX0_asks_1 21 rfl rfl)
theorem dX0_asks_44 : decode cX0_asks 44 = .ok (.iaload, 1) := dk_46 (dk_at dksX0_asks_1 22 rfl rfl)
theorem dX0_asks_45 : decode cX0_asks 45 = .ok (.ifCond .le 7, 3) := dk_158 0 7 (dk_at dksX0_asks_2 0 rfl rfl)
theorem dX0_asks_48 : decode cX0_asks 48 = .ok (.iconst 1, 1) := dk_4 (dk_at dksX0_asks_2 3 rfl rfl)
theorem dX0_asks_49 : decode cX0_asks 49 = .ok (.goto 4, 3) := dk_167 0 4 (dk_at dksX0_asks_2 4 rfl rfl)
theorem dX0_asks_52 : decode cX0_asks 52 = .ok (.iconst 0, 1) := dk_3 (dk_at dksX0_asks_2 7 rfl rfl)
theorem dX0_asks_53 : decode cX0_asks 53 = .ok (.invokestatic 173, 3) := dk_184 0 173 (dk_at dksX0_asks_2 8 rfl rfl)
theorem dX0_asks_56 : decode cX0_asks 56 = .ok (.i2l, 1) := dk_133 (dk_at dksX0_asks_2 11 rfl rfl)
theorem dX0_asks_57 : decode cX0_asks 57 = .ok (.lastore, 1) := dk_80 (dk_at dksX0_asks_2 12 rfl rfl)
theorem dX0_asks_58 : decode cX0_asks 58 = .ok (.aload_n 0, 1) := dk_42 (dk_at dksX0_asks_2 13 rfl rfl)
theorem dX0_asks_59 : decode cX0_asks 59 = .ok (.getfield 61, 3) := dk_180 0 61 (dk_at dksX0_asks_2 14 rfl rfl)
theorem dX0_asks_62 : decode cX0_asks 62 = .ok (.iconst 4, 1) := dk_7 (dk_at dksX0_asks_2 17 rfl rfl)
theorem dX0_asks_63 : decode cX0_asks 63 = .ok (.aload_n 0, 1) := dk_42 (dk_at dksX0_asks_2 18 rfl rfl)
theorem dX0_asks_64 : decode cX0_asks 64 = .ok (.getfield 10, 3) := dk_180 0 10 (dk_at dksX0_asks_2 19 rfl rfl)
theorem dX0_asks_67 : decode cX0_asks 67 = .ok (.aload_n 1, 1) := dk_43 (dk_at dksX0_asks_2 22 rfl rfl)
theorem dX0_asks_68 : decode cX0_asks 68 = .ok (.getfield 177, 3) := dk_180 0 177 (dk_at dksX0_asks_3 0 rfl rfl)
theorem dX0_asks_71 : decode cX0_asks 71 = .ok (.iload_n 2, 1) := dk_28 (dk_at dksX0_asks_3 3 rfl rfl)
theorem dX0_asks_72 : decode cX0_asks 72 = .ok (.iconst 1, 1) := dk_4 (dk_at dksX0_asks_3 4 rfl rfl)
theorem dX0_asks_73 : decode cX0_asks 73 = .ok (.iadd, 1) := dk_96 (dk_at dksX0_asks_3 5 rfl rfl)
theorem dX0_asks_74 : decode cX0_asks 74 = .ok (.invokevirtual 169, 3) := dk_182 0 169 (dk_at dksX0_asks_3 6 rfl rfl)
theorem dX0_asks_77 : decode cX0_asks 77 = .ok (.i2l, 1) := dk_133 (dk_at dksX0_asks_3 9 rfl rfl)
theorem dX0_asks_78 : decode cX0_asks 78 = .ok (.lastore, 1) := dk_80 (dk_at dksX0_asks_3 10 rfl rfl)
theorem dX0_asks_79 : decode cX0_asks 79 = .ok (.aload_n 0, 1) := dk_42 (dk_at dksX0_asks_3 11 rfl rfl)
theorem dX0_asks_80 : decode cX0_asks 80 = .ok (.getfield 61, 3) := dk_180 0 61 (dk_at dksX0_asks_3 12 rfl rfl)
theorem dX0_asks_83 : decode cX0_asks 83 = .ok (.iconst 5, 1) := dk_8 (dk_at dksX0_asks_3 15 rfl rfl)
theorem dX0_asks_84 : decode cX0_asks 84 = .ok (.aload_n 0, 1) := dk_42 (dk_at dksX0_asks_3 16 rfl rfl)
theorem dX0_asks_85 : decode cX0_asks 85 = .ok (.getfield 10, 3) := dk_180 0 10 (dk_at dksX0_asks_3 17 rfl rfl)
theorem dX0_asks_88 : decode cX0_asks 88 = .ok (.getfield 160, 3) := dk_180 0 160 (dk_at dksX0_asks_3 20 rfl rfl)
theorem dX0_asks_91 : decode cX0_asks 91 = .ok (.iload_n 2, 1) := dk_28 (dk_at dksX0_asks_3 23 rfl rfl)
theorem dX0_asks_92 : decode cX0_asks 92 = .ok (.iaload, 1) := dk_46 (dk_at dksX0_asks_4 0 rfl rfl)
theorem dX0_asks_93 : decode cX0_asks 93 = .ok (.aload_n 1, 1) := dk_43 (dk_at dksX0_asks_4 1 rfl rfl)
theorem dX0_asks_94 : decode cX0_asks 94 = .ok (.invokevirtual 180, 3) := dk_182 0 180 (dk_at dksX0_asks_4 2 rfl rfl)
theorem dX0_asks_97 : decode cX0_asks 97 = .ok (.iand, 1) := dk_126 (dk_at dksX0_asks_4 5 rfl rfl)
theorem dX0_asks_98 : decode cX0_asks 98 = .ok (.invokestatic 183, 3) := dk_184 0 183 (dk_at dksX0_asks_4 6 rfl rfl)
theorem dX0_asks_101 : decode cX0_asks 101 = .ok (.i2l, 1) := dk_133 (dk_at dksX0_asks_4 9 rfl rfl)
theorem dX0_asks_102 : decode cX0_asks 102 = .ok (.lastore, 1) := dk_80 (dk_at dksX0_asks_4 10 rfl rfl)
theorem dX0_asks_103 : decode cX0_asks 103 = .ok (.aload_n 0, 1) := dk_42 (dk_at dksX0_asks_4 11 rfl rfl)
theorem dX0_asks_104 : decode cX0_asks 104 = .ok (.getfield 61, 3) := dk_180 0 61 (dk_at dksX0_asks_4 12 rfl rfl)
theorem dX0_asks_107 : decode cX0_asks 107 = .ok (.bipush 6, 2) := dk_16 6 (dk_at dksX0_asks_4 15 rfl rfl)
theorem dX0_asks_109 : decode cX0_asks 109 = .ok (.aload_n 1, 1) := dk_43 (dk_at dksX0_asks_4 17 rfl rfl)
theorem dX0_asks_110 : decode cX0_asks 110 = .ok (.invokevirtual 180, 3) := dk_182 0 180 (dk_at dksX0_asks_4 18 rfl rfl)
theorem dX0_asks_113 : decode cX0_asks 113 = .ok (.invokestatic 183, 3) := dk_184 0 183 (dk_at dksX0_asks_4 21 rfl rfl)
theorem dX0_asks_116 : decode cX0_asks 116 = .ok (.i2l, 1) := dk_133 (dk_at dksX0_asks_5 0 rfl rfl)
theorem dX0_asks_117 : decode cX0_asks 117 = .ok (.lastore, 1) := dk_80 (dk_at dksX0_asks_5 1 rfl rfl)
theorem dX0_asks_118 : decode cX0_asks 118 = .ok (.aload_n 0, 1) := dk_42 (dk_at dksX0_asks_5 2 rfl rfl)
theorem dX0_asks_119 : decode cX0_asks 119 = .ok (.getfield 61, 3) := dk_180 0 61 (dk_at dksX0_asks_5 3 rfl rfl)
theorem dX0_asks_122 : decode cX0_asks 122 = .ok (.bipush 7, 2) := dk_16 7 (dk_at dksX0_asks_5 6 rfl rfl)
theorem dX0_asks_124 : decode cX0_asks 124 = .ok (.aload_n 1, 1) := dk_43 (dk_at dksX0_asks_5 8 rfl rfl)
theorem dX0_asks_125 : decode cX0_asks 125 = .ok (.invokevirtual 189, 3) := dk_182 0 189 (dk_at dksX0_asks_5 9 rfl rfl)
theorem dX0_asks_128 : decode cX0_asks 128 = .ok (.i2l, 1) := dk_133 (dk_at dksX0_asks_5 12 rfl rfl)
theorem dX0_asks_129 : decode cX0_asks 129 = .ok (.lastore, 1) := dk_80 (dk_at dksX0_asks_5 13 rfl rfl)
theorem dX0_asks_130 : decode cX0_asks 130 = .ok (.aload_n 0, 1) := dk_42 (dk_at dksX0_asks_5 14 rfl rfl)
theorem dX0_asks_131 : decode cX0_asks 131 = .ok (.getfield 61, 3) := dk_180 0 61 (dk_at dksX0_asks_5 15 rfl rfl)
theorem dX0_asks_134 : decode cX0_asks 134 = .ok (.bipush 8, 2) := dk_16 8 (dk_at dksX0_asks_5 18 rfl rfl)
theorem dX0_asks_136 : decode cX0_asks 136 = .ok (.aload_n 1, 1) := dk_43 (dk_at dksX0_asks_5 20 rfl rfl)
theorem dX0_asks_137 : decode cX0_asks 137 = .ok (.getfield 163, 3) := dk_180 0 163 (dk_at dksX0_asks_5 21 rfl rfl)
theorem dX0_asks_140 : decode cX0_asks 140 = .ok (.iload_n 2, 1) := dk_28 (dk_at dksX0_asks_6 0 rfl rfl)
theorem dX0_asks_141 : decode cX0_asks 141 = .ok (.iaload, 1) := dk_46 (dk_at dksX0_asks_6 1 rfl rfl)
theorem dX0_asks_142 : decode cX0_asks 142 = .ok (.i2l, 1) := dk_133 (dk_at dksX0_asks_6 2 rfl rfl)
theorem dX0_asks_143 : decode cX0_asks 143 = .ok (.lastore, 1) := dk_80 (dk_at dksX0_asks_6 3 rfl rfl)
theorem dX0_asks_144 : decode cX0_asks 144 = .ok (.aload_n 0, 1) := dk_42 (dk_at dksX0_asks_6 4 rfl rfl)
theorem dX0_asks_145 : decode cX0_asks 145 = .ok (.getfield 61, 3) := dk_180 0 61 (dk_at dksX0_asks_6 5 rfl rfl)
theorem dX0_asks_148 : decode cX0_asks 148 = .ok (.bipush 9, 2) := dk_16 9 (dk_at dksX0_asks_6 8 rfl rfl)
theorem dX0_asks_150 : decode cX0_asks 150 = .ok (.aload_n 1, 1) := dk_43 (dk_at dksX0_asks_6 10 rfl rfl)
theorem dX0_asks_151 : decode cX0_asks 151 = .ok (.getfield 192, 3) := dk_180 0 192 (dk_at dksX0_asks_6 11 rfl rfl)
theorem dX0_asks_154 : decode cX0_asks 154 = .ok (.i2l, 1) := dk_133 (dk_at dksX0_asks_6 14 rfl rfl)
theorem dX0_asks_155 : decode cX0_asks 155 = .ok (.lastore, 1) := dk_80 (dk_at dksX0_asks_6 15 rfl rfl)
theorem dX0_asks_156 : decode cX0_asks 156 = .ok (.aload_n 0, 1) := dk_42 (dk_at dksX0_asks_6 16 rfl rfl)
theorem dX0_asks_157 : decode cX0_asks 157 = .ok (.getfield 61, 3) := dk_180 0 61 (dk_at dksX0_asks_6 17 rfl rfl)
theorem dX0_asks_160 : decode cX0_asks 160 = .ok (.bipush 10, 2) := dk_16 10 (dk_at dksX0_asks_6 20 rfl rfl)
theorem dX0_asks_162 : decode cX0_asks 162 = .ok (.aload_n 1, 1) := dk_43 (dk_at dksX0_asks_6 22 rfl rfl)
theorem dX0_asks_163 : decode cX0_asks 163 = .ok (.getfield 195, 3) := dk_180 0 195 (dk_at dksX0_asks_7 0 rfl rfl)
theorem dX0_asks_166 : decode cX0_asks 166 = .ok (.i2l, 1) := dk_133 (dk_at dksX0_asks_7 3 rfl rfl)
theorem dX0_asks_167 : decode cX0_asks 167 = .ok (.lastore, 1) := dk_80 (dk_at dksX0_asks_7 4 rfl rfl)
theorem dX0_asks_168 : decode cX0_asks 168 = .ok (.return_, 1) := dk_177 (dk_at dksX0_asks_7 5 rfl rfl)
abbrev cX0_bit : ByteArray := prog_1_method_3_code
def yX0_bit : MethodName := ⟨RX0, "bit", "(Z)I"⟩
def dkwX0_bit_0 : List UInt8 := [26, 153, 0, 7, 4, 167, 0, 4, 3, 172]
abbrev dktX0_bit_0 : List UInt8 := dkwX0_bit_0 ++ []
theorem dksX0_bit_0 : cX0_bit.data.toList.drop 0 = dktX0_bit_0 := by decide +kernel
theorem dX0_bit_0 : decode cX0_bit 0 = .ok (.iload_n 0, 1) := dk_26 (dk_at dksX0_bit_0 0 rfl rfl)
theorem dX0_bit_1 : decode cX0_bit 1 = .ok (.ifCond .eq 7, 3) := dk_153 0 7 (dk_at dksX0_bit_0 1 rfl rfl)
theorem dX0_bit_4 : decode cX0_bit 4 = .ok (.iconst 1, 1) := dk_4 (dk_at dksX0_bit_0 4 rfl rfl)
theorem dX0_bit_5 : decode cX0_bit 5 = .ok (.goto 4, 3) := dk_167 0 4 (dk_at dksX0_bit_0 5 rfl rfl)
theorem dX0_bit_8 : decode cX0_bit 8 = .ok (.iconst 0, 1) := dk_3 (dk_at dksX0_bit_0 8 rfl rfl)
theorem dX0_bit_9 : decode cX0_bit 9 = .ok (.ireturn, 1) := dk_172 (dk_at dksX0_bit_0 9 rfl rfl)
abbrev cX0_light : ByteArray := prog_1_method_29_code
def yX0_light : MethodName := ⟨RX0, "light", "(I)I"⟩
def dkwX0_light_2 : List UInt8 := [42, 180, 0, 19, 180, 0, 151, 27, 46, 172]
abbrev dktX0_light_2 : List UInt8 := dkwX0_light_2 ++ []
def dkwX0_light_1 : List UInt8 := [180, 0, 154, 27, 46, 158, 0, 5, 2, 172, 42, 182, 1, 20, 42, 180, 0, 19, 180, 0, 154, 27, 4, 79]
abbrev dktX0_light_1 : List UInt8 := dkwX0_light_1 ++ dktX0_light_2
def dkwX0_light_0 : List UInt8 := [42, 27, 182, 0, 147, 153, 0, 27, 42, 180, 0, 19, 180, 0, 151, 27, 46, 153, 0, 15, 42, 180, 0, 19]
abbrev dktX0_light_0 : List UInt8 := dkwX0_light_0 ++ dktX0_light_1
theorem dksX0_light_0 : cX0_light.data.toList.drop 0 = dktX0_light_0 := by decide +kernel
theorem dksX0_light_1 : cX0_light.data.toList.drop 24 = dktX0_light_1 := dk_seg dksX0_light_0 24 rfl rfl
theorem dksX0_light_2 : cX0_light.data.toList.drop 48 = dktX0_light_2 := dk_seg dksX0_light_1 24 rfl rfl
theorem dX0_light_0 : decode cX0_light 0 = .ok (.aload_n 0, 1) := dk_42 (dk_at dksX0_light_0 0 rfl rfl)
theorem dX0_light_1 : decode cX0_light 1 = .ok (.iload_n 1, 1) := dk_27 (dk_at dksX0_light_0 1 rfl rfl)
theorem dX0_light_2 : decode cX0_light 2 = .ok (.invokevirtual 147, 3) := dk_182 0 147 (dk_at dksX0_light_0 2 rfl rfl)
theorem dX0_light_5 : decode cX0_light 5 = .ok (.ifCond .eq 27, 3) := dk_153 0 27 (dk_at dksX0_light_0 5 rfl rfl)
theorem dX0_light_8 : decode cX0_light 8 = .ok (.aload_n 0, 1) := dk_42 (dk_at dksX0_light_0 8 rfl rfl)
theorem dX0_light_9 : decode cX0_light 9 = .ok (.getfield 19, 3) := dk_180 0 19 (dk_at dksX0_light_0 9 rfl rfl)
theorem dX0_light_12 : decode cX0_light 12 = .ok (.getfield 151, 3) := dk_180 0 151 (dk_at dksX0_light_0 12 rfl rfl)
theorem dX0_light_15 : decode cX0_light 15 = .ok (.iload_n 1, 1) := dk_27 (dk_at dksX0_light_0 15 rfl rfl)
theorem dX0_light_16 : decode cX0_light 16 = .ok (.iaload, 1) := dk_46 (dk_at dksX0_light_0 16 rfl rfl)
theorem dX0_light_17 : decode cX0_light 17 = .ok (.ifCond .eq 15, 3) := dk_153 0 15 (dk_at dksX0_light_0 17 rfl rfl)
theorem dX0_light_20 : decode cX0_light 20 = .ok (.aload_n 0, 1) := dk_42 (dk_at dksX0_light_0 20 rfl rfl)
theorem dX0_light_21 : decode cX0_light 21 = .ok (.getfield 19, 3) := dk_180 0 19 (dk_at dksX0_light_0 21 rfl rfl)
theorem dX0_light_24 : decode cX0_light 24 = .ok (.getfield 154, 3) := dk_180 0 154 (dk_at dksX0_light_1 0 rfl rfl)
theorem dX0_light_27 : decode cX0_light 27 = .ok (.iload_n 1, 1) := dk_27 (dk_at dksX0_light_1 3 rfl rfl)
theorem dX0_light_28 : decode cX0_light 28 = .ok (.iaload, 1) := dk_46 (dk_at dksX0_light_1 4 rfl rfl)
theorem dX0_light_29 : decode cX0_light 29 = .ok (.ifCond .le 5, 3) := dk_158 0 5 (dk_at dksX0_light_1 5 rfl rfl)
theorem dX0_light_32 : decode cX0_light 32 = .ok (.iconst (-1), 1) := dk_2 (dk_at dksX0_light_1 8 rfl rfl)
theorem dX0_light_33 : decode cX0_light 33 = .ok (.ireturn, 1) := dk_172 (dk_at dksX0_light_1 9 rfl rfl)
theorem dX0_light_34 : decode cX0_light 34 = .ok (.aload_n 0, 1) := dk_42 (dk_at dksX0_light_1 10 rfl rfl)
theorem dX0_light_35 : decode cX0_light 35 = .ok (.invokevirtual 276, 3) := dk_182 1 20 (dk_at dksX0_light_1 11 rfl rfl)
theorem dX0_light_38 : decode cX0_light 38 = .ok (.aload_n 0, 1) := dk_42 (dk_at dksX0_light_1 14 rfl rfl)
theorem dX0_light_39 : decode cX0_light 39 = .ok (.getfield 19, 3) := dk_180 0 19 (dk_at dksX0_light_1 15 rfl rfl)
theorem dX0_light_42 : decode cX0_light 42 = .ok (.getfield 154, 3) := dk_180 0 154 (dk_at dksX0_light_1 18 rfl rfl)
theorem dX0_light_45 : decode cX0_light 45 = .ok (.iload_n 1, 1) := dk_27 (dk_at dksX0_light_1 21 rfl rfl)
theorem dX0_light_46 : decode cX0_light 46 = .ok (.iconst 1, 1) := dk_4 (dk_at dksX0_light_1 22 rfl rfl)
theorem dX0_light_47 : decode cX0_light 47 = .ok (.iastore, 1) := dk_79 (dk_at dksX0_light_1 23 rfl rfl)
theorem dX0_light_48 : decode cX0_light 48 = .ok (.aload_n 0, 1) := dk_42 (dk_at dksX0_light_2 0 rfl rfl)
theorem dX0_light_49 : decode cX0_light 49 = .ok (.getfield 19, 3) := dk_180 0 19 (dk_at dksX0_light_2 1 rfl rfl)
theorem dX0_light_52 : decode cX0_light 52 = .ok (.getfield 151, 3) := dk_180 0 151 (dk_at dksX0_light_2 4 rfl rfl)
theorem dX0_light_55 : decode cX0_light 55 = .ok (.iload_n 1, 1) := dk_27 (dk_at dksX0_light_2 7 rfl rfl)
theorem dX0_light_56 : decode cX0_light 56 = .ok (.iaload, 1) := dk_46 (dk_at dksX0_light_2 8 rfl rfl)
theorem dX0_light_57 : decode cX0_light 57 = .ok (.ireturn, 1) := dk_172 (dk_at dksX0_light_2 9 rfl rfl)
abbrev cX0_douse : ByteArray := prog_1_method_30_code
def yX0_douse : MethodName := ⟨RX0, "douse", "(I)I"⟩
def dkwX0_douse_2 : List UInt8 := [172]
abbrev dktX0_douse_2 : List UInt8 := dkwX0_douse_2 ++ []
def dkwX0_douse_1 : List UInt8 := [182, 1, 20, 42, 180, 0, 19, 180, 0, 154, 27, 46, 61, 42, 180, 0, 19, 180, 0, 154, 27, 3, 79, 28]
abbrev dktX0_douse_1 : List UInt8 := dkwX0_douse_1 ++ dktX0_douse_2
def dkwX0_douse_0 : List UInt8 := [42, 27, 182, 0, 147, 153, 0, 15, 42, 180, 0, 19, 180, 0, 154, 27, 46, 154, 0, 5, 2, 172, 42]
abbrev dktX0_douse_0 : List UInt8 := dkwX0_douse_0 ++ dktX0_douse_1
theorem dksX0_douse_0 : cX0_douse.data.toList.drop 0 = dktX0_douse_0 := by decide +kernel
theorem dksX0_douse_1 : cX0_douse.data.toList.drop 23 = dktX0_douse_1 := dk_seg dksX0_douse_0 23 rfl rfl
theorem dksX0_douse_2 : cX0_douse.data.toList.drop 47 = dktX0_douse_2 := dk_seg dksX0_douse_1 24 rfl rfl
theorem dX0_douse_0 : decode cX0_douse 0 = .ok (.aload_n 0, 1) := dk_42 (dk_at dksX0_douse_0 0 rfl rfl)
theorem dX0_douse_1 : decode cX0_douse 1 = .ok (.iload_n 1, 1) := dk_27 (dk_at dksX0_douse_0 1 rfl rfl)
theorem dX0_douse_2 : decode cX0_douse 2 = .ok (.invokevirtual 147, 3) := dk_182 0 147 (dk_at dksX0_douse_0 2 rfl rfl)
theorem dX0_douse_5 : decode cX0_douse 5 = .ok (.ifCond .eq 15, 3) := dk_153 0 15 (dk_at dksX0_douse_0 5 rfl rfl)
theorem dX0_douse_8 : decode cX0_douse 8 = .ok (.aload_n 0, 1) := dk_42 (dk_at dksX0_douse_0 8 rfl rfl)
theorem dX0_douse_9 : decode cX0_douse 9 = .ok (.getfield 19, 3) := dk_180 0 19 (dk_at dksX0_douse_0 9 rfl rfl)
theorem dX0_douse_12 : decode cX0_douse 12 = .ok (.getfield 154, 3) := dk_180 0 154 (dk_at dksX0_douse_0 12 rfl rfl)
theorem dX0_douse_15 : decode cX0_douse 15 = .ok (.iload_n 1, 1) := dk_27 (dk_at dksX0_douse_0 15 rfl rfl)
theorem dX0_douse_16 : decode cX0_douse 16 = .ok (.iaload, 1) := dk_46 (dk_at dksX0_douse_0 16 rfl rfl)
theorem dX0_douse_17 : decode cX0_douse 17 = .ok (.ifCond .ne 5, 3) := dk_154 0 5 (dk_at dksX0_douse_0 17 rfl rfl)
theorem dX0_douse_20 : decode cX0_douse 20 = .ok (.iconst (-1), 1) := dk_2 (dk_at dksX0_douse_0 20 rfl rfl)
theorem dX0_douse_21 : decode cX0_douse 21 = .ok (.ireturn, 1) := dk_172 (dk_at dksX0_douse_0 21 rfl rfl)
theorem dX0_douse_22 : decode cX0_douse 22 = .ok (.aload_n 0, 1) := dk_42 (dk_at dksX0_douse_0 22 rfl rfl)
theorem dX0_douse_23 : decode cX0_douse 23 = .ok (.invokevirtual 276, 3) := dk_182 1 20 (dk_at dksX0_douse_1 0 rfl rfl)
theorem dX0_douse_26 : decode cX0_douse 26 = .ok (.aload_n 0, 1) := dk_42 (dk_at dksX0_douse_1 3 rfl rfl)
theorem dX0_douse_27 : decode cX0_douse 27 = .ok (.getfield 19, 3) := dk_180 0 19 (dk_at dksX0_douse_1 4 rfl rfl)
theorem dX0_douse_30 : decode cX0_douse 30 = .ok (.getfield 154, 3) := dk_180 0 154 (dk_at dksX0_douse_1 7 rfl rfl)
theorem dX0_douse_33 : decode cX0_douse 33 = .ok (.iload_n 1, 1) := dk_27 (dk_at dksX0_douse_1 10 rfl rfl)
theorem dX0_douse_34 : decode cX0_douse 34 = .ok (.iaload, 1) := dk_46 (dk_at dksX0_douse_1 11 rfl rfl)
theorem dX0_douse_35 : decode cX0_douse 35 = .ok (.istore_n 2, 1) := dk_61 (dk_at dksX0_douse_1 12 rfl rfl)
theorem dX0_douse_36 : decode cX0_douse 36 = .ok (.aload_n 0, 1) := dk_42 (dk_at dksX0_douse_1 13 rfl rfl)
theorem dX0_douse_37 : decode cX0_douse 37 = .ok (.getfield 19, 3) := dk_180 0 19 (dk_at dksX0_douse_1 14 rfl rfl)
theorem dX0_douse_40 : decode cX0_douse 40 = .ok (.getfield 154, 3) := dk_180 0 154 (dk_at dksX0_douse_1 17 rfl rfl)
theorem dX0_douse_43 : decode cX0_douse 43 = .ok (.iload_n 1, 1) := dk_27 (dk_at dksX0_douse_1 20 rfl rfl)
theorem dX0_douse_44 : decode cX0_douse 44 = .ok (.iconst 0, 1) := dk_3 (dk_at dksX0_douse_1 21 rfl rfl)
theorem dX0_douse_45 : decode cX0_douse 45 = .ok (.iastore, 1) := dk_79 (dk_at dksX0_douse_1 22 rfl rfl)
theorem dX0_douse_46 : decode cX0_douse 46 = .ok (.iload_n 2, 1) := dk_28 (dk_at dksX0_douse_1 23 rfl rfl)
theorem dX0_douse_47 : decode cX0_douse 47 = .ok (.ireturn, 1) := dk_172 (dk_at dksX0_douse_2 0 rfl rfl)
abbrev cX0_say : ByteArray := prog_1_method_31_code
def yX0_say : MethodName := ⟨RX0, "say", "(II)I"⟩
def dkwX0_say_2 : List UInt8 := [62, 42, 180, 0, 19, 180, 0, 157, 27, 28, 79, 29, 172]
abbrev dktX0_say_2 : List UInt8 := dkwX0_say_2 ++ []
def dkwX0_say_1 : List UInt8 := [180, 0, 157, 27, 46, 28, 160, 0, 5, 2, 172, 42, 182, 1, 20, 42, 180, 0, 19, 180, 0, 157, 27, 46]
abbrev dktX0_say_1 : List UInt8 := dkwX0_say_1 ++ dktX0_say_2
def dkwX0_say_0 : List UInt8 := [42, 27, 182, 0, 147, 153, 0, 28, 28, 133, 9, 20, 1, 23, 184, 0, 104, 153, 0, 16, 42, 180, 0, 19]
abbrev dktX0_say_0 : List UInt8 := dkwX0_say_0 ++ dktX0_say_1
theorem dksX0_say_0 : cX0_say.data.toList.drop 0 = dktX0_say_0 := by decide +kernel
theorem dksX0_say_1 : cX0_say.data.toList.drop 24 = dktX0_say_1 := dk_seg dksX0_say_0 24 rfl rfl
theorem dksX0_say_2 : cX0_say.data.toList.drop 48 = dktX0_say_2 := dk_seg dksX0_say_1 24 rfl rfl
theorem dX0_say_0 : decode cX0_say 0 = .ok (.aload_n 0, 1) := dk_42 (dk_at dksX0_say_0 0 rfl rfl)
theorem dX0_say_1 : decode cX0_say 1 = .ok (.iload_n 1, 1) := dk_27 (dk_at dksX0_say_0 1 rfl rfl)
theorem dX0_say_2 : decode cX0_say 2 = .ok (.invokevirtual 147, 3) := dk_182 0 147 (dk_at dksX0_say_0 2 rfl rfl)
theorem dX0_say_5 : decode cX0_say 5 = .ok (.ifCond .eq 28, 3) := dk_153 0 28 (dk_at dksX0_say_0 5 rfl rfl)
theorem dX0_say_8 : decode cX0_say 8 = .ok (.iload_n 2, 1) := dk_28 (dk_at dksX0_say_0 8 rfl rfl)
theorem dX0_say_9 : decode cX0_say 9 = .ok (.i2l, 1) := dk_133 (dk_at dksX0_say_0 9 rfl rfl)
theorem dX0_say_10 : decode cX0_say 10 = .ok (.lconst 0, 1) := dk_9 (dk_at dksX0_say_0 10 rfl rfl)
theorem dX0_say_11 : decode cX0_say 11 = .ok (.ldc2_w 279, 3) := dk_20 1 23 (dk_at dksX0_say_0 11 rfl rfl)
theorem dX0_say_14 : decode cX0_say 14 = .ok (.invokestatic 104, 3) := dk_184 0 104 (dk_at dksX0_say_0 14 rfl rfl)
theorem dX0_say_17 : decode cX0_say 17 = .ok (.ifCond .eq 16, 3) := dk_153 0 16 (dk_at dksX0_say_0 17 rfl rfl)
theorem dX0_say_20 : decode cX0_say 20 = .ok (.aload_n 0, 1) := dk_42 (dk_at dksX0_say_0 20 rfl rfl)
theorem dX0_say_21 : decode cX0_say 21 = .ok (.getfield 19, 3) := dk_180 0 19 (dk_at dksX0_say_0 21 rfl rfl)
theorem dX0_say_24 : decode cX0_say 24 = .ok (.getfield 157, 3) := dk_180 0 157 (dk_at dksX0_say_1 0 rfl rfl)
theorem dX0_say_27 : decode cX0_say 27 = .ok (.iload_n 1, 1) := dk_27 (dk_at dksX0_say_1 3 rfl rfl)
theorem dX0_say_28 : decode cX0_say 28 = .ok (.iaload, 1) := dk_46 (dk_at dksX0_say_1 4 rfl rfl)
theorem dX0_say_29 : decode cX0_say 29 = .ok (.iload_n 2, 1) := dk_28 (dk_at dksX0_say_1 5 rfl rfl)
theorem dX0_say_30 : decode cX0_say 30 = .ok (.if_icmp .ne 5, 3) := dk_160 0 5 (dk_at dksX0_say_1 6 rfl rfl)
theorem dX0_say_33 : decode cX0_say 33 = .ok (.iconst (-1), 1) := dk_2 (dk_at dksX0_say_1 9 rfl rfl)
theorem dX0_say_34 : decode cX0_say 34 = .ok (.ireturn, 1) := dk_172 (dk_at dksX0_say_1 10 rfl rfl)
theorem dX0_say_35 : decode cX0_say 35 = .ok (.aload_n 0, 1) := dk_42 (dk_at dksX0_say_1 11 rfl rfl)
theorem dX0_say_36 : decode cX0_say 36 = .ok (.invokevirtual 276, 3) := dk_182 1 20 (dk_at dksX0_say_1 12 rfl rfl)
theorem dX0_say_39 : decode cX0_say 39 = .ok (.aload_n 0, 1) := dk_42 (dk_at dksX0_say_1 15 rfl rfl)
theorem dX0_say_40 : decode cX0_say 40 = .ok (.getfield 19, 3) := dk_180 0 19 (dk_at dksX0_say_1 16 rfl rfl)
theorem dX0_say_43 : decode cX0_say 43 = .ok (.getfield 157, 3) := dk_180 0 157 (dk_at dksX0_say_1 19 rfl rfl)
theorem dX0_say_46 : decode cX0_say 46 = .ok (.iload_n 1, 1) := dk_27 (dk_at dksX0_say_1 22 rfl rfl)
theorem dX0_say_47 : decode cX0_say 47 = .ok (.iaload, 1) := dk_46 (dk_at dksX0_say_1 23 rfl rfl)
theorem dX0_say_48 : decode cX0_say 48 = .ok (.istore_n 3, 1) := dk_62 (dk_at dksX0_say_2 0 rfl rfl)
theorem dX0_say_49 : decode cX0_say 49 = .ok (.aload_n 0, 1) := dk_42 (dk_at dksX0_say_2 1 rfl rfl)
theorem dX0_say_50 : decode cX0_say 50 = .ok (.getfield 19, 3) := dk_180 0 19 (dk_at dksX0_say_2 2 rfl rfl)
theorem dX0_say_53 : decode cX0_say 53 = .ok (.getfield 157, 3) := dk_180 0 157 (dk_at dksX0_say_2 5 rfl rfl)
theorem dX0_say_56 : decode cX0_say 56 = .ok (.iload_n 1, 1) := dk_27 (dk_at dksX0_say_2 8 rfl rfl)
theorem dX0_say_57 : decode cX0_say 57 = .ok (.iload_n 2, 1) := dk_28 (dk_at dksX0_say_2 9 rfl rfl)
theorem dX0_say_58 : decode cX0_say 58 = .ok (.iastore, 1) := dk_79 (dk_at dksX0_say_2 10 rfl rfl)
theorem dX0_say_59 : decode cX0_say 59 = .ok (.iload_n 3, 1) := dk_29 (dk_at dksX0_say_2 11 rfl rfl)
theorem dX0_say_60 : decode cX0_say 60 = .ok (.ireturn, 1) := dk_172 (dk_at dksX0_say_2 12 rfl rfl)
abbrev cX0_send : ByteArray := prog_1_method_32_code
def yX0_send : MethodName := ⟨RX0, "send", "(I)I"⟩
def dkwX0_send_2 : List UInt8 := [182, 1, 20, 42, 180, 0, 19, 42, 180, 0, 10, 27, 182, 0, 242, 42, 180, 0, 19, 180, 1, 25, 172]
abbrev dktX0_send_2 : List UInt8 := dkwX0_send_2 ++ []
def dkwX0_send_1 : List UInt8 := [180, 0, 19, 180, 0, 177, 159, 0, 15, 42, 42, 180, 0, 19, 27, 182, 0, 212, 154, 0, 5, 2, 172, 42]
abbrev dktX0_send_1 : List UInt8 := dkwX0_send_1 ++ dktX0_send_2
def dkwX0_send_0 : List UInt8 := [42, 27, 182, 0, 147, 153, 0, 38, 42, 180, 0, 19, 182, 0, 225, 154, 0, 28, 27, 4, 96, 42]
abbrev dktX0_send_0 : List UInt8 := dkwX0_send_0 ++ dktX0_send_1
theorem dksX0_send_0 : cX0_send.data.toList.drop 0 = dktX0_send_0 := by decide +kernel
theorem dksX0_send_1 : cX0_send.data.toList.drop 22 = dktX0_send_1 := dk_seg dksX0_send_0 22 rfl rfl
theorem dksX0_send_2 : cX0_send.data.toList.drop 46 = dktX0_send_2 := dk_seg dksX0_send_1 24 rfl rfl
theorem dX0_send_0 : decode cX0_send 0 = .ok (.aload_n 0, 1) := dk_42 (dk_at dksX0_send_0 0 rfl rfl)
theorem dX0_send_1 : decode cX0_send 1 = .ok (.iload_n 1, 1) := dk_27 (dk_at dksX0_send_0 1 rfl rfl)
theorem dX0_send_2 : decode cX0_send 2 = .ok (.invokevirtual 147, 3) := dk_182 0 147 (dk_at dksX0_send_0 2 rfl rfl)
theorem dX0_send_5 : decode cX0_send 5 = .ok (.ifCond .eq 38, 3) := dk_153 0 38 (dk_at dksX0_send_0 5 rfl rfl)
theorem dX0_send_8 : decode cX0_send 8 = .ok (.aload_n 0, 1) := dk_42 (dk_at dksX0_send_0 8 rfl rfl)
theorem dX0_send_9 : decode cX0_send 9 = .ok (.getfield 19, 3) := dk_180 0 19 (dk_at dksX0_send_0 9 rfl rfl)
theorem dX0_send_12 : decode cX0_send 12 = .ok (.invokevirtual 225, 3) := dk_182 0 225 (dk_at dksX0_send_0 12 rfl rfl)
theorem dX0_send_15 : decode cX0_send 15 = .ok (.ifCond .ne 28, 3) := dk_154 0 28 (dk_at dksX0_send_0 15 rfl rfl)
theorem dX0_send_18 : decode cX0_send 18 = .ok (.iload_n 1, 1) := dk_27 (dk_at dksX0_send_0 18 rfl rfl)
theorem dX0_send_19 : decode cX0_send 19 = .ok (.iconst 1, 1) := dk_4 (dk_at dksX0_send_0 19 rfl rfl)
theorem dX0_send_20 : decode cX0_send 20 = .ok (.iadd, 1) := dk_96 (dk_at dksX0_send_0 20 rfl rfl)
theorem dX0_send_21 : decode cX0_send 21 = .ok (.aload_n 0, 1) := dk_42 (dk_at dksX0_send_0 21 rfl rfl)
theorem dX0_send_22 : decode cX0_send 22 = .ok (.getfield 19, 3) := dk_180 0 19 (dk_at dksX0_send_1 0 rfl rfl)
theorem dX0_send_25 : decode cX0_send 25 = .ok (.getfield 177, 3) := dk_180 0 177 (dk_at dksX0_send_1 3 rfl rfl)
theorem dX0_send_28 : decode cX0_send 28 = .ok (.if_icmp .eq 15, 3) := dk_159 0 15 (dk_at dksX0_send_1 6 rfl rfl)
theorem dX0_send_31 : decode cX0_send 31 = .ok (.aload_n 0, 1) := dk_42 (dk_at dksX0_send_1 9 rfl rfl)
theorem dX0_send_32 : decode cX0_send 32 = .ok (.aload_n 0, 1) := dk_42 (dk_at dksX0_send_1 10 rfl rfl)
theorem dX0_send_33 : decode cX0_send 33 = .ok (.getfield 19, 3) := dk_180 0 19 (dk_at dksX0_send_1 11 rfl rfl)
theorem dX0_send_36 : decode cX0_send 36 = .ok (.iload_n 1, 1) := dk_27 (dk_at dksX0_send_1 14 rfl rfl)
theorem dX0_send_37 : decode cX0_send 37 = .ok (.invokevirtual 212, 3) := dk_182 0 212 (dk_at dksX0_send_1 15 rfl rfl)
theorem dX0_send_40 : decode cX0_send 40 = .ok (.ifCond .ne 5, 3) := dk_154 0 5 (dk_at dksX0_send_1 18 rfl rfl)
theorem dX0_send_43 : decode cX0_send 43 = .ok (.iconst (-1), 1) := dk_2 (dk_at dksX0_send_1 21 rfl rfl)
theorem dX0_send_44 : decode cX0_send 44 = .ok (.ireturn, 1) := dk_172 (dk_at dksX0_send_1 22 rfl rfl)
theorem dX0_send_45 : decode cX0_send 45 = .ok (.aload_n 0, 1) := dk_42 (dk_at dksX0_send_1 23 rfl rfl)
theorem dX0_send_46 : decode cX0_send 46 = .ok (.invokevirtual 276, 3) := dk_182 1 20 (dk_at dksX0_send_2 0 rfl rfl)
theorem dX0_send_49 : decode cX0_send 49 = .ok (.aload_n 0, 1) := dk_42 (dk_at dksX0_send_2 3 rfl rfl)
theorem dX0_send_50 : decode cX0_send 50 = .ok (.getfield 19, 3) := dk_180 0 19 (dk_at dksX0_send_2 4 rfl rfl)
theorem dX0_send_53 : decode cX0_send 53 = .ok (.aload_n 0, 1) := dk_42 (dk_at dksX0_send_2 7 rfl rfl)
theorem dX0_send_54 : decode cX0_send 54 = .ok (.getfield 10, 3) := dk_180 0 10 (dk_at dksX0_send_2 8 rfl rfl)
theorem dX0_send_57 : decode cX0_send 57 = .ok (.iload_n 1, 1) := dk_27 (dk_at dksX0_send_2 11 rfl rfl)
theorem dX0_send_58 : decode cX0_send 58 = .ok (.invokevirtual 242, 3) := dk_182 0 242 (dk_at dksX0_send_2 12 rfl rfl)
theorem dX0_send_61 : decode cX0_send 61 = .ok (.aload_n 0, 1) := dk_42 (dk_at dksX0_send_2 15 rfl rfl)
theorem dX0_send_62 : decode cX0_send 62 = .ok (.getfield 19, 3) := dk_180 0 19 (dk_at dksX0_send_2 16 rfl rfl)
theorem dX0_send_65 : decode cX0_send 65 = .ok (.getfield 281, 3) := dk_180 1 25 (dk_at dksX0_send_2 19 rfl rfl)
theorem dX0_send_68 : decode cX0_send 68 = .ok (.ireturn, 1) := dk_172 (dk_at dksX0_send_2 22 rfl rfl)
abbrev cX0_ahead : ByteArray := prog_1_method_33_code
def yX0_ahead : MethodName := ⟨RX0, "ahead", "(III)I"⟩
def dkwX0_ahead_4 : List UInt8 := [167, 0, 10, 42, 180, 0, 23, 180, 0, 177, 172]
abbrev dktX0_ahead_4 : List UInt8 := dkwX0_ahead_4 ++ []
def dkwX0_ahead_3 : List UInt8 := [180, 0, 154, 27, 46, 167, 0, 27, 29, 4, 160, 0, 15, 42, 180, 0, 23, 180, 0, 151, 27, 46]
abbrev dktX0_ahead_3 : List UInt8 := dkwX0_ahead_3 ++ dktX0_ahead_4
def dkwX0_ahead_2 : List UInt8 := [180, 0, 23, 42, 180, 0, 19, 182, 1, 13, 42, 28, 182, 1, 32, 29, 154, 0, 15, 42, 180, 0, 23]
abbrev dktX0_ahead_2 : List UInt8 := dkwX0_ahead_2 ++ dktX0_ahead_3
def dkwX0_ahead_1 : List UInt8 := [42, 27, 182, 0, 147, 153, 0, 15, 28, 133, 9, 20, 1, 30, 184, 0, 104, 154, 0, 5, 2, 172, 42]
abbrev dktX0_ahead_1 : List UInt8 := dkwX0_ahead_1 ++ dktX0_ahead_2
def dkwX0_ahead_0 : List UInt8 := [42, 182, 0, 108, 153, 0, 40, 29, 133, 9, 20, 1, 28, 184, 0, 104, 153, 0, 28, 29, 5, 162, 0, 11]
abbrev dktX0_ahead_0 : List UInt8 := dkwX0_ahead_0 ++ dktX0_ahead_1
theorem dksX0_ahead_0 : cX0_ahead.data.toList.drop 0 = dktX0_ahead_0 := by decide +kernel
theorem dksX0_ahead_1 : cX0_ahead.data.toList.drop 24 = dktX0_ahead_1 := dk_seg dksX0_ahead_0 24 rfl rfl
theorem dksX0_ahead_2 : cX0_ahead.data.toList.drop 47 = dktX0_ahead_2 := dk_seg dksX0_ahead_1 23 rfl rfl
theorem dksX0_ahead_3 : cX0_ahead.data.toList.drop 70 = dktX0_ahead_3 := dk_seg dksX0_ahead_2 23 rfl rfl
theorem dksX0_ahead_4 : cX0_ahead.data.toList.drop 92 = dktX0_ahead_4 := dk_seg dksX0_ahead_3 22 rfl rfl
theorem dX0_ahead_0 : decode cX0_ahead 0 = .ok (.aload_n 0, 1) := dk_42 (dk_at dksX0_ahead_0 0 rfl rfl)
theorem dX0_ahead_1 : decode cX0_ahead 1 = .ok (.invokevirtual 108, 3) := dk_182 0 108 (dk_at dksX0_ahead_0 1 rfl rfl)
theorem dX0_ahead_4 : decode cX0_ahead 4 = .ok (.ifCond .eq 40, 3) := dk_153 0 40 (dk_at dksX0_ahead_0 4 rfl rfl)
theorem dX0_ahead_7 : decode cX0_ahead 7 = .ok (.iload_n 3, 1) := dk_29 (dk_at dksX0_ahead_0 7 rfl rfl)
theorem dX0_ahead_8 : decode cX0_ahead 8 = .ok (.i2l, 1) := dk_133 (dk_at dksX0_ahead_0 8 rfl rfl)
theorem dX0_ahead_9 : decode cX0_ahead 9 = .ok (.lconst 0, 1) := dk_9 (dk_at dksX0_ahead_0 9 rfl rfl)
theorem dX0_ahead_10 : decode cX0_ahead 10 = .ok (.ldc2_w 284, 3) := dk_20 1 28 (dk_at dksX0_ahead_0 10 rfl rfl)
theorem dX0_ahead_13 : decode cX0_ahead 13 = .ok (.invokestatic 104, 3) := dk_184 0 104 (dk_at dksX0_ahead_0 13 rfl rfl)
theorem dX0_ahead_16 : decode cX0_ahead 16 = .ok (.ifCond .eq 28, 3) := dk_153 0 28 (dk_at dksX0_ahead_0 16 rfl rfl)
theorem dX0_ahead_19 : decode cX0_ahead 19 = .ok (.iload_n 3, 1) := dk_29 (dk_at dksX0_ahead_0 19 rfl rfl)
theorem dX0_ahead_20 : decode cX0_ahead 20 = .ok (.iconst 2, 1) := dk_5 (dk_at dksX0_ahead_0 20 rfl rfl)
theorem dX0_ahead_21 : decode cX0_ahead 21 = .ok (.if_icmp .ge 11, 3) := dk_162 0 11 (dk_at dksX0_ahead_0 21 rfl rfl)
theorem dX0_ahead_24 : decode cX0_ahead 24 = .ok (.aload_n 0, 1) := dk_42 (dk_at dksX0_ahead_1 0 rfl rfl)
theorem dX0_ahead_25 : decode cX0_ahead 25 = .ok (.iload_n 1, 1) := dk_27 (dk_at dksX0_ahead_1 1 rfl rfl)
theorem dX0_ahead_26 : decode cX0_ahead 26 = .ok (.invokevirtual 147, 3) := dk_182 0 147 (dk_at dksX0_ahead_1 2 rfl rfl)
theorem dX0_ahead_29 : decode cX0_ahead 29 = .ok (.ifCond .eq 15, 3) := dk_153 0 15 (dk_at dksX0_ahead_1 5 rfl rfl)
theorem dX0_ahead_32 : decode cX0_ahead 32 = .ok (.iload_n 2, 1) := dk_28 (dk_at dksX0_ahead_1 8 rfl rfl)
theorem dX0_ahead_33 : decode cX0_ahead 33 = .ok (.i2l, 1) := dk_133 (dk_at dksX0_ahead_1 9 rfl rfl)
theorem dX0_ahead_34 : decode cX0_ahead 34 = .ok (.lconst 0, 1) := dk_9 (dk_at dksX0_ahead_1 10 rfl rfl)
theorem dX0_ahead_35 : decode cX0_ahead 35 = .ok (.ldc2_w 286, 3) := dk_20 1 30 (dk_at dksX0_ahead_1 11 rfl rfl)
theorem dX0_ahead_38 : decode cX0_ahead 38 = .ok (.invokestatic 104, 3) := dk_184 0 104 (dk_at dksX0_ahead_1 14 rfl rfl)
theorem dX0_ahead_41 : decode cX0_ahead 41 = .ok (.ifCond .ne 5, 3) := dk_154 0 5 (dk_at dksX0_ahead_1 17 rfl rfl)
theorem dX0_ahead_44 : decode cX0_ahead 44 = .ok (.iconst (-1), 1) := dk_2 (dk_at dksX0_ahead_1 20 rfl rfl)
theorem dX0_ahead_45 : decode cX0_ahead 45 = .ok (.ireturn, 1) := dk_172 (dk_at dksX0_ahead_1 21 rfl rfl)
theorem dX0_ahead_46 : decode cX0_ahead 46 = .ok (.aload_n 0, 1) := dk_42 (dk_at dksX0_ahead_1 22 rfl rfl)
theorem dX0_ahead_47 : decode cX0_ahead 47 = .ok (.getfield 23, 3) := dk_180 0 23 (dk_at dksX0_ahead_2 0 rfl rfl)
theorem dX0_ahead_50 : decode cX0_ahead 50 = .ok (.aload_n 0, 1) := dk_42 (dk_at dksX0_ahead_2 3 rfl rfl)
theorem dX0_ahead_51 : decode cX0_ahead 51 = .ok (.getfield 19, 3) := dk_180 0 19 (dk_at dksX0_ahead_2 4 rfl rfl)
theorem dX0_ahead_54 : decode cX0_ahead 54 = .ok (.invokevirtual 269, 3) := dk_182 1 13 (dk_at dksX0_ahead_2 7 rfl rfl)
theorem dX0_ahead_57 : decode cX0_ahead 57 = .ok (.aload_n 0, 1) := dk_42 (dk_at dksX0_ahead_2 10 rfl rfl)
theorem dX0_ahead_58 : decode cX0_ahead 58 = .ok (.iload_n 2, 1) := dk_28 (dk_at dksX0_ahead_2 11 rfl rfl)
theorem dX0_ahead_59 : decode cX0_ahead 59 = .ok (.invokevirtual 288, 3) := dk_182 1 32 (dk_at dksX0_ahead_2 12 rfl rfl)
theorem dX0_ahead_62 : decode cX0_ahead 62 = .ok (.iload_n 3, 1) := dk_29 (dk_at dksX0_ahead_2 15 rfl rfl)
theorem dX0_ahead_63 : decode cX0_ahead 63 = .ok (.ifCond .ne 15, 3) := dk_154 0 15 (dk_at dksX0_ahead_2 16 rfl rfl)
theorem dX0_ahead_66 : decode cX0_ahead 66 = .ok (.aload_n 0, 1) := dk_42 (dk_at dksX0_ahead_2 19 rfl rfl)
theorem dX0_ahead_67 : decode cX0_ahead 67 = .ok (.getfield 23, 3) := dk_180 0 23 (dk_at dksX0_ahead_2 20 rfl rfl)
theorem dX0_ahead_70 : decode cX0_ahead 70 = .ok (.getfield 154, 3) := dk_180 0 154 (dk_at dksX0_ahead_3 0 rfl rfl)
theorem dX0_ahead_73 : decode cX0_ahead 73 = .ok (.iload_n 1, 1) := dk_27 (dk_at dksX0_ahead_3 3 rfl rfl)
theorem dX0_ahead_74 : decode cX0_ahead 74 = .ok (.iaload, 1) := dk_46 (dk_at dksX0_ahead_3 4 rfl rfl)
theorem dX0_ahead_75 : decode cX0_ahead 75 = .ok (.goto 27, 3) := dk_167 0 27 (dk_at dksX0_ahead_3 5 rfl rfl)
theorem dX0_ahead_78 : decode cX0_ahead 78 = .ok (.iload_n 3, 1) := dk_29 (dk_at dksX0_ahead_3 8 rfl rfl)
theorem dX0_ahead_79 : decode cX0_ahead 79 = .ok (.iconst 1, 1) := dk_4 (dk_at dksX0_ahead_3 9 rfl rfl)
theorem dX0_ahead_80 : decode cX0_ahead 80 = .ok (.if_icmp .ne 15, 3) := dk_160 0 15 (dk_at dksX0_ahead_3 10 rfl rfl)
theorem dX0_ahead_83 : decode cX0_ahead 83 = .ok (.aload_n 0, 1) := dk_42 (dk_at dksX0_ahead_3 13 rfl rfl)
theorem dX0_ahead_84 : decode cX0_ahead 84 = .ok (.getfield 23, 3) := dk_180 0 23 (dk_at dksX0_ahead_3 14 rfl rfl)
theorem dX0_ahead_87 : decode cX0_ahead 87 = .ok (.getfield 151, 3) := dk_180 0 151 (dk_at dksX0_ahead_3 17 rfl rfl)
theorem dX0_ahead_90 : decode cX0_ahead 90 = .ok (.iload_n 1, 1) := dk_27 (dk_at dksX0_ahead_3 20 rfl rfl)
theorem dX0_ahead_91 : decode cX0_ahead 91 = .ok (.iaload, 1) := dk_46 (dk_at dksX0_ahead_3 21 rfl rfl)
theorem dX0_ahead_92 : decode cX0_ahead 92 = .ok (.goto 10, 3) := dk_167 0 10 (dk_at dksX0_ahead_4 0 rfl rfl)
theorem dX0_ahead_95 : decode cX0_ahead 95 = .ok (.aload_n 0, 1) := dk_42 (dk_at dksX0_ahead_4 3 rfl rfl)
theorem dX0_ahead_96 : decode cX0_ahead 96 = .ok (.getfield 23, 3) := dk_180 0 23 (dk_at dksX0_ahead_4 4 rfl rfl)
theorem dX0_ahead_99 : decode cX0_ahead 99 = .ok (.getfield 177, 3) := dk_180 0 177 (dk_at dksX0_ahead_4 7 rfl rfl)
theorem dX0_ahead_102 : decode cX0_ahead 102 = .ok (.ireturn, 1) := dk_172 (dk_at dksX0_ahead_4 10 rfl rfl)
abbrev cX0_goesTill : ByteArray := prog_1_method_24_code
def yX0_goesTill : MethodName := ⟨RX0, "goesTill", "(I)V"⟩
def dkwX0_goesTill_0 : List UInt8 := [3, 61, 28, 27, 162, 0, 18, 42, 42, 180, 0, 23, 182, 1, 8, 87, 132, 2, 1, 167, 255, 239, 177]
abbrev dktX0_goesTill_0 : List UInt8 := dkwX0_goesTill_0 ++ []
theorem dksX0_goesTill_0 : cX0_goesTill.data.toList.drop 0 = dktX0_goesTill_0 := by decide +kernel
theorem dX0_goesTill_0 : decode cX0_goesTill 0 = .ok (.iconst 0, 1) := dk_3 (dk_at dksX0_goesTill_0 0 rfl rfl)
theorem dX0_goesTill_1 : decode cX0_goesTill 1 = .ok (.istore_n 2, 1) := dk_61 (dk_at dksX0_goesTill_0 1 rfl rfl)
theorem dX0_goesTill_2 : decode cX0_goesTill 2 = .ok (.iload_n 2, 1) := dk_28 (dk_at dksX0_goesTill_0 2 rfl rfl)
theorem dX0_goesTill_3 : decode cX0_goesTill 3 = .ok (.iload_n 1, 1) := dk_27 (dk_at dksX0_goesTill_0 3 rfl rfl)
theorem dX0_goesTill_4 : decode cX0_goesTill 4 = .ok (.if_icmp .ge 18, 3) := dk_162 0 18 (dk_at dksX0_goesTill_0 4 rfl rfl)
theorem dX0_goesTill_7 : decode cX0_goesTill 7 = .ok (.aload_n 0, 1) := dk_42 (dk_at dksX0_goesTill_0 7 rfl rfl)
theorem dX0_goesTill_8 : decode cX0_goesTill 8 = .ok (.aload_n 0, 1) := dk_42 (dk_at dksX0_goesTill_0 8 rfl rfl)
theorem dX0_goesTill_9 : decode cX0_goesTill 9 = .ok (.getfield 23, 3) := dk_180 0 23 (dk_at dksX0_goesTill_0 9 rfl rfl)
theorem dX0_goesTill_12 : decode cX0_goesTill 12 = .ok (.invokevirtual 264, 3) := dk_182 1 8 (dk_at dksX0_goesTill_0 12 rfl rfl)
theorem dX0_goesTill_15 : decode cX0_goesTill 15 = .ok (.pop, 1) := dk_87 (dk_at dksX0_goesTill_0 15 rfl rfl)
theorem dX0_goesTill_16 : decode cX0_goesTill 16 = .ok (.iinc 2 1, 3) := dk_132 2 1 (dk_at dksX0_goesTill_0 16 rfl rfl)
theorem dX0_goesTill_19 : decode cX0_goesTill 19 = .ok (.goto (-17), 3) := dk_167 255 239 (dk_at dksX0_goesTill_0 19 rfl rfl)
theorem dX0_goesTill_22 : decode cX0_goesTill 22 = .ok (.return_, 1) := dk_177 (dk_at dksX0_goesTill_0 22 rfl rfl)
abbrev cX0_left : ByteArray := prog_1_method_34_code
def yX0_left : MethodName := ⟨RX0, "left", "(I)I"⟩
def dkwX0_left_1 : List UInt8 := [180, 0, 23, 42, 180, 0, 19, 182, 1, 13, 42, 27, 182, 1, 32, 42, 180, 0, 23, 182, 1, 35, 172]
abbrev dktX0_left_1 : List UInt8 := dkwX0_left_1 ++ []
def dkwX0_left_0 : List UInt8 := [42, 182, 0, 108, 153, 0, 15, 27, 133, 9, 20, 1, 30, 184, 0, 104, 154, 0, 5, 2, 172, 42]
abbrev dktX0_left_0 : List UInt8 := dkwX0_left_0 ++ dktX0_left_1
theorem dksX0_left_0 : cX0_left.data.toList.drop 0 = dktX0_left_0 := by decide +kernel
theorem dksX0_left_1 : cX0_left.data.toList.drop 22 = dktX0_left_1 := dk_seg dksX0_left_0 22 rfl rfl
theorem dX0_left_0 : decode cX0_left 0 = .ok (.aload_n 0, 1) := dk_42 (dk_at dksX0_left_0 0 rfl rfl)
theorem dX0_left_1 : decode cX0_left 1 = .ok (.invokevirtual 108, 3) := dk_182 0 108 (dk_at dksX0_left_0 1 rfl rfl)
theorem dX0_left_4 : decode cX0_left 4 = .ok (.ifCond .eq 15, 3) := dk_153 0 15 (dk_at dksX0_left_0 4 rfl rfl)
theorem dX0_left_7 : decode cX0_left 7 = .ok (.iload_n 1, 1) := dk_27 (dk_at dksX0_left_0 7 rfl rfl)
theorem dX0_left_8 : decode cX0_left 8 = .ok (.i2l, 1) := dk_133 (dk_at dksX0_left_0 8 rfl rfl)
theorem dX0_left_9 : decode cX0_left 9 = .ok (.lconst 0, 1) := dk_9 (dk_at dksX0_left_0 9 rfl rfl)
theorem dX0_left_10 : decode cX0_left 10 = .ok (.ldc2_w 286, 3) := dk_20 1 30 (dk_at dksX0_left_0 10 rfl rfl)
theorem dX0_left_13 : decode cX0_left 13 = .ok (.invokestatic 104, 3) := dk_184 0 104 (dk_at dksX0_left_0 13 rfl rfl)
theorem dX0_left_16 : decode cX0_left 16 = .ok (.ifCond .ne 5, 3) := dk_154 0 5 (dk_at dksX0_left_0 16 rfl rfl)
theorem dX0_left_19 : decode cX0_left 19 = .ok (.iconst (-1), 1) := dk_2 (dk_at dksX0_left_0 19 rfl rfl)
theorem dX0_left_20 : decode cX0_left 20 = .ok (.ireturn, 1) := dk_172 (dk_at dksX0_left_0 20 rfl rfl)
theorem dX0_left_21 : decode cX0_left 21 = .ok (.aload_n 0, 1) := dk_42 (dk_at dksX0_left_0 21 rfl rfl)
theorem dX0_left_22 : decode cX0_left 22 = .ok (.getfield 23, 3) := dk_180 0 23 (dk_at dksX0_left_1 0 rfl rfl)
theorem dX0_left_25 : decode cX0_left 25 = .ok (.aload_n 0, 1) := dk_42 (dk_at dksX0_left_1 3 rfl rfl)
theorem dX0_left_26 : decode cX0_left 26 = .ok (.getfield 19, 3) := dk_180 0 19 (dk_at dksX0_left_1 4 rfl rfl)
theorem dX0_left_29 : decode cX0_left 29 = .ok (.invokevirtual 269, 3) := dk_182 1 13 (dk_at dksX0_left_1 7 rfl rfl)
theorem dX0_left_32 : decode cX0_left 32 = .ok (.aload_n 0, 1) := dk_42 (dk_at dksX0_left_1 10 rfl rfl)
theorem dX0_left_33 : decode cX0_left 33 = .ok (.iload_n 1, 1) := dk_27 (dk_at dksX0_left_1 11 rfl rfl)
theorem dX0_left_34 : decode cX0_left 34 = .ok (.invokevirtual 288, 3) := dk_182 1 32 (dk_at dksX0_left_1 12 rfl rfl)
theorem dX0_left_37 : decode cX0_left 37 = .ok (.aload_n 0, 1) := dk_42 (dk_at dksX0_left_1 15 rfl rfl)
theorem dX0_left_38 : decode cX0_left 38 = .ok (.getfield 23, 3) := dk_180 0 23 (dk_at dksX0_left_1 16 rfl rfl)
theorem dX0_left_41 : decode cX0_left 41 = .ok (.invokevirtual 291, 3) := dk_182 1 35 (dk_at dksX0_left_1 19 rfl rfl)
theorem dX0_left_44 : decode cX0_left 44 = .ok (.ireturn, 1) := dk_172 (dk_at dksX0_left_1 22 rfl rfl)
abbrev cX0_out : ByteArray := prog_1_method_35_code
def yX0_out : MethodName := ⟨RX0, "out", "()I"⟩
def dkwX0_out_2 : List UInt8 := [42, 42, 180, 0, 23, 182, 1, 8, 87, 132, 1, 1, 167, 255, 219, 16, 254, 172]
abbrev dktX0_out_2 : List UInt8 := dkwX0_out_2 ++ []
def dkwX0_out_1 : List UInt8 := [17, 0, 200, 162, 0, 36, 42, 180, 0, 23, 182, 0, 180, 154, 0, 11, 42, 180, 0, 23, 180, 0, 195, 172]
abbrev dktX0_out_1 : List UInt8 := dkwX0_out_1 ++ dktX0_out_2
def dkwX0_out_0 : List UInt8 := [42, 182, 0, 108, 154, 0, 5, 2, 172, 42, 180, 0, 23, 42, 180, 0, 19, 182, 1, 13, 3, 60, 27]
abbrev dktX0_out_0 : List UInt8 := dkwX0_out_0 ++ dktX0_out_1
theorem dksX0_out_0 : cX0_out.data.toList.drop 0 = dktX0_out_0 := by decide +kernel
theorem dksX0_out_1 : cX0_out.data.toList.drop 23 = dktX0_out_1 := dk_seg dksX0_out_0 23 rfl rfl
theorem dksX0_out_2 : cX0_out.data.toList.drop 47 = dktX0_out_2 := dk_seg dksX0_out_1 24 rfl rfl
theorem dX0_out_0 : decode cX0_out 0 = .ok (.aload_n 0, 1) := dk_42 (dk_at dksX0_out_0 0 rfl rfl)
theorem dX0_out_1 : decode cX0_out 1 = .ok (.invokevirtual 108, 3) := dk_182 0 108 (dk_at dksX0_out_0 1 rfl rfl)
theorem dX0_out_4 : decode cX0_out 4 = .ok (.ifCond .ne 5, 3) := dk_154 0 5 (dk_at dksX0_out_0 4 rfl rfl)
theorem dX0_out_7 : decode cX0_out 7 = .ok (.iconst (-1), 1) := dk_2 (dk_at dksX0_out_0 7 rfl rfl)
theorem dX0_out_8 : decode cX0_out 8 = .ok (.ireturn, 1) := dk_172 (dk_at dksX0_out_0 8 rfl rfl)
theorem dX0_out_9 : decode cX0_out 9 = .ok (.aload_n 0, 1) := dk_42 (dk_at dksX0_out_0 9 rfl rfl)
theorem dX0_out_10 : decode cX0_out 10 = .ok (.getfield 23, 3) := dk_180 0 23 (dk_at dksX0_out_0 10 rfl rfl)
theorem dX0_out_13 : decode cX0_out 13 = .ok (.aload_n 0, 1) := dk_42 (dk_at dksX0_out_0 13 rfl rfl)
theorem dX0_out_14 : decode cX0_out 14 = .ok (.getfield 19, 3) := dk_180 0 19 (dk_at dksX0_out_0 14 rfl rfl)
theorem dX0_out_17 : decode cX0_out 17 = .ok (.invokevirtual 269, 3) := dk_182 1 13 (dk_at dksX0_out_0 17 rfl rfl)
theorem dX0_out_20 : decode cX0_out 20 = .ok (.iconst 0, 1) := dk_3 (dk_at dksX0_out_0 20 rfl rfl)
theorem dX0_out_21 : decode cX0_out 21 = .ok (.istore_n 1, 1) := dk_60 (dk_at dksX0_out_0 21 rfl rfl)
theorem dX0_out_22 : decode cX0_out 22 = .ok (.iload_n 1, 1) := dk_27 (dk_at dksX0_out_0 22 rfl rfl)
theorem dX0_out_23 : decode cX0_out 23 = .ok (.sipush 200, 3) := dk_17 0 200 (dk_at dksX0_out_1 0 rfl rfl)
theorem dX0_out_26 : decode cX0_out 26 = .ok (.if_icmp .ge 36, 3) := dk_162 0 36 (dk_at dksX0_out_1 3 rfl rfl)
theorem dX0_out_29 : decode cX0_out 29 = .ok (.aload_n 0, 1) := dk_42 (dk_at dksX0_out_1 6 rfl rfl)
theorem dX0_out_30 : decode cX0_out 30 = .ok (.getfield 23, 3) := dk_180 0 23 (dk_at dksX0_out_1 7 rfl rfl)
theorem dX0_out_33 : decode cX0_out 33 = .ok (.invokevirtual 180, 3) := dk_182 0 180 (dk_at dksX0_out_1 10 rfl rfl)
theorem dX0_out_36 : decode cX0_out 36 = .ok (.ifCond .ne 11, 3) := dk_154 0 11 (dk_at dksX0_out_1 13 rfl rfl)
theorem dX0_out_39 : decode cX0_out 39 = .ok (.aload_n 0, 1) := dk_42 (dk_at dksX0_out_1 16 rfl rfl)
theorem dX0_out_40 : decode cX0_out 40 = .ok (.getfield 23, 3) := dk_180 0 23 (dk_at dksX0_out_1 17 rfl rfl)
theorem dX0_out_43 : decode cX0_out 43 = .ok (.getfield 195, 3) := dk_180 0 195 (dk_at dksX0_out_1 20 rfl rfl)
theorem dX0_out_46 : decode cX0_out 46 = .ok (.ireturn, 1) := dk_172 (dk_at dksX0_out_1 23 rfl rfl)
theorem dX0_out_47 : decode cX0_out 47 = .ok (.aload_n 0, 1) := dk_42 (dk_at dksX0_out_2 0 rfl rfl)
theorem dX0_out_48 : decode cX0_out 48 = .ok (.aload_n 0, 1) := dk_42 (dk_at dksX0_out_2 1 rfl rfl)
theorem dX0_out_49 : decode cX0_out 49 = .ok (.getfield 23, 3) := dk_180 0 23 (dk_at dksX0_out_2 2 rfl rfl)
theorem dX0_out_52 : decode cX0_out 52 = .ok (.invokevirtual 264, 3) := dk_182 1 8 (dk_at dksX0_out_2 5 rfl rfl)
theorem dX0_out_55 : decode cX0_out 55 = .ok (.pop, 1) := dk_87 (dk_at dksX0_out_2 8 rfl rfl)
theorem dX0_out_56 : decode cX0_out 56 = .ok (.iinc 1 1, 3) := dk_132 1 1 (dk_at dksX0_out_2 9 rfl rfl)
theorem dX0_out_59 : decode cX0_out 59 = .ok (.goto (-37), 3) := dk_167 255 219 (dk_at dksX0_out_2 12 rfl rfl)
theorem dX0_out_62 : decode cX0_out 62 = .ok (.bipush (-2), 2) := dk_16 254 (dk_at dksX0_out_2 15 rfl rfl)
theorem dX0_out_64 : decode cX0_out 64 = .ok (.ireturn, 1) := dk_172 (dk_at dksX0_out_2 17 rfl rfl)
abbrev cX0_canBurn : ByteArray := prog_1_method_36_code
def yX0_canBurn : MethodName := ⟨RX0, "canBurn", "()I"⟩
def dkwX0_canBurn_3 : List UInt8 := [132, 3, 1, 167, 255, 210, 132, 2, 1, 167, 255, 196, 27, 172]
abbrev dktX0_canBurn_3 : List UInt8 := dkwX0_canBurn_3 ++ []
def dkwX0_canBurn_2 : List UInt8 := [46, 158, 0, 23, 42, 180, 0, 10, 180, 0, 160, 29, 46, 27, 126, 153, 0, 9, 27, 4, 29, 120, 128, 60]
abbrev dktX0_canBurn_2 : List UInt8 := dkwX0_canBurn_2 ++ dktX0_canBurn_3
def dkwX0_canBurn_1 : List UInt8 := [162, 0, 60, 3, 62, 29, 42, 180, 0, 10, 182, 0, 100, 162, 0, 41, 42, 180, 0, 19, 180, 0, 151, 29]
abbrev dktX0_canBurn_1 : List UInt8 := dkwX0_canBurn_1 ++ dktX0_canBurn_2
def dkwX0_canBurn_0 : List UInt8 := [42, 182, 0, 108, 154, 0, 5, 2, 172, 42, 180, 0, 19, 182, 0, 180, 60, 3, 61, 28, 16, 6]
abbrev dktX0_canBurn_0 : List UInt8 := dkwX0_canBurn_0 ++ dktX0_canBurn_1
theorem dksX0_canBurn_0 : cX0_canBurn.data.toList.drop 0 = dktX0_canBurn_0 := by decide +kernel
theorem dksX0_canBurn_1 : cX0_canBurn.data.toList.drop 22 = dktX0_canBurn_1 := dk_seg dksX0_canBurn_0 22 rfl rfl
theorem dksX0_canBurn_2 : cX0_canBurn.data.toList.drop 46 = dktX0_canBurn_2 := dk_seg dksX0_canBurn_1 24 rfl rfl
theorem dksX0_canBurn_3 : cX0_canBurn.data.toList.drop 70 = dktX0_canBurn_3 := dk_seg dksX0_canBurn_2 24 rfl rfl
theorem dX0_canBurn_0 : decode cX0_canBurn 0 = .ok (.aload_n 0, 1) := dk_42 (dk_at dksX0_canBurn_0 0 rfl rfl)
theorem dX0_canBurn_1 : decode cX0_canBurn 1 = .ok (.invokevirtual 108, 3) := dk_182 0 108 (dk_at dksX0_canBurn_0 1 rfl rfl)
theorem dX0_canBurn_4 : decode cX0_canBurn 4 = .ok (.ifCond .ne 5, 3) := dk_154 0 5 (dk_at dksX0_canBurn_0 4 rfl rfl)
theorem dX0_canBurn_7 : decode cX0_canBurn 7 = .ok (.iconst (-1), 1) := dk_2 (dk_at dksX0_canBurn_0 7 rfl rfl)
theorem dX0_canBurn_8 : decode cX0_canBurn 8 = .ok (.ireturn, 1) := dk_172 (dk_at dksX0_canBurn_0 8 rfl rfl)
theorem dX0_canBurn_9 : decode cX0_canBurn 9 = .ok (.aload_n 0, 1) := dk_42 (dk_at dksX0_canBurn_0 9 rfl rfl)
theorem dX0_canBurn_10 : decode cX0_canBurn 10 = .ok (.getfield 19, 3) := dk_180 0 19 (dk_at dksX0_canBurn_0 10 rfl rfl)
theorem dX0_canBurn_13 : decode cX0_canBurn 13 = .ok (.invokevirtual 180, 3) := dk_182 0 180 (dk_at dksX0_canBurn_0 13 rfl rfl)
theorem dX0_canBurn_16 : decode cX0_canBurn 16 = .ok (.istore_n 1, 1) := dk_60 (dk_at dksX0_canBurn_0 16 rfl rfl)
theorem dX0_canBurn_17 : decode cX0_canBurn 17 = .ok (.iconst 0, 1) := dk_3 (dk_at dksX0_canBurn_0 17 rfl rfl)
theorem dX0_canBurn_18 : decode cX0_canBurn 18 = .ok (.istore_n 2, 1) := dk_61 (dk_at dksX0_canBurn_0 18 rfl rfl)
theorem dX0_canBurn_19 : decode cX0_canBurn 19 = .ok (.iload_n 2, 1) := dk_28 (dk_at dksX0_canBurn_0 19 rfl rfl)
theorem dX0_canBurn_20 : decode cX0_canBurn 20 = .ok (.bipush 6, 2) := dk_16 6 (dk_at dksX0_canBurn_0 20 rfl rfl)
theorem dX0_canBurn_22 : decode cX0_canBurn 22 = .ok (.if_icmp .ge 60, 3) := dk_162 0 60 (dk_at dksX0_canBurn_1 0 rfl rfl)
theorem dX0_canBurn_25 : decode cX0_canBurn 25 = .ok (.iconst 0, 1) := dk_3 (dk_at dksX0_canBurn_1 3 rfl rfl)
theorem dX0_canBurn_26 : decode cX0_canBurn 26 = .ok (.istore_n 3, 1) := dk_62 (dk_at dksX0_canBurn_1 4 rfl rfl)
theorem dX0_canBurn_27 : decode cX0_canBurn 27 = .ok (.iload_n 3, 1) := dk_29 (dk_at dksX0_canBurn_1 5 rfl rfl)
theorem dX0_canBurn_28 : decode cX0_canBurn 28 = .ok (.aload_n 0, 1) := dk_42 (dk_at dksX0_canBurn_1 6 rfl rfl)
theorem dX0_canBurn_29 : decode cX0_canBurn 29 = .ok (.getfield 10, 3) := dk_180 0 10 (dk_at dksX0_canBurn_1 7 rfl rfl)
theorem dX0_canBurn_32 : decode cX0_canBurn 32 = .ok (.invokevirtual 100, 3) := dk_182 0 100 (dk_at dksX0_canBurn_1 10 rfl rfl)
theorem dX0_canBurn_35 : decode cX0_canBurn 35 = .ok (.if_icmp .ge 41, 3) := dk_162 0 41 (dk_at dksX0_canBurn_1 13 rfl rfl)
theorem dX0_canBurn_38 : decode cX0_canBurn 38 = .ok (.aload_n 0, 1) := dk_42 (dk_at dksX0_canBurn_1 16 rfl rfl)
theorem dX0_canBurn_39 : decode cX0_canBurn 39 = .ok (.getfield 19, 3) := dk_180 0 19 (dk_at dksX0_canBurn_1 17 rfl rfl)
theorem dX0_canBurn_42 : decode cX0_canBurn 42 = .ok (.getfield 151, 3) := dk_180 0 151 (dk_at dksX0_canBurn_1 20 rfl rfl)
theorem dX0_canBurn_45 : decode cX0_canBurn 45 = .ok (.iload_n 3, 1) := dk_29 (dk_at dksX0_canBurn_1 23 rfl rfl)
theorem dX0_canBurn_46 : decode cX0_canBurn 46 = .ok (.iaload, 1) := dk_46 (dk_at dksX0_canBurn_2 0 rfl rfl)
theorem dX0_canBurn_47 : decode cX0_canBurn 47 = .ok (.ifCond .le 23, 3) := dk_158 0 23 (dk_at dksX0_canBurn_2 1 rfl rfl)
theorem dX0_canBurn_50 : decode cX0_canBurn 50 = .ok (.aload_n 0, 1) := dk_42 (dk_at dksX0_canBurn_2 4 rfl rfl)
theorem dX0_canBurn_51 : decode cX0_canBurn 51 = .ok (.getfield 10, 3) := dk_180 0 10 (dk_at dksX0_canBurn_2 5 rfl rfl)
theorem dX0_canBurn_54 : decode cX0_canBurn 54 = .ok (.getfield 160, 3) := dk_180 0 160 (dk_at dksX0_canBurn_2 8 rfl rfl)
theorem dX0_canBurn_57 : decode cX0_canBurn 57 = .ok (.iload_n 3, 1) := dk_29 (dk_at dksX0_canBurn_2 11 rfl rfl)
theorem dX0_canBurn_58 : decode cX0_canBurn 58 = .ok (.iaload, 1) := dk_46 (dk_at dksX0_canBurn_2 12 rfl rfl)
theorem dX0_canBurn_59 : decode cX0_canBurn 59 = .ok (.iload_n 1, 1) := dk_27 (dk_at dksX0_canBurn_2 13 rfl rfl)
theorem dX0_canBurn_60 : decode cX0_canBurn 60 = .ok (.iand, 1) := dk_126 (dk_at dksX0_canBurn_2 14 rfl rfl)
theorem dX0_canBurn_61 : decode cX0_canBurn 61 = .ok (.ifCond .eq 9, 3) := dk_153 0 9 (dk_at dksX0_canBurn_2 15 rfl rfl)
theorem dX0_canBurn_64 : decode cX0_canBurn 64 = .ok (.iload_n 1, 1) := dk_27 (dk_at dksX0_canBurn_2 18 rfl rfl)
theorem dX0_canBurn_65 : decode cX0_canBurn 65 = .ok (.iconst 1, 1) := dk_4 (dk_at dksX0_canBurn_2 19 rfl rfl)
theorem dX0_canBurn_66 : decode cX0_canBurn 66 = .ok (.iload_n 3, 1) := dk_29 (dk_at dksX0_canBurn_2 20 rfl rfl)
theorem dX0_canBurn_67 : decode cX0_canBurn 67 = .ok (.ishl, 1) := dk_120 (dk_at dksX0_canBurn_2 21 rfl rfl)
theorem dX0_canBurn_68 : decode cX0_canBurn 68 = .ok (.ior, 1) := dk_128 (dk_at dksX0_canBurn_2 22 rfl rfl)
theorem dX0_canBurn_69 : decode cX0_canBurn 69 = .ok (.istore_n 1, 1) := dk_60 (dk_at dksX0_canBurn_2 23 rfl rfl)
theorem dX0_canBurn_70 : decode cX0_canBurn 70 = .ok (.iinc 3 1, 3) := dk_132 3 1 (dk_at dksX0_canBurn_3 0 rfl rfl)
theorem dX0_canBurn_73 : decode cX0_canBurn 73 = .ok (.goto (-46), 3) := dk_167 255 210 (dk_at dksX0_canBurn_3 3 rfl rfl)
theorem dX0_canBurn_76 : decode cX0_canBurn 76 = .ok (.iinc 2 1, 3) := dk_132 2 1 (dk_at dksX0_canBurn_3 6 rfl rfl)
theorem dX0_canBurn_79 : decode cX0_canBurn 79 = .ok (.goto (-60), 3) := dk_167 255 196 (dk_at dksX0_canBurn_3 9 rfl rfl)
theorem dX0_canBurn_82 : decode cX0_canBurn 82 = .ok (.iload_n 1, 1) := dk_27 (dk_at dksX0_canBurn_3 12 rfl rfl)
theorem dX0_canBurn_83 : decode cX0_canBurn 83 = .ok (.ireturn, 1) := dk_172 (dk_at dksX0_canBurn_3 13 rfl rfl)
abbrev cX0_order : ByteArray := prog_1_method_39_code
def yX0_order : MethodName := ⟨RX0, "order", "(II)I"⟩
def dkwX0_order_4 : List UInt8 := [167, 0, 5, 16, 254, 172]
abbrev dktX0_order_4 : List UInt8 := dkwX0_order_4 ++ []
def dkwX0_order_3 : List UInt8 := [160, 0, 10, 42, 180, 1, 49, 167, 0, 22, 28, 42, 180, 0, 222, 162, 0, 12, 42, 180, 0, 68, 28, 46]
abbrev dktX0_order_3 : List UInt8 := dkwX0_order_3 ++ dktX0_order_4
def dkwX0_order_2 : List UInt8 := [181, 0, 222, 42, 2, 181, 1, 49, 42, 3, 42, 180, 0, 19, 182, 0, 180, 27, 184, 1, 45, 28, 2]
abbrev dktX0_order_2 : List UInt8 := dkwX0_order_2 ++ dktX0_order_3
def dkwX0_order_1 : List UInt8 := [20, 1, 54, 184, 0, 104, 154, 0, 6, 16, 253, 172, 42, 42, 180, 0, 19, 182, 0, 180, 184, 0, 183]
abbrev dktX0_order_1 : List UInt8 := dkwX0_order_1 ++ dktX0_order_2
def dkwX0_order_0 : List UInt8 := [42, 182, 0, 108, 153, 0, 29, 27, 133, 10, 20, 1, 52, 184, 0, 104, 153, 0, 17, 28, 133, 20, 0, 145]
abbrev dktX0_order_0 : List UInt8 := dkwX0_order_0 ++ dktX0_order_1
theorem dksX0_order_0 : cX0_order.data.toList.drop 0 = dktX0_order_0 := by decide +kernel
theorem dksX0_order_1 : cX0_order.data.toList.drop 24 = dktX0_order_1 := dk_seg dksX0_order_0 24 rfl rfl
theorem dksX0_order_2 : cX0_order.data.toList.drop 47 = dktX0_order_2 := dk_seg dksX0_order_1 23 rfl rfl
theorem dksX0_order_3 : cX0_order.data.toList.drop 70 = dktX0_order_3 := dk_seg dksX0_order_2 23 rfl rfl
theorem dksX0_order_4 : cX0_order.data.toList.drop 94 = dktX0_order_4 := dk_seg dksX0_order_3 24 rfl rfl
theorem dX0_order_0 : decode cX0_order 0 = .ok (.aload_n 0, 1) := dk_42 (dk_at dksX0_order_0 0 rfl rfl)
theorem dX0_order_1 : decode cX0_order 1 = .ok (.invokevirtual 108, 3) := dk_182 0 108 (dk_at dksX0_order_0 1 rfl rfl)
theorem dX0_order_4 : decode cX0_order 4 = .ok (.ifCond .eq 29, 3) := dk_153 0 29 (dk_at dksX0_order_0 4 rfl rfl)
theorem dX0_order_7 : decode cX0_order 7 = .ok (.iload_n 1, 1) := dk_27 (dk_at dksX0_order_0 7 rfl rfl)
theorem dX0_order_8 : decode cX0_order 8 = .ok (.i2l, 1) := dk_133 (dk_at dksX0_order_0 8 rfl rfl)
theorem dX0_order_9 : decode cX0_order 9 = .ok (.lconst 1, 1) := dk_10 (dk_at dksX0_order_0 9 rfl rfl)
theorem dX0_order_10 : decode cX0_order 10 = .ok (.ldc2_w 308, 3) := dk_20 1 52 (dk_at dksX0_order_0 10 rfl rfl)
theorem dX0_order_13 : decode cX0_order 13 = .ok (.invokestatic 104, 3) := dk_184 0 104 (dk_at dksX0_order_0 13 rfl rfl)
theorem dX0_order_16 : decode cX0_order 16 = .ok (.ifCond .eq 17, 3) := dk_153 0 17 (dk_at dksX0_order_0 16 rfl rfl)
theorem dX0_order_19 : decode cX0_order 19 = .ok (.iload_n 2, 1) := dk_28 (dk_at dksX0_order_0 19 rfl rfl)
theorem dX0_order_20 : decode cX0_order 20 = .ok (.i2l, 1) := dk_133 (dk_at dksX0_order_0 20 rfl rfl)
theorem dX0_order_21 : decode cX0_order 21 = .ok (.ldc2_w 145, 3) := dk_20 0 145 (dk_at dksX0_order_0 21 rfl rfl)
theorem dX0_order_24 : decode cX0_order 24 = .ok (.ldc2_w 310, 3) := dk_20 1 54 (dk_at dksX0_order_1 0 rfl rfl)
theorem dX0_order_27 : decode cX0_order 27 = .ok (.invokestatic 104, 3) := dk_184 0 104 (dk_at dksX0_order_1 3 rfl rfl)
theorem dX0_order_30 : decode cX0_order 30 = .ok (.ifCond .ne 6, 3) := dk_154 0 6 (dk_at dksX0_order_1 6 rfl rfl)
theorem dX0_order_33 : decode cX0_order 33 = .ok (.bipush (-3), 2) := dk_16 253 (dk_at dksX0_order_1 9 rfl rfl)
theorem dX0_order_35 : decode cX0_order 35 = .ok (.ireturn, 1) := dk_172 (dk_at dksX0_order_1 11 rfl rfl)
theorem dX0_order_36 : decode cX0_order 36 = .ok (.aload_n 0, 1) := dk_42 (dk_at dksX0_order_1 12 rfl rfl)
theorem dX0_order_37 : decode cX0_order 37 = .ok (.aload_n 0, 1) := dk_42 (dk_at dksX0_order_1 13 rfl rfl)
theorem dX0_order_38 : decode cX0_order 38 = .ok (.getfield 19, 3) := dk_180 0 19 (dk_at dksX0_order_1 14 rfl rfl)
theorem dX0_order_41 : decode cX0_order 41 = .ok (.invokevirtual 180, 3) := dk_182 0 180 (dk_at dksX0_order_1 17 rfl rfl)
theorem dX0_order_44 : decode cX0_order 44 = .ok (.invokestatic 183, 3) := dk_184 0 183 (dk_at dksX0_order_1 20 rfl rfl)
theorem dX0_order_47 : decode cX0_order 47 = .ok (.putfield 222, 3) := dk_181 0 222 (dk_at dksX0_order_2 0 rfl rfl)
theorem dX0_order_50 : decode cX0_order 50 = .ok (.aload_n 0, 1) := dk_42 (dk_at dksX0_order_2 3 rfl rfl)
theorem dX0_order_51 : decode cX0_order 51 = .ok (.iconst (-1), 1) := dk_2 (dk_at dksX0_order_2 4 rfl rfl)
theorem dX0_order_52 : decode cX0_order 52 = .ok (.putfield 305, 3) := dk_181 1 49 (dk_at dksX0_order_2 5 rfl rfl)
theorem dX0_order_55 : decode cX0_order 55 = .ok (.aload_n 0, 1) := dk_42 (dk_at dksX0_order_2 8 rfl rfl)
theorem dX0_order_56 : decode cX0_order 56 = .ok (.iconst 0, 1) := dk_3 (dk_at dksX0_order_2 9 rfl rfl)
theorem dX0_order_57 : decode cX0_order 57 = .ok (.aload_n 0, 1) := dk_42 (dk_at dksX0_order_2 10 rfl rfl)
theorem dX0_order_58 : decode cX0_order 58 = .ok (.getfield 19, 3) := dk_180 0 19 (dk_at dksX0_order_2 11 rfl rfl)
theorem dX0_order_61 : decode cX0_order 61 = .ok (.invokevirtual 180, 3) := dk_182 0 180 (dk_at dksX0_order_2 14 rfl rfl)
theorem dX0_order_64 : decode cX0_order 64 = .ok (.iload_n 1, 1) := dk_27 (dk_at dksX0_order_2 17 rfl rfl)
theorem dX0_order_65 : decode cX0_order 65 = .ok (.invokestatic 301, 3) := dk_184 1 45 (dk_at dksX0_order_2 18 rfl rfl)
theorem dX0_order_68 : decode cX0_order 68 = .ok (.iload_n 2, 1) := dk_28 (dk_at dksX0_order_2 21 rfl rfl)
theorem dX0_order_69 : decode cX0_order 69 = .ok (.iconst (-1), 1) := dk_2 (dk_at dksX0_order_2 22 rfl rfl)
theorem dX0_order_70 : decode cX0_order 70 = .ok (.if_icmp .ne 10, 3) := dk_160 0 10 (dk_at dksX0_order_3 0 rfl rfl)
theorem dX0_order_73 : decode cX0_order 73 = .ok (.aload_n 0, 1) := dk_42 (dk_at dksX0_order_3 3 rfl rfl)
theorem dX0_order_74 : decode cX0_order 74 = .ok (.getfield 305, 3) := dk_180 1 49 (dk_at dksX0_order_3 4 rfl rfl)
theorem dX0_order_77 : decode cX0_order 77 = .ok (.goto 22, 3) := dk_167 0 22 (dk_at dksX0_order_3 7 rfl rfl)
theorem dX0_order_80 : decode cX0_order 80 = .ok (.iload_n 2, 1) := dk_28 (dk_at dksX0_order_3 10 rfl rfl)
theorem dX0_order_81 : decode cX0_order 81 = .ok (.aload_n 0, 1) := dk_42 (dk_at dksX0_order_3 11 rfl rfl)
theorem dX0_order_82 : decode cX0_order 82 = .ok (.getfield 222, 3) := dk_180 0 222 (dk_at dksX0_order_3 12 rfl rfl)
theorem dX0_order_85 : decode cX0_order 85 = .ok (.if_icmp .ge 12, 3) := dk_162 0 12 (dk_at dksX0_order_3 15 rfl rfl)
theorem dX0_order_88 : decode cX0_order 88 = .ok (.aload_n 0, 1) := dk_42 (dk_at dksX0_order_3 18 rfl rfl)
theorem dX0_order_89 : decode cX0_order 89 = .ok (.getfield 68, 3) := dk_180 0 68 (dk_at dksX0_order_3 19 rfl rfl)
theorem dX0_order_92 : decode cX0_order 92 = .ok (.iload_n 2, 1) := dk_28 (dk_at dksX0_order_3 22 rfl rfl)
theorem dX0_order_93 : decode cX0_order 93 = .ok (.iaload, 1) := dk_46 (dk_at dksX0_order_3 23 rfl rfl)
theorem dX0_order_94 : decode cX0_order 94 = .ok (.goto 5, 3) := dk_167 0 5 (dk_at dksX0_order_4 0 rfl rfl)
theorem dX0_order_97 : decode cX0_order 97 = .ok (.bipush (-2), 2) := dk_16 254 (dk_at dksX0_order_4 3 rfl rfl)
theorem dX0_order_99 : decode cX0_order 99 = .ok (.ireturn, 1) := dk_172 (dk_at dksX0_order_4 5 rfl rfl)
abbrev cX0_rowsFrom : ByteArray := prog_1_method_37_code
def yX0_rowsFrom : MethodName := ⟨RX0, "rowsFrom", "(LSmokeWord;III)V"⟩
def dkwX0_rowsFrom_2 : List UInt8 := [27, 4, 96, 28, 4, 21, 4, 120, 2, 130, 126, 29, 184, 1, 45, 132, 4, 1, 167, 255, 205, 177]
abbrev dktX0_rowsFrom_2 : List UInt8 := dkwX0_rowsFrom_2 ++ []
def dkwX0_rowsFrom_1 : List UInt8 := [162, 0, 45, 28, 21, 4, 184, 1, 41, 154, 0, 6, 167, 0, 27, 42, 180, 0, 65, 27, 21, 4, 79, 42]
abbrev dktX0_rowsFrom_1 : List UInt8 := dkwX0_rowsFrom_1 ++ dktX0_rowsFrom_2
def dkwX0_rowsFrom_0 : List UInt8 := [28, 154, 0, 9, 42, 29, 182, 1, 38, 177, 3, 54, 4, 21, 4, 42, 180, 0, 10, 182, 0, 100]
abbrev dktX0_rowsFrom_0 : List UInt8 := dkwX0_rowsFrom_0 ++ dktX0_rowsFrom_1
theorem dksX0_rowsFrom_0 : cX0_rowsFrom.data.toList.drop 0 = dktX0_rowsFrom_0 := by decide +kernel
theorem dksX0_rowsFrom_1 : cX0_rowsFrom.data.toList.drop 22 = dktX0_rowsFrom_1 := dk_seg dksX0_rowsFrom_0 22 rfl rfl
theorem dksX0_rowsFrom_2 : cX0_rowsFrom.data.toList.drop 46 = dktX0_rowsFrom_2 := dk_seg dksX0_rowsFrom_1 24 rfl rfl
theorem dX0_rowsFrom_0 : decode cX0_rowsFrom 0 = .ok (.iload_n 2, 1) := dk_28 (dk_at dksX0_rowsFrom_0 0 rfl rfl)
theorem dX0_rowsFrom_1 : decode cX0_rowsFrom 1 = .ok (.ifCond .ne 9, 3) := dk_154 0 9 (dk_at dksX0_rowsFrom_0 1 rfl rfl)
theorem dX0_rowsFrom_4 : decode cX0_rowsFrom 4 = .ok (.aload_n 0, 1) := dk_42 (dk_at dksX0_rowsFrom_0 4 rfl rfl)
theorem dX0_rowsFrom_5 : decode cX0_rowsFrom 5 = .ok (.iload_n 3, 1) := dk_29 (dk_at dksX0_rowsFrom_0 5 rfl rfl)
theorem dX0_rowsFrom_6 : decode cX0_rowsFrom 6 = .ok (.invokevirtual 294, 3) := dk_182 1 38 (dk_at dksX0_rowsFrom_0 6 rfl rfl)
theorem dX0_rowsFrom_9 : decode cX0_rowsFrom 9 = .ok (.return_, 1) := dk_177 (dk_at dksX0_rowsFrom_0 9 rfl rfl)
theorem dX0_rowsFrom_10 : decode cX0_rowsFrom 10 = .ok (.iconst 0, 1) := dk_3 (dk_at dksX0_rowsFrom_0 10 rfl rfl)
theorem dX0_rowsFrom_11 : decode cX0_rowsFrom 11 = .ok (.istore 4, 2) := dk_54 4 (dk_at dksX0_rowsFrom_0 11 rfl rfl)
theorem dX0_rowsFrom_13 : decode cX0_rowsFrom 13 = .ok (.iload 4, 2) := dk_21 4 (dk_at dksX0_rowsFrom_0 13 rfl rfl)
theorem dX0_rowsFrom_15 : decode cX0_rowsFrom 15 = .ok (.aload_n 0, 1) := dk_42 (dk_at dksX0_rowsFrom_0 15 rfl rfl)
theorem dX0_rowsFrom_16 : decode cX0_rowsFrom 16 = .ok (.getfield 10, 3) := dk_180 0 10 (dk_at dksX0_rowsFrom_0 16 rfl rfl)
theorem dX0_rowsFrom_19 : decode cX0_rowsFrom 19 = .ok (.invokevirtual 100, 3) := dk_182 0 100 (dk_at dksX0_rowsFrom_0 19 rfl rfl)
theorem dX0_rowsFrom_22 : decode cX0_rowsFrom 22 = .ok (.if_icmp .ge 45, 3) := dk_162 0 45 (dk_at dksX0_rowsFrom_1 0 rfl rfl)
theorem dX0_rowsFrom_25 : decode cX0_rowsFrom 25 = .ok (.iload_n 2, 1) := dk_28 (dk_at dksX0_rowsFrom_1 3 rfl rfl)
theorem dX0_rowsFrom_26 : decode cX0_rowsFrom 26 = .ok (.iload 4, 2) := dk_21 4 (dk_at dksX0_rowsFrom_1 4 rfl rfl)
theorem dX0_rowsFrom_28 : decode cX0_rowsFrom 28 = .ok (.invokestatic 297, 3) := dk_184 1 41 (dk_at dksX0_rowsFrom_1 6 rfl rfl)
theorem dX0_rowsFrom_31 : decode cX0_rowsFrom 31 = .ok (.ifCond .ne 6, 3) := dk_154 0 6 (dk_at dksX0_rowsFrom_1 9 rfl rfl)
theorem dX0_rowsFrom_34 : decode cX0_rowsFrom 34 = .ok (.goto 27, 3) := dk_167 0 27 (dk_at dksX0_rowsFrom_1 12 rfl rfl)
theorem dX0_rowsFrom_37 : decode cX0_rowsFrom 37 = .ok (.aload_n 0, 1) := dk_42 (dk_at dksX0_rowsFrom_1 15 rfl rfl)
theorem dX0_rowsFrom_38 : decode cX0_rowsFrom 38 = .ok (.getfield 65, 3) := dk_180 0 65 (dk_at dksX0_rowsFrom_1 16 rfl rfl)
theorem dX0_rowsFrom_41 : decode cX0_rowsFrom 41 = .ok (.iload_n 1, 1) := dk_27 (dk_at dksX0_rowsFrom_1 19 rfl rfl)
theorem dX0_rowsFrom_42 : decode cX0_rowsFrom 42 = .ok (.iload 4, 2) := dk_21 4 (dk_at dksX0_rowsFrom_1 20 rfl rfl)
theorem dX0_rowsFrom_44 : decode cX0_rowsFrom 44 = .ok (.iastore, 1) := dk_79 (dk_at dksX0_rowsFrom_1 22 rfl rfl)
theorem dX0_rowsFrom_45 : decode cX0_rowsFrom 45 = .ok (.aload_n 0, 1) := dk_42 (dk_at dksX0_rowsFrom_1 23 rfl rfl)
theorem dX0_rowsFrom_46 : decode cX0_rowsFrom 46 = .ok (.iload_n 1, 1) := dk_27 (dk_at dksX0_rowsFrom_2 0 rfl rfl)
theorem dX0_rowsFrom_47 : decode cX0_rowsFrom 47 = .ok (.iconst 1, 1) := dk_4 (dk_at dksX0_rowsFrom_2 1 rfl rfl)
theorem dX0_rowsFrom_48 : decode cX0_rowsFrom 48 = .ok (.iadd, 1) := dk_96 (dk_at dksX0_rowsFrom_2 2 rfl rfl)
theorem dX0_rowsFrom_49 : decode cX0_rowsFrom 49 = .ok (.iload_n 2, 1) := dk_28 (dk_at dksX0_rowsFrom_2 3 rfl rfl)
theorem dX0_rowsFrom_50 : decode cX0_rowsFrom 50 = .ok (.iconst 1, 1) := dk_4 (dk_at dksX0_rowsFrom_2 4 rfl rfl)
theorem dX0_rowsFrom_51 : decode cX0_rowsFrom 51 = .ok (.iload 4, 2) := dk_21 4 (dk_at dksX0_rowsFrom_2 5 rfl rfl)
theorem dX0_rowsFrom_53 : decode cX0_rowsFrom 53 = .ok (.ishl, 1) := dk_120 (dk_at dksX0_rowsFrom_2 7 rfl rfl)
theorem dX0_rowsFrom_54 : decode cX0_rowsFrom 54 = .ok (.iconst (-1), 1) := dk_2 (dk_at dksX0_rowsFrom_2 8 rfl rfl)
theorem dX0_rowsFrom_55 : decode cX0_rowsFrom 55 = .ok (.ixor, 1) := dk_130 (dk_at dksX0_rowsFrom_2 9 rfl rfl)
theorem dX0_rowsFrom_56 : decode cX0_rowsFrom 56 = .ok (.iand, 1) := dk_126 (dk_at dksX0_rowsFrom_2 10 rfl rfl)
theorem dX0_rowsFrom_57 : decode cX0_rowsFrom 57 = .ok (.iload_n 3, 1) := dk_29 (dk_at dksX0_rowsFrom_2 11 rfl rfl)
theorem dX0_rowsFrom_58 : decode cX0_rowsFrom 58 = .ok (.invokestatic 301, 3) := dk_184 1 45 (dk_at dksX0_rowsFrom_2 12 rfl rfl)
theorem dX0_rowsFrom_61 : decode cX0_rowsFrom 61 = .ok (.iinc 4 1, 3) := dk_132 4 1 (dk_at dksX0_rowsFrom_2 15 rfl rfl)
theorem dX0_rowsFrom_64 : decode cX0_rowsFrom 64 = .ok (.goto (-51), 3) := dk_167 255 205 (dk_at dksX0_rowsFrom_2 18 rfl rfl)
theorem dX0_rowsFrom_67 : decode cX0_rowsFrom 67 = .ok (.return_, 1) := dk_177 (dk_at dksX0_rowsFrom_2 21 rfl rfl)
abbrev cX0_triesRow : ByteArray := prog_1_method_38_code
def yX0_triesRow : MethodName := ⟨RX0, "triesRow", "(I)V"⟩
def dkwX0_triesRow_3 : List UInt8 := [28, 42, 180, 0, 65, 28, 46, 79, 132, 2, 1, 167, 255, 233, 177]
abbrev dktX0_triesRow_3 : List UInt8 := dkwX0_triesRow_3 ++ []
def dkwX0_triesRow_2 : List UInt8 := [42, 180, 0, 23, 182, 1, 35, 181, 1, 49, 3, 61, 28, 42, 180, 0, 222, 162, 0, 21, 42, 180, 0, 68]
abbrev dktX0_triesRow_2 : List UInt8 := dkwX0_triesRow_2 ++ dktX0_triesRow_3
def dkwX0_triesRow_1 : List UInt8 := [182, 1, 32, 42, 3, 181, 0, 231, 42, 180, 0, 23, 182, 1, 35, 42, 180, 1, 49, 163, 0, 4, 177, 42]
abbrev dktX0_triesRow_1 : List UInt8 := dkwX0_triesRow_1 ++ dktX0_triesRow_2
def dkwX0_triesRow_0 : List UInt8 := [42, 180, 0, 23, 42, 180, 0, 19, 182, 1, 13, 42, 3, 181, 0, 219, 42, 4, 181, 0, 231, 42, 27]
abbrev dktX0_triesRow_0 : List UInt8 := dkwX0_triesRow_0 ++ dktX0_triesRow_1
theorem dksX0_triesRow_0 : cX0_triesRow.data.toList.drop 0 = dktX0_triesRow_0 := by decide +kernel
theorem dksX0_triesRow_1 : cX0_triesRow.data.toList.drop 23 = dktX0_triesRow_1 := dk_seg dksX0_triesRow_0 23 rfl rfl
theorem dksX0_triesRow_2 : cX0_triesRow.data.toList.drop 47 = dktX0_triesRow_2 := dk_seg dksX0_triesRow_1 24 rfl rfl
theorem dksX0_triesRow_3 : cX0_triesRow.data.toList.drop 71 = dktX0_triesRow_3 := dk_seg dksX0_triesRow_2 24 rfl rfl
theorem dX0_triesRow_0 : decode cX0_triesRow 0 = .ok (.aload_n 0, 1) := dk_42 (dk_at dksX0_triesRow_0 0 rfl rfl)
theorem dX0_triesRow_1 : decode cX0_triesRow 1 = .ok (.getfield 23, 3) := dk_180 0 23 (dk_at dksX0_triesRow_0 1 rfl rfl)
theorem dX0_triesRow_4 : decode cX0_triesRow 4 = .ok (.aload_n 0, 1) := dk_42 (dk_at dksX0_triesRow_0 4 rfl rfl)
theorem dX0_triesRow_5 : decode cX0_triesRow 5 = .ok (.getfield 19, 3) := dk_180 0 19 (dk_at dksX0_triesRow_0 5 rfl rfl)
theorem dX0_triesRow_8 : decode cX0_triesRow 8 = .ok (.invokevirtual 269, 3) := dk_182 1 13 (dk_at dksX0_triesRow_0 8 rfl rfl)
theorem dX0_triesRow_11 : decode cX0_triesRow 11 = .ok (.aload_n 0, 1) := dk_42 (dk_at dksX0_triesRow_0 11 rfl rfl)
theorem dX0_triesRow_12 : decode cX0_triesRow 12 = .ok (.iconst 0, 1) := dk_3 (dk_at dksX0_triesRow_0 12 rfl rfl)
theorem dX0_triesRow_13 : decode cX0_triesRow 13 = .ok (.putfield 219, 3) := dk_181 0 219 (dk_at dksX0_triesRow_0 13 rfl rfl)
theorem dX0_triesRow_16 : decode cX0_triesRow 16 = .ok (.aload_n 0, 1) := dk_42 (dk_at dksX0_triesRow_0 16 rfl rfl)
theorem dX0_triesRow_17 : decode cX0_triesRow 17 = .ok (.iconst 1, 1) := dk_4 (dk_at dksX0_triesRow_0 17 rfl rfl)
theorem dX0_triesRow_18 : decode cX0_triesRow 18 = .ok (.putfield 231, 3) := dk_181 0 231 (dk_at dksX0_triesRow_0 18 rfl rfl)
theorem dX0_triesRow_21 : decode cX0_triesRow 21 = .ok (.aload_n 0, 1) := dk_42 (dk_at dksX0_triesRow_0 21 rfl rfl)
theorem dX0_triesRow_22 : decode cX0_triesRow 22 = .ok (.iload_n 1, 1) := dk_27 (dk_at dksX0_triesRow_0 22 rfl rfl)
theorem dX0_triesRow_23 : decode cX0_triesRow 23 = .ok (.invokevirtual 288, 3) := dk_182 1 32 (dk_at dksX0_triesRow_1 0 rfl rfl)
theorem dX0_triesRow_26 : decode cX0_triesRow 26 = .ok (.aload_n 0, 1) := dk_42 (dk_at dksX0_triesRow_1 3 rfl rfl)
theorem dX0_triesRow_27 : decode cX0_triesRow 27 = .ok (.iconst 0, 1) := dk_3 (dk_at dksX0_triesRow_1 4 rfl rfl)
theorem dX0_triesRow_28 : decode cX0_triesRow 28 = .ok (.putfield 231, 3) := dk_181 0 231 (dk_at dksX0_triesRow_1 5 rfl rfl)
theorem dX0_triesRow_31 : decode cX0_triesRow 31 = .ok (.aload_n 0, 1) := dk_42 (dk_at dksX0_triesRow_1 8 rfl rfl)
theorem dX0_triesRow_32 : decode cX0_triesRow 32 = .ok (.getfield 23, 3) := dk_180 0 23 (dk_at dksX0_triesRow_1 9 rfl rfl)
theorem dX0_triesRow_35 : decode cX0_triesRow 35 = .ok (.invokevirtual 291, 3) := dk_182 1 35 (dk_at dksX0_triesRow_1 12 rfl rfl)
theorem dX0_triesRow_38 : decode cX0_triesRow 38 = .ok (.aload_n 0, 1) := dk_42 (dk_at dksX0_triesRow_1 15 rfl rfl)
theorem dX0_triesRow_39 : decode cX0_triesRow 39 = .ok (.getfield 305, 3) := dk_180 1 49 (dk_at dksX0_triesRow_1 16 rfl rfl)
theorem dX0_triesRow_42 : decode cX0_triesRow 42 = .ok (.if_icmp .gt 4, 3) := dk_163 0 4 (dk_at dksX0_triesRow_1 19 rfl rfl)
theorem dX0_triesRow_45 : decode cX0_triesRow 45 = .ok (.return_, 1) := dk_177 (dk_at dksX0_triesRow_1 22 rfl rfl)
theorem dX0_triesRow_46 : decode cX0_triesRow 46 = .ok (.aload_n 0, 1) := dk_42 (dk_at dksX0_triesRow_1 23 rfl rfl)
theorem dX0_triesRow_47 : decode cX0_triesRow 47 = .ok (.aload_n 0, 1) := dk_42 (dk_at dksX0_triesRow_2 0 rfl rfl)
theorem dX0_triesRow_48 : decode cX0_triesRow 48 = .ok (.getfield 23, 3) := dk_180 0 23 (dk_at dksX0_triesRow_2 1 rfl rfl)
theorem dX0_triesRow_51 : decode cX0_triesRow 51 = .ok (.invokevirtual 291, 3) := dk_182 1 35 (dk_at dksX0_triesRow_2 4 rfl rfl)
theorem dX0_triesRow_54 : decode cX0_triesRow 54 = .ok (.putfield 305, 3) := dk_181 1 49 (dk_at dksX0_triesRow_2 7 rfl rfl)
theorem dX0_triesRow_57 : decode cX0_triesRow 57 = .ok (.iconst 0, 1) := dk_3 (dk_at dksX0_triesRow_2 10 rfl rfl)
theorem dX0_triesRow_58 : decode cX0_triesRow 58 = .ok (.istore_n 2, 1) := dk_61 (dk_at dksX0_triesRow_2 11 rfl rfl)
theorem dX0_triesRow_59 : decode cX0_triesRow 59 = .ok (.iload_n 2, 1) := dk_28 (dk_at dksX0_triesRow_2 12 rfl rfl)
theorem dX0_triesRow_60 : decode cX0_triesRow 60 = .ok (.aload_n 0, 1) := dk_42 (dk_at dksX0_triesRow_2 13 rfl rfl)
theorem dX0_triesRow_61 : decode cX0_triesRow 61 = .ok (.getfield 222, 3) := dk_180 0 222 (dk_at dksX0_triesRow_2 14 rfl rfl)
theorem dX0_triesRow_64 : decode cX0_triesRow 64 = .ok (.if_icmp .ge 21, 3) := dk_162 0 21 (dk_at dksX0_triesRow_2 17 rfl rfl)
theorem dX0_triesRow_67 : decode cX0_triesRow 67 = .ok (.aload_n 0, 1) := dk_42 (dk_at dksX0_triesRow_2 20 rfl rfl)
theorem dX0_triesRow_68 : decode cX0_triesRow 68 = .ok (.getfield 68, 3) := dk_180 0 68 (dk_at dksX0_triesRow_2 21 rfl rfl)
theorem dX0_triesRow_71 : decode cX0_triesRow 71 = .ok (.iload_n 2, 1) := dk_28 (dk_at dksX0_triesRow_3 0 rfl rfl)
theorem dX0_triesRow_72 : decode cX0_triesRow 72 = .ok (.aload_n 0, 1) := dk_42 (dk_at dksX0_triesRow_3 1 rfl rfl)
theorem dX0_triesRow_73 : decode cX0_triesRow 73 = .ok (.getfield 65, 3) := dk_180 0 65 (dk_at dksX0_triesRow_3 2 rfl rfl)
theorem dX0_triesRow_76 : decode cX0_triesRow 76 = .ok (.iload_n 2, 1) := dk_28 (dk_at dksX0_triesRow_3 5 rfl rfl)
theorem dX0_triesRow_77 : decode cX0_triesRow 77 = .ok (.iaload, 1) := dk_46 (dk_at dksX0_triesRow_3 6 rfl rfl)
theorem dX0_triesRow_78 : decode cX0_triesRow 78 = .ok (.iastore, 1) := dk_79 (dk_at dksX0_triesRow_3 7 rfl rfl)
theorem dX0_triesRow_79 : decode cX0_triesRow 79 = .ok (.iinc 2 1, 3) := dk_132 2 1 (dk_at dksX0_triesRow_3 8 rfl rfl)
theorem dX0_triesRow_82 : decode cX0_triesRow 82 = .ok (.goto (-23), 3) := dk_167 255 233 (dk_at dksX0_triesRow_3 11 rfl rfl)
theorem dX0_triesRow_85 : decode cX0_triesRow 85 = .ok (.return_, 1) := dk_177 (dk_at dksX0_triesRow_3 14 rfl rfl)
abbrev cX0_has : ByteArray := prog_1_method_2_code
def yX0_has : MethodName := ⟨RX0, "has", "(II)Z"⟩
def dkwX0_has_0 : List UInt8 := [26, 27, 122, 4, 126, 4, 160, 0, 7, 4, 167, 0, 4, 3, 172]
abbrev dktX0_has_0 : List UInt8 := dkwX0_has_0 ++ []
theorem dksX0_has_0 : cX0_has.data.toList.drop 0 = dktX0_has_0 := by decide +kernel
theorem dX0_has_0 : decode cX0_has 0 = .ok (.iload_n 0, 1) := dk_26 (dk_at dksX0_has_0 0 rfl rfl)
theorem dX0_has_1 : decode cX0_has 1 = .ok (.iload_n 1, 1) := dk_27 (dk_at dksX0_has_0 1 rfl rfl)
theorem dX0_has_2 : decode cX0_has 2 = .ok (.ishr, 1) := dk_122 (dk_at dksX0_has_0 2 rfl rfl)
theorem dX0_has_3 : decode cX0_has 3 = .ok (.iconst 1, 1) := dk_4 (dk_at dksX0_has_0 3 rfl rfl)
theorem dX0_has_4 : decode cX0_has 4 = .ok (.iand, 1) := dk_126 (dk_at dksX0_has_0 4 rfl rfl)
theorem dX0_has_5 : decode cX0_has 5 = .ok (.iconst 1, 1) := dk_4 (dk_at dksX0_has_0 5 rfl rfl)
theorem dX0_has_6 : decode cX0_has 6 = .ok (.if_icmp .ne 7, 3) := dk_160 0 7 (dk_at dksX0_has_0 6 rfl rfl)
theorem dX0_has_9 : decode cX0_has 9 = .ok (.iconst 1, 1) := dk_4 (dk_at dksX0_has_0 9 rfl rfl)
theorem dX0_has_10 : decode cX0_has 10 = .ok (.goto 4, 3) := dk_167 0 4 (dk_at dksX0_has_0 10 rfl rfl)
theorem dX0_has_13 : decode cX0_has 13 = .ok (.iconst 0, 1) := dk_3 (dk_at dksX0_has_0 13 rfl rfl)
theorem dX0_has_14 : decode cX0_has 14 = .ok (.ireturn, 1) := dk_172 (dk_at dksX0_has_0 14 rfl rfl)
abbrev cX0_heard : ByteArray := prog_1_method_41_code
def yX0_heard : MethodName := ⟨RX0, "heard", "(I)I"⟩
def dkwX0_heard_2 : List UInt8 := [153, 0, 5, 28, 172, 132, 2, 1, 167, 255, 214, 16, 254, 172]
abbrev dktX0_heard_2 : List UInt8 := dkwX0_heard_2 ++ []
def dkwX0_heard_1 : List UInt8 := [180, 0, 19, 182, 1, 13, 42, 180, 0, 23, 180, 0, 157, 27, 28, 79, 42, 27, 16, 20, 182, 1, 56]
abbrev dktX0_heard_1 : List UInt8 := dkwX0_heard_1 ++ dktX0_heard_2
def dkwX0_heard_0 : List UInt8 := [42, 27, 182, 0, 147, 154, 0, 5, 2, 172, 3, 61, 28, 16, 20, 163, 0, 42, 42, 180, 0, 23, 42]
abbrev dktX0_heard_0 : List UInt8 := dkwX0_heard_0 ++ dktX0_heard_1
theorem dksX0_heard_0 : cX0_heard.data.toList.drop 0 = dktX0_heard_0 := by decide +kernel
theorem dksX0_heard_1 : cX0_heard.data.toList.drop 23 = dktX0_heard_1 := dk_seg dksX0_heard_0 23 rfl rfl
theorem dksX0_heard_2 : cX0_heard.data.toList.drop 46 = dktX0_heard_2 := dk_seg dksX0_heard_1 23 rfl rfl
theorem dX0_heard_0 : decode cX0_heard 0 = .ok (.aload_n 0, 1) := dk_42 (dk_at dksX0_heard_0 0 rfl rfl)
theorem dX0_heard_1 : decode cX0_heard 1 = .ok (.iload_n 1, 1) := dk_27 (dk_at dksX0_heard_0 1 rfl rfl)
theorem dX0_heard_2 : decode cX0_heard 2 = .ok (.invokevirtual 147, 3) := dk_182 0 147 (dk_at dksX0_heard_0 2 rfl rfl)
theorem dX0_heard_5 : decode cX0_heard 5 = .ok (.ifCond .ne 5, 3) := dk_154 0 5 (dk_at dksX0_heard_0 5 rfl rfl)
theorem dX0_heard_8 : decode cX0_heard 8 = .ok (.iconst (-1), 1) := dk_2 (dk_at dksX0_heard_0 8 rfl rfl)
theorem dX0_heard_9 : decode cX0_heard 9 = .ok (.ireturn, 1) := dk_172 (dk_at dksX0_heard_0 9 rfl rfl)
theorem dX0_heard_10 : decode cX0_heard 10 = .ok (.iconst 0, 1) := dk_3 (dk_at dksX0_heard_0 10 rfl rfl)
theorem dX0_heard_11 : decode cX0_heard 11 = .ok (.istore_n 2, 1) := dk_61 (dk_at dksX0_heard_0 11 rfl rfl)
theorem dX0_heard_12 : decode cX0_heard 12 = .ok (.iload_n 2, 1) := dk_28 (dk_at dksX0_heard_0 12 rfl rfl)
theorem dX0_heard_13 : decode cX0_heard 13 = .ok (.bipush 20, 2) := dk_16 20 (dk_at dksX0_heard_0 13 rfl rfl)
theorem dX0_heard_15 : decode cX0_heard 15 = .ok (.if_icmp .gt 42, 3) := dk_163 0 42 (dk_at dksX0_heard_0 15 rfl rfl)
theorem dX0_heard_18 : decode cX0_heard 18 = .ok (.aload_n 0, 1) := dk_42 (dk_at dksX0_heard_0 18 rfl rfl)
theorem dX0_heard_19 : decode cX0_heard 19 = .ok (.getfield 23, 3) := dk_180 0 23 (dk_at dksX0_heard_0 19 rfl rfl)
theorem dX0_heard_22 : decode cX0_heard 22 = .ok (.aload_n 0, 1) := dk_42 (dk_at dksX0_heard_0 22 rfl rfl)
theorem dX0_heard_23 : decode cX0_heard 23 = .ok (.getfield 19, 3) := dk_180 0 19 (dk_at dksX0_heard_1 0 rfl rfl)
theorem dX0_heard_26 : decode cX0_heard 26 = .ok (.invokevirtual 269, 3) := dk_182 1 13 (dk_at dksX0_heard_1 3 rfl rfl)
theorem dX0_heard_29 : decode cX0_heard 29 = .ok (.aload_n 0, 1) := dk_42 (dk_at dksX0_heard_1 6 rfl rfl)
theorem dX0_heard_30 : decode cX0_heard 30 = .ok (.getfield 23, 3) := dk_180 0 23 (dk_at dksX0_heard_1 7 rfl rfl)
theorem dX0_heard_33 : decode cX0_heard 33 = .ok (.getfield 157, 3) := dk_180 0 157 (dk_at dksX0_heard_1 10 rfl rfl)
theorem dX0_heard_36 : decode cX0_heard 36 = .ok (.iload_n 1, 1) := dk_27 (dk_at dksX0_heard_1 13 rfl rfl)
theorem dX0_heard_37 : decode cX0_heard 37 = .ok (.iload_n 2, 1) := dk_28 (dk_at dksX0_heard_1 14 rfl rfl)
theorem dX0_heard_38 : decode cX0_heard 38 = .ok (.iastore, 1) := dk_79 (dk_at dksX0_heard_1 15 rfl rfl)
theorem dX0_heard_39 : decode cX0_heard 39 = .ok (.aload_n 0, 1) := dk_42 (dk_at dksX0_heard_1 16 rfl rfl)
theorem dX0_heard_40 : decode cX0_heard 40 = .ok (.iload_n 1, 1) := dk_27 (dk_at dksX0_heard_1 17 rfl rfl)
theorem dX0_heard_41 : decode cX0_heard 41 = .ok (.bipush 20, 2) := dk_16 20 (dk_at dksX0_heard_1 18 rfl rfl)
theorem dX0_heard_43 : decode cX0_heard 43 = .ok (.invokevirtual 312, 3) := dk_182 1 56 (dk_at dksX0_heard_1 20 rfl rfl)
theorem dX0_heard_46 : decode cX0_heard 46 = .ok (.ifCond .eq 5, 3) := dk_153 0 5 (dk_at dksX0_heard_2 0 rfl rfl)
theorem dX0_heard_49 : decode cX0_heard 49 = .ok (.iload_n 2, 1) := dk_28 (dk_at dksX0_heard_2 3 rfl rfl)
theorem dX0_heard_50 : decode cX0_heard 50 = .ok (.ireturn, 1) := dk_172 (dk_at dksX0_heard_2 4 rfl rfl)
theorem dX0_heard_51 : decode cX0_heard 51 = .ok (.iinc 2 1, 3) := dk_132 2 1 (dk_at dksX0_heard_2 5 rfl rfl)
theorem dX0_heard_54 : decode cX0_heard 54 = .ok (.goto (-42), 3) := dk_167 255 214 (dk_at dksX0_heard_2 8 rfl rfl)
theorem dX0_heard_57 : decode cX0_heard 57 = .ok (.bipush (-2), 2) := dk_16 254 (dk_at dksX0_heard_2 11 rfl rfl)
theorem dX0_heard_59 : decode cX0_heard 59 = .ok (.ireturn, 1) := dk_172 (dk_at dksX0_heard_2 13 rfl rfl)
abbrev cX0_isComeTo : ByteArray := prog_1_method_40_code
def yX0_isComeTo : MethodName := ⟨RX0, "isComeTo", "(II)Z"⟩
def dkwX0_isComeTo_1 : List UInt8 := [42, 180, 1, 1, 27, 160, 0, 7, 4, 167, 0, 4, 3, 62, 132, 4, 1, 167, 255, 220, 29, 172]
abbrev dktX0_isComeTo_1 : List UInt8 := dkwX0_isComeTo_1 ++ []
def dkwX0_isComeTo_0 : List UInt8 := [3, 62, 3, 54, 4, 21, 4, 28, 162, 0, 36, 29, 154, 0, 32, 42, 42, 180, 0, 23, 182, 1, 8, 87]
abbrev dktX0_isComeTo_0 : List UInt8 := dkwX0_isComeTo_0 ++ dktX0_isComeTo_1
theorem dksX0_isComeTo_0 : cX0_isComeTo.data.toList.drop 0 = dktX0_isComeTo_0 := by decide +kernel
theorem dksX0_isComeTo_1 : cX0_isComeTo.data.toList.drop 24 = dktX0_isComeTo_1 := dk_seg dksX0_isComeTo_0 24 rfl rfl
theorem dX0_isComeTo_0 : decode cX0_isComeTo 0 = .ok (.iconst 0, 1) := dk_3 (dk_at dksX0_isComeTo_0 0 rfl rfl)
theorem dX0_isComeTo_1 : decode cX0_isComeTo 1 = .ok (.istore_n 3, 1) := dk_62 (dk_at dksX0_isComeTo_0 1 rfl rfl)
theorem dX0_isComeTo_2 : decode cX0_isComeTo 2 = .ok (.iconst 0, 1) := dk_3 (dk_at dksX0_isComeTo_0 2 rfl rfl)
theorem dX0_isComeTo_3 : decode cX0_isComeTo 3 = .ok (.istore 4, 2) := dk_54 4 (dk_at dksX0_isComeTo_0 3 rfl rfl)
theorem dX0_isComeTo_5 : decode cX0_isComeTo 5 = .ok (.iload 4, 2) := dk_21 4 (dk_at dksX0_isComeTo_0 5 rfl rfl)
theorem dX0_isComeTo_7 : decode cX0_isComeTo 7 = .ok (.iload_n 2, 1) := dk_28 (dk_at dksX0_isComeTo_0 7 rfl rfl)
theorem dX0_isComeTo_8 : decode cX0_isComeTo 8 = .ok (.if_icmp .ge 36, 3) := dk_162 0 36 (dk_at dksX0_isComeTo_0 8 rfl rfl)
theorem dX0_isComeTo_11 : decode cX0_isComeTo 11 = .ok (.iload_n 3, 1) := dk_29 (dk_at dksX0_isComeTo_0 11 rfl rfl)
theorem dX0_isComeTo_12 : decode cX0_isComeTo 12 = .ok (.ifCond .ne 32, 3) := dk_154 0 32 (dk_at dksX0_isComeTo_0 12 rfl rfl)
theorem dX0_isComeTo_15 : decode cX0_isComeTo 15 = .ok (.aload_n 0, 1) := dk_42 (dk_at dksX0_isComeTo_0 15 rfl rfl)
theorem dX0_isComeTo_16 : decode cX0_isComeTo 16 = .ok (.aload_n 0, 1) := dk_42 (dk_at dksX0_isComeTo_0 16 rfl rfl)
theorem dX0_isComeTo_17 : decode cX0_isComeTo 17 = .ok (.getfield 23, 3) := dk_180 0 23 (dk_at dksX0_isComeTo_0 17 rfl rfl)
theorem dX0_isComeTo_20 : decode cX0_isComeTo 20 = .ok (.invokevirtual 264, 3) := dk_182 1 8 (dk_at dksX0_isComeTo_0 20 rfl rfl)
theorem dX0_isComeTo_23 : decode cX0_isComeTo 23 = .ok (.pop, 1) := dk_87 (dk_at dksX0_isComeTo_0 23 rfl rfl)
theorem dX0_isComeTo_24 : decode cX0_isComeTo 24 = .ok (.aload_n 0, 1) := dk_42 (dk_at dksX0_isComeTo_1 0 rfl rfl)
theorem dX0_isComeTo_25 : decode cX0_isComeTo 25 = .ok (.getfield 257, 3) := dk_180 1 1 (dk_at dksX0_isComeTo_1 1 rfl rfl)
theorem dX0_isComeTo_28 : decode cX0_isComeTo 28 = .ok (.iload_n 1, 1) := dk_27 (dk_at dksX0_isComeTo_1 4 rfl rfl)
theorem dX0_isComeTo_29 : decode cX0_isComeTo 29 = .ok (.if_icmp .ne 7, 3) := dk_160 0 7 (dk_at dksX0_isComeTo_1 5 rfl rfl)
theorem dX0_isComeTo_32 : decode cX0_isComeTo 32 = .ok (.iconst 1, 1) := dk_4 (dk_at dksX0_isComeTo_1 8 rfl rfl)
theorem dX0_isComeTo_33 : decode cX0_isComeTo 33 = .ok (.goto 4, 3) := dk_167 0 4 (dk_at dksX0_isComeTo_1 9 rfl rfl)
theorem dX0_isComeTo_36 : decode cX0_isComeTo 36 = .ok (.iconst 0, 1) := dk_3 (dk_at dksX0_isComeTo_1 12 rfl rfl)
theorem dX0_isComeTo_37 : decode cX0_isComeTo 37 = .ok (.istore_n 3, 1) := dk_62 (dk_at dksX0_isComeTo_1 13 rfl rfl)
theorem dX0_isComeTo_38 : decode cX0_isComeTo 38 = .ok (.iinc 4 1, 3) := dk_132 4 1 (dk_at dksX0_isComeTo_1 14 rfl rfl)
theorem dX0_isComeTo_41 : decode cX0_isComeTo 41 = .ok (.goto (-36), 3) := dk_167 255 220 (dk_at dksX0_isComeTo_1 17 rfl rfl)
theorem dX0_isComeTo_44 : decode cX0_isComeTo 44 = .ok (.iload_n 3, 1) := dk_29 (dk_at dksX0_isComeTo_1 20 rfl rfl)
theorem dX0_isComeTo_45 : decode cX0_isComeTo 45 = .ok (.ireturn, 1) := dk_172 (dk_at dksX0_isComeTo_1 21 rfl rfl)
abbrev cX0_water : ByteArray := prog_1_method_43_code
def yX0_water : MethodName := ⟨RX0, "water", "(I)I"⟩
def dkwX0_water_2 : List UInt8 := [42, 27, 182, 1, 32, 42, 182, 1, 59, 153, 0, 5, 28, 172, 132, 2, 1, 167, 255, 214, 16, 254, 172]
abbrev dktX0_water_2 : List UInt8 := dkwX0_water_2 ++ []
def dkwX0_water_1 : List UInt8 := [16, 9, 163, 0, 42, 42, 180, 0, 23, 42, 180, 0, 19, 182, 1, 13, 42, 180, 0, 23, 28, 181, 0, 192]
abbrev dktX0_water_1 : List UInt8 := dkwX0_water_1 ++ dktX0_water_2
def dkwX0_water_0 : List UInt8 := [42, 182, 0, 108, 153, 0, 15, 27, 133, 10, 20, 1, 52, 184, 0, 104, 154, 0, 5, 2, 172, 3, 61, 28]
abbrev dktX0_water_0 : List UInt8 := dkwX0_water_0 ++ dktX0_water_1
theorem dksX0_water_0 : cX0_water.data.toList.drop 0 = dktX0_water_0 := by decide +kernel
theorem dksX0_water_1 : cX0_water.data.toList.drop 24 = dktX0_water_1 := dk_seg dksX0_water_0 24 rfl rfl
theorem dksX0_water_2 : cX0_water.data.toList.drop 48 = dktX0_water_2 := dk_seg dksX0_water_1 24 rfl rfl
theorem dX0_water_0 : decode cX0_water 0 = .ok (.aload_n 0, 1) := dk_42 (dk_at dksX0_water_0 0 rfl rfl)
theorem dX0_water_1 : decode cX0_water 1 = .ok (.invokevirtual 108, 3) := dk_182 0 108 (dk_at dksX0_water_0 1 rfl rfl)
theorem dX0_water_4 : decode cX0_water 4 = .ok (.ifCond .eq 15, 3) := dk_153 0 15 (dk_at dksX0_water_0 4 rfl rfl)
theorem dX0_water_7 : decode cX0_water 7 = .ok (.iload_n 1, 1) := dk_27 (dk_at dksX0_water_0 7 rfl rfl)
theorem dX0_water_8 : decode cX0_water 8 = .ok (.i2l, 1) := dk_133 (dk_at dksX0_water_0 8 rfl rfl)
theorem dX0_water_9 : decode cX0_water 9 = .ok (.lconst 1, 1) := dk_10 (dk_at dksX0_water_0 9 rfl rfl)
theorem dX0_water_10 : decode cX0_water 10 = .ok (.ldc2_w 308, 3) := dk_20 1 52 (dk_at dksX0_water_0 10 rfl rfl)
theorem dX0_water_13 : decode cX0_water 13 = .ok (.invokestatic 104, 3) := dk_184 0 104 (dk_at dksX0_water_0 13 rfl rfl)
theorem dX0_water_16 : decode cX0_water 16 = .ok (.ifCond .ne 5, 3) := dk_154 0 5 (dk_at dksX0_water_0 16 rfl rfl)
theorem dX0_water_19 : decode cX0_water 19 = .ok (.iconst (-1), 1) := dk_2 (dk_at dksX0_water_0 19 rfl rfl)
theorem dX0_water_20 : decode cX0_water 20 = .ok (.ireturn, 1) := dk_172 (dk_at dksX0_water_0 20 rfl rfl)
theorem dX0_water_21 : decode cX0_water 21 = .ok (.iconst 0, 1) := dk_3 (dk_at dksX0_water_0 21 rfl rfl)
theorem dX0_water_22 : decode cX0_water 22 = .ok (.istore_n 2, 1) := dk_61 (dk_at dksX0_water_0 22 rfl rfl)
theorem dX0_water_23 : decode cX0_water 23 = .ok (.iload_n 2, 1) := dk_28 (dk_at dksX0_water_0 23 rfl rfl)
theorem dX0_water_24 : decode cX0_water 24 = .ok (.bipush 9, 2) := dk_16 9 (dk_at dksX0_water_1 0 rfl rfl)
theorem dX0_water_26 : decode cX0_water 26 = .ok (.if_icmp .gt 42, 3) := dk_163 0 42 (dk_at dksX0_water_1 2 rfl rfl)
theorem dX0_water_29 : decode cX0_water 29 = .ok (.aload_n 0, 1) := dk_42 (dk_at dksX0_water_1 5 rfl rfl)
theorem dX0_water_30 : decode cX0_water 30 = .ok (.getfield 23, 3) := dk_180 0 23 (dk_at dksX0_water_1 6 rfl rfl)
theorem dX0_water_33 : decode cX0_water 33 = .ok (.aload_n 0, 1) := dk_42 (dk_at dksX0_water_1 9 rfl rfl)
theorem dX0_water_34 : decode cX0_water 34 = .ok (.getfield 19, 3) := dk_180 0 19 (dk_at dksX0_water_1 10 rfl rfl)
theorem dX0_water_37 : decode cX0_water 37 = .ok (.invokevirtual 269, 3) := dk_182 1 13 (dk_at dksX0_water_1 13 rfl rfl)
theorem dX0_water_40 : decode cX0_water 40 = .ok (.aload_n 0, 1) := dk_42 (dk_at dksX0_water_1 16 rfl rfl)
theorem dX0_water_41 : decode cX0_water 41 = .ok (.getfield 23, 3) := dk_180 0 23 (dk_at dksX0_water_1 17 rfl rfl)
theorem dX0_water_44 : decode cX0_water 44 = .ok (.iload_n 2, 1) := dk_28 (dk_at dksX0_water_1 20 rfl rfl)
theorem dX0_water_45 : decode cX0_water 45 = .ok (.putfield 192, 3) := dk_181 0 192 (dk_at dksX0_water_1 21 rfl rfl)
theorem dX0_water_48 : decode cX0_water 48 = .ok (.aload_n 0, 1) := dk_42 (dk_at dksX0_water_2 0 rfl rfl)
theorem dX0_water_49 : decode cX0_water 49 = .ok (.iload_n 1, 1) := dk_27 (dk_at dksX0_water_2 1 rfl rfl)
theorem dX0_water_50 : decode cX0_water 50 = .ok (.invokevirtual 288, 3) := dk_182 1 32 (dk_at dksX0_water_2 2 rfl rfl)
theorem dX0_water_53 : decode cX0_water 53 = .ok (.aload_n 0, 1) := dk_42 (dk_at dksX0_water_2 5 rfl rfl)
theorem dX0_water_54 : decode cX0_water 54 = .ok (.invokevirtual 315, 3) := dk_182 1 59 (dk_at dksX0_water_2 6 rfl rfl)
theorem dX0_water_57 : decode cX0_water 57 = .ok (.ifCond .eq 5, 3) := dk_153 0 5 (dk_at dksX0_water_2 9 rfl rfl)
theorem dX0_water_60 : decode cX0_water 60 = .ok (.iload_n 2, 1) := dk_28 (dk_at dksX0_water_2 12 rfl rfl)
theorem dX0_water_61 : decode cX0_water 61 = .ok (.ireturn, 1) := dk_172 (dk_at dksX0_water_2 13 rfl rfl)
theorem dX0_water_62 : decode cX0_water 62 = .ok (.iinc 2 1, 3) := dk_132 2 1 (dk_at dksX0_water_2 14 rfl rfl)
theorem dX0_water_65 : decode cX0_water 65 = .ok (.goto (-42), 3) := dk_167 255 214 (dk_at dksX0_water_2 17 rfl rfl)
theorem dX0_water_68 : decode cX0_water 68 = .ok (.bipush (-2), 2) := dk_16 254 (dk_at dksX0_water_2 20 rfl rfl)
theorem dX0_water_70 : decode cX0_water 70 = .ok (.ireturn, 1) := dk_172 (dk_at dksX0_water_2 22 rfl rfl)
abbrev cX0_doesNobodyLoseAll : ByteArray := prog_1_method_42_code
def yX0_doesNobodyLoseAll : MethodName := ⟨RX0, "doesNobodyLoseAll", "()Z"⟩
def dkwX0_doesNobodyLoseAll_2 : List UInt8 := [172]
abbrev dktX0_doesNobodyLoseAll_2 : List UInt8 := dkwX0_doesNobodyLoseAll_2 ++ []
def dkwX0_doesNobodyLoseAll_1 : List UInt8 := [158, 0, 17, 42, 180, 0, 23, 180, 0, 151, 27, 46, 154, 0, 5, 3, 172, 132, 1, 1, 167, 255, 216, 4]
abbrev dktX0_doesNobodyLoseAll_1 : List UInt8 := dkwX0_doesNobodyLoseAll_1 ++ dktX0_doesNobodyLoseAll_2
def dkwX0_doesNobodyLoseAll_0 : List UInt8 := [3, 60, 27, 42, 180, 0, 10, 182, 0, 100, 162, 0, 35, 42, 180, 0, 19, 180, 0, 151, 27, 46]
abbrev dktX0_doesNobodyLoseAll_0 : List UInt8 := dkwX0_doesNobodyLoseAll_0 ++ dktX0_doesNobodyLoseAll_1
theorem dksX0_doesNobodyLoseAll_0 : cX0_doesNobodyLoseAll.data.toList.drop 0 = dktX0_doesNobodyLoseAll_0 := by decide +kernel
theorem dksX0_doesNobodyLoseAll_1 : cX0_doesNobodyLoseAll.data.toList.drop 22 = dktX0_doesNobodyLoseAll_1 := dk_seg dksX0_doesNobodyLoseAll_0 22 rfl rfl
theorem dksX0_doesNobodyLoseAll_2 : cX0_doesNobodyLoseAll.data.toList.drop 46 = dktX0_doesNobodyLoseAll_2 := dk_seg dksX0_doesNobodyLoseAll_1 24 rfl rfl
theorem dX0_doesNobodyLoseAll_0 : decode cX0_doesNobodyLoseAll 0 = .ok (.iconst 0, 1) := dk_3 (dk_at dksX0_doesNobodyLoseAll_0 0 rfl rfl)
theorem dX0_doesNobodyLoseAll_1 : decode cX0_doesNobodyLoseAll 1 = .ok (.istore_n 1, 1) := dk_60 (dk_at dksX0_doesNobodyLoseAll_0 1 rfl rfl)
theorem dX0_doesNobodyLoseAll_2 : decode cX0_doesNobodyLoseAll 2 = .ok (.iload_n 1, 1) := dk_27 (dk_at dksX0_doesNobodyLoseAll_0 2 rfl rfl)
theorem dX0_doesNobodyLoseAll_3 : decode cX0_doesNobodyLoseAll 3 = .ok (.aload_n 0, 1) := dk_42 (dk_at dksX0_doesNobodyLoseAll_0 3 rfl rfl)
theorem dX0_doesNobodyLoseAll_4 : decode cX0_doesNobodyLoseAll 4 = .ok (.getfield 10, 3) := dk_180 0 10 (dk_at dksX0_doesNobodyLoseAll_0 4 rfl rfl)
theorem dX0_doesNobodyLoseAll_7 : decode cX0_doesNobodyLoseAll 7 = .ok (.invokevirtual 100, 3) := dk_182 0 100 (dk_at dksX0_doesNobodyLoseAll_0 7 rfl rfl)
theorem dX0_doesNobodyLoseAll_10 : decode cX0_doesNobodyLoseAll 10 = .ok (.if_icmp .ge 35, 3) := dk_162 0 35 (dk_at dksX0_doesNobodyLoseAll_0 10 rfl rfl)
theorem dX0_doesNobodyLoseAll_13 : decode cX0_doesNobodyLoseAll 13 = .ok (.aload_n 0, 1) := dk_42 (dk_at dksX0_doesNobodyLoseAll_0 13 rfl rfl)
theorem dX0_doesNobodyLoseAll_14 : decode cX0_doesNobodyLoseAll 14 = .ok (.getfield 19, 3) := dk_180 0 19 (dk_at dksX0_doesNobodyLoseAll_0 14 rfl rfl)
theorem dX0_doesNobodyLoseAll_17 : decode cX0_doesNobodyLoseAll 17 = .ok (.getfield 151, 3) := dk_180 0 151 (dk_at dksX0_doesNobodyLoseAll_0 17 rfl rfl)
theorem dX0_doesNobodyLoseAll_20 : decode cX0_doesNobodyLoseAll 20 = .ok (.iload_n 1, 1) := dk_27 (dk_at dksX0_doesNobodyLoseAll_0 20 rfl rfl)
theorem dX0_doesNobodyLoseAll_21 : decode cX0_doesNobodyLoseAll 21 = .ok (.iaload, 1) := dk_46 (dk_at dksX0_doesNobodyLoseAll_0 21 rfl rfl)
theorem dX0_doesNobodyLoseAll_22 : decode cX0_doesNobodyLoseAll 22 = .ok (.ifCond .le 17, 3) := dk_158 0 17 (dk_at dksX0_doesNobodyLoseAll_1 0 rfl rfl)
theorem dX0_doesNobodyLoseAll_25 : decode cX0_doesNobodyLoseAll 25 = .ok (.aload_n 0, 1) := dk_42 (dk_at dksX0_doesNobodyLoseAll_1 3 rfl rfl)
theorem dX0_doesNobodyLoseAll_26 : decode cX0_doesNobodyLoseAll 26 = .ok (.getfield 23, 3) := dk_180 0 23 (dk_at dksX0_doesNobodyLoseAll_1 4 rfl rfl)
theorem dX0_doesNobodyLoseAll_29 : decode cX0_doesNobodyLoseAll 29 = .ok (.getfield 151, 3) := dk_180 0 151 (dk_at dksX0_doesNobodyLoseAll_1 7 rfl rfl)
theorem dX0_doesNobodyLoseAll_32 : decode cX0_doesNobodyLoseAll 32 = .ok (.iload_n 1, 1) := dk_27 (dk_at dksX0_doesNobodyLoseAll_1 10 rfl rfl)
theorem dX0_doesNobodyLoseAll_33 : decode cX0_doesNobodyLoseAll 33 = .ok (.iaload, 1) := dk_46 (dk_at dksX0_doesNobodyLoseAll_1 11 rfl rfl)
theorem dX0_doesNobodyLoseAll_34 : decode cX0_doesNobodyLoseAll 34 = .ok (.ifCond .ne 5, 3) := dk_154 0 5 (dk_at dksX0_doesNobodyLoseAll_1 12 rfl rfl)
theorem dX0_doesNobodyLoseAll_37 : decode cX0_doesNobodyLoseAll 37 = .ok (.iconst 0, 1) := dk_3 (dk_at dksX0_doesNobodyLoseAll_1 15 rfl rfl)
theorem dX0_doesNobodyLoseAll_38 : decode cX0_doesNobodyLoseAll 38 = .ok (.ireturn, 1) := dk_172 (dk_at dksX0_doesNobodyLoseAll_1 16 rfl rfl)
theorem dX0_doesNobodyLoseAll_39 : decode cX0_doesNobodyLoseAll 39 = .ok (.iinc 1 1, 3) := dk_132 1 1 (dk_at dksX0_doesNobodyLoseAll_1 17 rfl rfl)
theorem dX0_doesNobodyLoseAll_42 : decode cX0_doesNobodyLoseAll 42 = .ok (.goto (-40), 3) := dk_167 255 216 (dk_at dksX0_doesNobodyLoseAll_1 20 rfl rfl)
theorem dX0_doesNobodyLoseAll_45 : decode cX0_doesNobodyLoseAll 45 = .ok (.iconst 1, 1) := dk_4 (dk_at dksX0_doesNobodyLoseAll_1 23 rfl rfl)
theorem dX0_doesNobodyLoseAll_46 : decode cX0_doesNobodyLoseAll 46 = .ok (.ireturn, 1) := dk_172 (dk_at dksX0_doesNobodyLoseAll_2 0 rfl rfl)
abbrev cX0_clear : ByteArray := prog_1_method_44_code
def yX0_clear : MethodName := ⟨RX0, "clear", "(II)I"⟩
def dkwX0_clear_7 : List UInt8 := [167, 0, 5, 21, 4, 172]
abbrev dktX0_clear_7 : List UInt8 := dkwX0_clear_7 ++ []
def dkwX0_clear_6 : List UInt8 := [21, 6, 42, 180, 0, 23, 182, 1, 35, 96, 54, 4, 132, 5, 1, 167, 255, 142, 28, 154, 0, 7, 29]
abbrev dktX0_clear_6 : List UInt8 := dkwX0_clear_6 ++ dktX0_clear_7
def dkwX0_clear_5 : List UInt8 := [182, 1, 32, 21, 6, 42, 180, 0, 23, 182, 1, 35, 96, 21, 4, 163, 0, 6, 167, 0, 18, 21, 5, 62]
abbrev dktX0_clear_5 : List UInt8 := dkwX0_clear_5 ++ dktX0_clear_6
def dkwX0_clear_4 : List UInt8 := [180, 0, 23, 180, 0, 151, 21, 5, 3, 79, 42, 180, 0, 23, 180, 0, 154, 21, 5, 3, 79, 42, 27]
abbrev dktX0_clear_4 : List UInt8 := dkwX0_clear_4 ++ dktX0_clear_5
def dkwX0_clear_3 : List UInt8 := [167, 0, 13, 42, 180, 0, 23, 180, 0, 151, 21, 5, 46, 54, 6, 21, 5, 2, 159, 0, 25, 42]
abbrev dktX0_clear_3 : List UInt8 := dkwX0_clear_3 ++ dktX0_clear_4
def dkwX0_clear_2 : List UInt8 := [182, 0, 100, 162, 0, 108, 42, 180, 0, 23, 42, 180, 0, 19, 182, 1, 13, 21, 5, 2, 160, 0, 7, 3]
abbrev dktX0_clear_2 : List UInt8 := dkwX0_clear_2 ++ dktX0_clear_3
def dkwX0_clear_1 : List UInt8 := [184, 0, 104, 154, 0, 6, 16, 254, 172, 2, 62, 2, 54, 4, 2, 54, 5, 21, 5, 42, 180, 0, 10]
abbrev dktX0_clear_1 : List UInt8 := dkwX0_clear_1 ++ dktX0_clear_2
def dkwX0_clear_0 : List UInt8 := [42, 182, 0, 108, 153, 0, 25, 27, 133, 10, 20, 1, 52, 184, 0, 104, 153, 0, 13, 28, 133, 9, 10]
abbrev dktX0_clear_0 : List UInt8 := dkwX0_clear_0 ++ dktX0_clear_1
theorem dksX0_clear_0 : cX0_clear.data.toList.drop 0 = dktX0_clear_0 := by decide +kernel
theorem dksX0_clear_1 : cX0_clear.data.toList.drop 23 = dktX0_clear_1 := dk_seg dksX0_clear_0 23 rfl rfl
theorem dksX0_clear_2 : cX0_clear.data.toList.drop 46 = dktX0_clear_2 := dk_seg dksX0_clear_1 23 rfl rfl
theorem dksX0_clear_3 : cX0_clear.data.toList.drop 70 = dktX0_clear_3 := dk_seg dksX0_clear_2 24 rfl rfl
theorem dksX0_clear_4 : cX0_clear.data.toList.drop 92 = dktX0_clear_4 := dk_seg dksX0_clear_3 22 rfl rfl
theorem dksX0_clear_5 : cX0_clear.data.toList.drop 115 = dktX0_clear_5 := dk_seg dksX0_clear_4 23 rfl rfl
theorem dksX0_clear_6 : cX0_clear.data.toList.drop 139 = dktX0_clear_6 := dk_seg dksX0_clear_5 24 rfl rfl
theorem dksX0_clear_7 : cX0_clear.data.toList.drop 162 = dktX0_clear_7 := dk_seg dksX0_clear_6 23 rfl rfl
theorem dX0_clear_0 : decode cX0_clear 0 = .ok (.aload_n 0, 1) := dk_42 (dk_at dksX0_clear_0 0 rfl rfl)
theorem dX0_clear_1 : decode cX0_clear 1 = .ok (.invokevirtual 108, 3) := dk_182 0 108 (dk_at dksX0_clear_0 1 rfl rfl)
theorem dX0_clear_4 : decode cX0_clear 4 = .ok (.ifCond .eq 25, 3) := dk_153 0 25 (dk_at dksX0_clear_0 4 rfl rfl)
theorem dX0_clear_7 : decode cX0_clear 7 = .ok (.iload_n 1, 1) := dk_27 (dk_at dksX0_clear_0 7 rfl rfl)
theorem dX0_clear_8 : decode cX0_clear 8 = .ok (.i2l, 1) := dk_133 (dk_at dksX0_clear_0 8 rfl rfl)
theorem dX0_clear_9 : decode cX0_clear 9 = .ok (.lconst 1, 1) := dk_10 (dk_at dksX0_clear_0 9 rfl rfl)
theorem dX0_clear_10 : decode cX0_clear 10 = .ok (.ldc2_w 308, 3) := dk_20 1 52 (dk_at dksX0_clear_0 10 rfl rfl)
theorem dX0_clear_13 : decode cX0_clear 13 = .ok (.invokestatic 104, 3) := dk_184 0 104 (dk_at dksX0_clear_0 13 rfl rfl)
theorem dX0_clear_16 : decode cX0_clear 16 = .ok (.ifCond .eq 13, 3) := dk_153 0 13 (dk_at dksX0_clear_0 16 rfl rfl)
theorem dX0_clear_19 : decode cX0_clear 19 = .ok (.iload_n 2, 1) := dk_28 (dk_at dksX0_clear_0 19 rfl rfl)
theorem dX0_clear_20 : decode cX0_clear 20 = .ok (.i2l, 1) := dk_133 (dk_at dksX0_clear_0 20 rfl rfl)
theorem dX0_clear_21 : decode cX0_clear 21 = .ok (.lconst 0, 1) := dk_9 (dk_at dksX0_clear_0 21 rfl rfl)
theorem dX0_clear_22 : decode cX0_clear 22 = .ok (.lconst 1, 1) := dk_10 (dk_at dksX0_clear_0 22 rfl rfl)
theorem dX0_clear_23 : decode cX0_clear 23 = .ok (.invokestatic 104, 3) := dk_184 0 104 (dk_at dksX0_clear_1 0 rfl rfl)
theorem dX0_clear_26 : decode cX0_clear 26 = .ok (.ifCond .ne 6, 3) := dk_154 0 6 (dk_at dksX0_clear_1 3 rfl rfl)
theorem dX0_clear_29 : decode cX0_clear 29 = .ok (.bipush (-2), 2) := dk_16 254 (dk_at dksX0_clear_1 6 rfl rfl)
theorem dX0_clear_31 : decode cX0_clear 31 = .ok (.ireturn, 1) := dk_172 (dk_at dksX0_clear_1 8 rfl rfl)
theorem dX0_clear_32 : decode cX0_clear 32 = .ok (.iconst (-1), 1) := dk_2 (dk_at dksX0_clear_1 9 rfl rfl)
theorem dX0_clear_33 : decode cX0_clear 33 = .ok (.istore_n 3, 1) := dk_62 (dk_at dksX0_clear_1 10 rfl rfl)
theorem dX0_clear_34 : decode cX0_clear 34 = .ok (.iconst (-1), 1) := dk_2 (dk_at dksX0_clear_1 11 rfl rfl)
theorem dX0_clear_35 : decode cX0_clear 35 = .ok (.istore 4, 2) := dk_54 4 (dk_at dksX0_clear_1 12 rfl rfl)
theorem dX0_clear_37 : decode cX0_clear 37 = .ok (.iconst (-1), 1) := dk_2 (dk_at dksX0_clear_1 14 rfl rfl)
theorem dX0_clear_38 : decode cX0_clear 38 = .ok (.istore 5, 2) := dk_54 5 (dk_at dksX0_clear_1 15 rfl rfl)
theorem dX0_clear_40 : decode cX0_clear 40 = .ok (.iload 5, 2) := dk_21 5 (dk_at dksX0_clear_1 17 rfl rfl)
theorem dX0_clear_42 : decode cX0_clear 42 = .ok (.aload_n 0, 1) := dk_42 (dk_at dksX0_clear_1 19 rfl rfl)
theorem dX0_clear_43 : decode cX0_clear 43 = .ok (.getfield 10, 3) := dk_180 0 10 (dk_at dksX0_clear_1 20 rfl rfl)
theorem dX0_clear_46 : decode cX0_clear 46 = .ok (.invokevirtual 100, 3) := dk_182 0 100 (dk_at dksX0_clear_2 0 rfl rfl)
theorem dX0_clear_49 : decode cX0_clear 49 = .ok (.if_icmp .ge 108, 3) := dk_162 0 108 (dk_at dksX0_clear_2 3 rfl rfl)
theorem dX0_clear_52 : decode cX0_clear 52 = .ok (.aload_n 0, 1) := dk_42 (dk_at dksX0_clear_2 6 rfl rfl)
theorem dX0_clear_53 : decode cX0_clear 53 = .ok (.getfield 23, 3) := dk_180 0 23 (dk_at dksX0_clear_2 7 rfl rfl)
theorem dX0_clear_56 : decode cX0_clear 56 = .ok (.aload_n 0, 1) := dk_42 (dk_at dksX0_clear_2 10 rfl rfl)
theorem dX0_clear_57 : decode cX0_clear 57 = .ok (.getfield 19, 3) := dk_180 0 19 (dk_at dksX0_clear_2 11 rfl rfl)
theorem dX0_clear_60 : decode cX0_clear 60 = .ok (.invokevirtual 269, 3) := dk_182 1 13 (dk_at dksX0_clear_2 14 rfl rfl)
theorem dX0_clear_63 : decode cX0_clear 63 = .ok (.iload 5, 2) := dk_21 5 (dk_at dksX0_clear_2 17 rfl rfl)
theorem dX0_clear_65 : decode cX0_clear 65 = .ok (.iconst (-1), 1) := dk_2 (dk_at dksX0_clear_2 19 rfl rfl)
theorem dX0_clear_66 : decode cX0_clear 66 = .ok (.if_icmp .ne 7, 3) := dk_160 0 7 (dk_at dksX0_clear_2 20 rfl rfl)
theorem dX0_clear_69 : decode cX0_clear 69 = .ok (.iconst 0, 1) := dk_3 (dk_at dksX0_clear_2 23 rfl rfl)
theorem dX0_clear_70 : decode cX0_clear 70 = .ok (.goto 13, 3) := dk_167 0 13 (dk_at dksX0_clear_3 0 rfl rfl)
theorem dX0_clear_73 : decode cX0_clear 73 = .ok (.aload_n 0, 1) := dk_42 (dk_at dksX0_clear_3 3 rfl rfl)
theorem dX0_clear_74 : decode cX0_clear 74 = .ok (.getfield 23, 3) := dk_180 0 23 (dk_at dksX0_clear_3 4 rfl rfl)
theorem dX0_clear_77 : decode cX0_clear 77 = .ok (.getfield 151, 3) := dk_180 0 151 (dk_at dksX0_clear_3 7 rfl rfl)
theorem dX0_clear_80 : decode cX0_clear 80 = .ok (.iload 5, 2) := dk_21 5 (dk_at dksX0_clear_3 10 rfl rfl)
theorem dX0_clear_82 : decode cX0_clear 82 = .ok (.iaload, 1) := dk_46 (dk_at dksX0_clear_3 12 rfl rfl)
theorem dX0_clear_83 : decode cX0_clear 83 = .ok (.istore 6, 2) := dk_54 6 (dk_at dksX0_clear_3 13 rfl rfl)
theorem dX0_clear_85 : decode cX0_clear 85 = .ok (.iload 5, 2) := dk_21 5 (dk_at dksX0_clear_3 15 rfl rfl)
theorem dX0_clear_87 : decode cX0_clear 87 = .ok (.iconst (-1), 1) := dk_2 (dk_at dksX0_clear_3 17 rfl rfl)
theorem dX0_clear_88 : decode cX0_clear 88 = .ok (.if_icmp .eq 25, 3) := dk_159 0 25 (dk_at dksX0_clear_3 18 rfl rfl)
theorem dX0_clear_91 : decode cX0_clear 91 = .ok (.aload_n 0, 1) := dk_42 (dk_at dksX0_clear_3 21 rfl rfl)
theorem dX0_clear_92 : decode cX0_clear 92 = .ok (.getfield 23, 3) := dk_180 0 23 (dk_at dksX0_clear_4 0 rfl rfl)
theorem dX0_clear_95 : decode cX0_clear 95 = .ok (.getfield 151, 3) := dk_180 0 151 (dk_at dksX0_clear_4 3 rfl rfl)
theorem dX0_clear_98 : decode cX0_clear 98 = .ok (.iload 5, 2) := dk_21 5 (dk_at dksX0_clear_4 6 rfl rfl)
theorem dX0_clear_100 : decode cX0_clear 100 = .ok (.iconst 0, 1) := dk_3 (dk_at dksX0_clear_4 8 rfl rfl)
theorem dX0_clear_101 : decode cX0_clear 101 = .ok (.iastore, 1) := dk_79 (dk_at dksX0_clear_4 9 rfl rfl)
theorem dX0_clear_102 : decode cX0_clear 102 = .ok (.aload_n 0, 1) := dk_42 (dk_at dksX0_clear_4 10 rfl rfl)
theorem dX0_clear_103 : decode cX0_clear 103 = .ok (.getfield 23, 3) := dk_180 0 23 (dk_at dksX0_clear_4 11 rfl rfl)
theorem dX0_clear_106 : decode cX0_clear 106 = .ok (.getfield 154, 3) := dk_180 0 154 (dk_at dksX0_clear_4 14 rfl rfl)
theorem dX0_clear_109 : decode cX0_clear 109 = .ok (.iload 5, 2) := dk_21 5 (dk_at dksX0_clear_4 17 rfl rfl)
theorem dX0_clear_111 : decode cX0_clear 111 = .ok (.iconst 0, 1) := dk_3 (dk_at dksX0_clear_4 19 rfl rfl)
theorem dX0_clear_112 : decode cX0_clear 112 = .ok (.iastore, 1) := dk_79 (dk_at dksX0_clear_4 20 rfl rfl)
theorem dX0_clear_113 : decode cX0_clear 113 = .ok (.aload_n 0, 1) := dk_42 (dk_at dksX0_clear_4 21 rfl rfl)
theorem dX0_clear_114 : decode cX0_clear 114 = .ok (.iload_n 1, 1) := dk_27 (dk_at dksX0_clear_4 22 rfl rfl)
theorem dX0_clear_115 : decode cX0_clear 115 = .ok (.invokevirtual 288, 3) := dk_182 1 32 (dk_at dksX0_clear_5 0 rfl rfl)
theorem dX0_clear_118 : decode cX0_clear 118 = .ok (.iload 6, 2) := dk_21 6 (dk_at dksX0_clear_5 3 rfl rfl)
theorem dX0_clear_120 : decode cX0_clear 120 = .ok (.aload_n 0, 1) := dk_42 (dk_at dksX0_clear_5 5 rfl rfl)
theorem dX0_clear_121 : decode cX0_clear 121 = .ok (.getfield 23, 3) := dk_180 0 23 (dk_at dksX0_clear_5 6 rfl rfl)
theorem dX0_clear_124 : decode cX0_clear 124 = .ok (.invokevirtual 291, 3) := dk_182 1 35 (dk_at dksX0_clear_5 9 rfl rfl)
theorem dX0_clear_127 : decode cX0_clear 127 = .ok (.iadd, 1) := dk_96 (dk_at dksX0_clear_5 12 rfl rfl)
theorem dX0_clear_128 : decode cX0_clear 128 = .ok (.iload 4, 2) := dk_21 4 (dk_at dksX0_clear_5 13 rfl rfl)
theorem dX0_clear_130 : decode cX0_clear 130 = .ok (.if_icmp .gt 6, 3) := dk_163 0 6 (dk_at dksX0_clear_5 15 rfl rfl)
theorem dX0_clear_133 : decode cX0_clear 133 = .ok (.goto 18, 3) := dk_167 0 18 (dk_at dksX0_clear_5 18 rfl rfl)
theorem dX0_clear_136 : decode cX0_clear 136 = .ok (.iload 5, 2) := dk_21 5 (dk_at dksX0_clear_5 21 rfl rfl)
theorem dX0_clear_138 : decode cX0_clear 138 = .ok (.istore_n 3, 1) := dk_62 (dk_at dksX0_clear_5 23 rfl rfl)
theorem dX0_clear_139 : decode cX0_clear 139 = .ok (.iload 6, 2) := dk_21 6 (dk_at dksX0_clear_6 0 rfl rfl)
theorem dX0_clear_141 : decode cX0_clear 141 = .ok (.aload_n 0, 1) := dk_42 (dk_at dksX0_clear_6 2 rfl rfl)
theorem dX0_clear_142 : decode cX0_clear 142 = .ok (.getfield 23, 3) := dk_180 0 23 (dk_at dksX0_clear_6 3 rfl rfl)
theorem dX0_clear_145 : decode cX0_clear 145 = .ok (.invokevirtual 291, 3) := dk_182 1 35 (dk_at dksX0_clear_6 6 rfl rfl)
theorem dX0_clear_148 : decode cX0_clear 148 = .ok (.iadd, 1) := dk_96 (dk_at dksX0_clear_6 9 rfl rfl)
theorem dX0_clear_149 : decode cX0_clear 149 = .ok (.istore 4, 2) := dk_54 4 (dk_at dksX0_clear_6 10 rfl rfl)
theorem dX0_clear_151 : decode cX0_clear 151 = .ok (.iinc 5 1, 3) := dk_132 5 1 (dk_at dksX0_clear_6 12 rfl rfl)
theorem dX0_clear_154 : decode cX0_clear 154 = .ok (.goto (-114), 3) := dk_167 255 142 (dk_at dksX0_clear_6 15 rfl rfl)
theorem dX0_clear_157 : decode cX0_clear 157 = .ok (.iload_n 2, 1) := dk_28 (dk_at dksX0_clear_6 18 rfl rfl)
theorem dX0_clear_158 : decode cX0_clear 158 = .ok (.ifCond .ne 7, 3) := dk_154 0 7 (dk_at dksX0_clear_6 19 rfl rfl)
theorem dX0_clear_161 : decode cX0_clear 161 = .ok (.iload_n 3, 1) := dk_29 (dk_at dksX0_clear_6 22 rfl rfl)
theorem dX0_clear_162 : decode cX0_clear 162 = .ok (.goto 5, 3) := dk_167 0 5 (dk_at dksX0_clear_7 0 rfl rfl)
theorem dX0_clear_165 : decode cX0_clear 165 = .ok (.iload 4, 2) := dk_21 4 (dk_at dksX0_clear_7 3 rfl rfl)
theorem dX0_clear_167 : decode cX0_clear 167 = .ok (.ireturn, 1) := dk_172 (dk_at dksX0_clear_7 5 rfl rfl)
abbrev cX0_silent : ByteArray := prog_1_method_45_code
def yX0_silent : MethodName := ⟨RX0, "silent", "(II)I"⟩
def dkwX0_silent_8 : List UInt8 := [29, 167, 0, 5, 21, 4, 172]
abbrev dktX0_silent_8 : List UInt8 := dkwX0_silent_8 ++ []
def dkwX0_silent_7 : List UInt8 := [54, 4, 132, 5, 1, 167, 255, 132, 28, 154, 0, 10, 29, 184, 0, 183, 167, 0, 14, 28, 4, 160, 0, 7]
abbrev dktX0_silent_7 : List UInt8 := dkwX0_silent_7 ++ dktX0_silent_8
def dkwX0_silent_6 : List UInt8 := [184, 0, 183, 29, 184, 0, 183, 161, 0, 6, 167, 0, 15, 21, 5, 62, 42, 180, 0, 23, 182, 1, 35]
abbrev dktX0_silent_6 : List UInt8 := dkwX0_silent_6 ++ dktX0_silent_7
def dkwX0_silent_5 : List UInt8 := [180, 0, 23, 182, 1, 35, 21, 4, 100, 54, 6, 21, 6, 155, 0, 35, 21, 6, 154, 0, 18, 21, 5]
abbrev dktX0_silent_5 : List UInt8 := dkwX0_silent_5 ++ dktX0_silent_6
def dkwX0_silent_4 : List UInt8 := [180, 0, 23, 180, 0, 157, 21, 6, 3, 79, 132, 6, 1, 167, 255, 220, 42, 27, 182, 1, 32, 42]
abbrev dktX0_silent_4 : List UInt8 := dkwX0_silent_4 ++ dktX0_silent_5
def dkwX0_silent_3 : List UInt8 := [21, 6, 42, 180, 0, 10, 182, 0, 100, 162, 0, 30, 21, 5, 21, 6, 184, 1, 41, 153, 0, 14, 42]
abbrev dktX0_silent_3 : List UInt8 := dkwX0_silent_3 ++ dktX0_silent_4
def dkwX0_silent_2 : List UInt8 := [180, 0, 10, 182, 0, 100, 120, 162, 0, 116, 42, 180, 0, 23, 42, 180, 0, 19, 182, 1, 13, 3, 54, 6]
abbrev dktX0_silent_2 : List UInt8 := dkwX0_silent_2 ++ dktX0_silent_3
def dkwX0_silent_1 : List UInt8 := [20, 1, 28, 184, 0, 104, 154, 0, 5, 2, 172, 3, 62, 2, 54, 4, 3, 54, 5, 21, 5, 4, 42]
abbrev dktX0_silent_1 : List UInt8 := dkwX0_silent_1 ++ dktX0_silent_2
def dkwX0_silent_0 : List UInt8 := [42, 182, 0, 108, 153, 0, 27, 27, 133, 10, 20, 1, 52, 184, 0, 104, 153, 0, 15, 28, 133, 9]
abbrev dktX0_silent_0 : List UInt8 := dkwX0_silent_0 ++ dktX0_silent_1
theorem dksX0_silent_0 : cX0_silent.data.toList.drop 0 = dktX0_silent_0 := by decide +kernel
theorem dksX0_silent_1 : cX0_silent.data.toList.drop 22 = dktX0_silent_1 := dk_seg dksX0_silent_0 22 rfl rfl
theorem dksX0_silent_2 : cX0_silent.data.toList.drop 45 = dktX0_silent_2 := dk_seg dksX0_silent_1 23 rfl rfl
theorem dksX0_silent_3 : cX0_silent.data.toList.drop 69 = dktX0_silent_3 := dk_seg dksX0_silent_2 24 rfl rfl
theorem dksX0_silent_4 : cX0_silent.data.toList.drop 92 = dktX0_silent_4 := dk_seg dksX0_silent_3 23 rfl rfl
theorem dksX0_silent_5 : cX0_silent.data.toList.drop 114 = dktX0_silent_5 := dk_seg dksX0_silent_4 22 rfl rfl
theorem dksX0_silent_6 : cX0_silent.data.toList.drop 137 = dktX0_silent_6 := dk_seg dksX0_silent_5 23 rfl rfl
theorem dksX0_silent_7 : cX0_silent.data.toList.drop 160 = dktX0_silent_7 := dk_seg dksX0_silent_6 23 rfl rfl
theorem dksX0_silent_8 : cX0_silent.data.toList.drop 184 = dktX0_silent_8 := dk_seg dksX0_silent_7 24 rfl rfl
theorem dX0_silent_0 : decode cX0_silent 0 = .ok (.aload_n 0, 1) := dk_42 (dk_at dksX0_silent_0 0 rfl rfl)
theorem dX0_silent_1 : decode cX0_silent 1 = .ok (.invokevirtual 108, 3) := dk_182 0 108 (dk_at dksX0_silent_0 1 rfl rfl)
theorem dX0_silent_4 : decode cX0_silent 4 = .ok (.ifCond .eq 27, 3) := dk_153 0 27 (dk_at dksX0_silent_0 4 rfl rfl)
theorem dX0_silent_7 : decode cX0_silent 7 = .ok (.iload_n 1, 1) := dk_27 (dk_at dksX0_silent_0 7 rfl rfl)
theorem dX0_silent_8 : decode cX0_silent 8 = .ok (.i2l, 1) := dk_133 (dk_at dksX0_silent_0 8 rfl rfl)
theorem dX0_silent_9 : decode cX0_silent 9 = .ok (.lconst 1, 1) := dk_10 (dk_at dksX0_silent_0 9 rfl rfl)
theorem dX0_silent_10 : decode cX0_silent 10 = .ok (.ldc2_w 308, 3) := dk_20 1 52 (dk_at dksX0_silent_0 10 rfl rfl)
theorem dX0_silent_13 : decode cX0_silent 13 = .ok (.invokestatic 104, 3) := dk_184 0 104 (dk_at dksX0_silent_0 13 rfl rfl)
theorem dX0_silent_16 : decode cX0_silent 16 = .ok (.ifCond .eq 15, 3) := dk_153 0 15 (dk_at dksX0_silent_0 16 rfl rfl)
theorem dX0_silent_19 : decode cX0_silent 19 = .ok (.iload_n 2, 1) := dk_28 (dk_at dksX0_silent_0 19 rfl rfl)
theorem dX0_silent_20 : decode cX0_silent 20 = .ok (.i2l, 1) := dk_133 (dk_at dksX0_silent_0 20 rfl rfl)
theorem dX0_silent_21 : decode cX0_silent 21 = .ok (.lconst 0, 1) := dk_9 (dk_at dksX0_silent_0 21 rfl rfl)
theorem dX0_silent_22 : decode cX0_silent 22 = .ok (.ldc2_w 284, 3) := dk_20 1 28 (dk_at dksX0_silent_1 0 rfl rfl)
theorem dX0_silent_25 : decode cX0_silent 25 = .ok (.invokestatic 104, 3) := dk_184 0 104 (dk_at dksX0_silent_1 3 rfl rfl)
theorem dX0_silent_28 : decode cX0_silent 28 = .ok (.ifCond .ne 5, 3) := dk_154 0 5 (dk_at dksX0_silent_1 6 rfl rfl)
theorem dX0_silent_31 : decode cX0_silent 31 = .ok (.iconst (-1), 1) := dk_2 (dk_at dksX0_silent_1 9 rfl rfl)
theorem dX0_silent_32 : decode cX0_silent 32 = .ok (.ireturn, 1) := dk_172 (dk_at dksX0_silent_1 10 rfl rfl)
theorem dX0_silent_33 : decode cX0_silent 33 = .ok (.iconst 0, 1) := dk_3 (dk_at dksX0_silent_1 11 rfl rfl)
theorem dX0_silent_34 : decode cX0_silent 34 = .ok (.istore_n 3, 1) := dk_62 (dk_at dksX0_silent_1 12 rfl rfl)
theorem dX0_silent_35 : decode cX0_silent 35 = .ok (.iconst (-1), 1) := dk_2 (dk_at dksX0_silent_1 13 rfl rfl)
theorem dX0_silent_36 : decode cX0_silent 36 = .ok (.istore 4, 2) := dk_54 4 (dk_at dksX0_silent_1 14 rfl rfl)
theorem dX0_silent_38 : decode cX0_silent 38 = .ok (.iconst 0, 1) := dk_3 (dk_at dksX0_silent_1 16 rfl rfl)
theorem dX0_silent_39 : decode cX0_silent 39 = .ok (.istore 5, 2) := dk_54 5 (dk_at dksX0_silent_1 17 rfl rfl)
theorem dX0_silent_41 : decode cX0_silent 41 = .ok (.iload 5, 2) := dk_21 5 (dk_at dksX0_silent_1 19 rfl rfl)
theorem dX0_silent_43 : decode cX0_silent 43 = .ok (.iconst 1, 1) := dk_4 (dk_at dksX0_silent_1 21 rfl rfl)
theorem dX0_silent_44 : decode cX0_silent 44 = .ok (.aload_n 0, 1) := dk_42 (dk_at dksX0_silent_1 22 rfl rfl)
theorem dX0_silent_45 : decode cX0_silent 45 = .ok (.getfield 10, 3) := dk_180 0 10 (dk_at dksX0_silent_2 0 rfl rfl)
theorem dX0_silent_48 : decode cX0_silent 48 = .ok (.invokevirtual 100, 3) := dk_182 0 100 (dk_at dksX0_silent_2 3 rfl rfl)
theorem dX0_silent_51 : decode cX0_silent 51 = .ok (.ishl, 1) := dk_120 (dk_at dksX0_silent_2 6 rfl rfl)
theorem dX0_silent_52 : decode cX0_silent 52 = .ok (.if_icmp .ge 116, 3) := dk_162 0 116 (dk_at dksX0_silent_2 7 rfl rfl)
theorem dX0_silent_55 : decode cX0_silent 55 = .ok (.aload_n 0, 1) := dk_42 (dk_at dksX0_silent_2 10 rfl rfl)
theorem dX0_silent_56 : decode cX0_silent 56 = .ok (.getfield 23, 3) := dk_180 0 23 (dk_at dksX0_silent_2 11 rfl rfl)
theorem dX0_silent_59 : decode cX0_silent 59 = .ok (.aload_n 0, 1) := dk_42 (dk_at dksX0_silent_2 14 rfl rfl)
theorem dX0_silent_60 : decode cX0_silent 60 = .ok (.getfield 19, 3) := dk_180 0 19 (dk_at dksX0_silent_2 15 rfl rfl)
theorem dX0_silent_63 : decode cX0_silent 63 = .ok (.invokevirtual 269, 3) := dk_182 1 13 (dk_at dksX0_silent_2 18 rfl rfl)
theorem dX0_silent_66 : decode cX0_silent 66 = .ok (.iconst 0, 1) := dk_3 (dk_at dksX0_silent_2 21 rfl rfl)
theorem dX0_silent_67 : decode cX0_silent 67 = .ok (.istore 6, 2) := dk_54 6 (dk_at dksX0_silent_2 22 rfl rfl)
theorem dX0_silent_69 : decode cX0_silent 69 = .ok (.iload 6, 2) := dk_21 6 (dk_at dksX0_silent_3 0 rfl rfl)
theorem dX0_silent_71 : decode cX0_silent 71 = .ok (.aload_n 0, 1) := dk_42 (dk_at dksX0_silent_3 2 rfl rfl)
theorem dX0_silent_72 : decode cX0_silent 72 = .ok (.getfield 10, 3) := dk_180 0 10 (dk_at dksX0_silent_3 3 rfl rfl)
theorem dX0_silent_75 : decode cX0_silent 75 = .ok (.invokevirtual 100, 3) := dk_182 0 100 (dk_at dksX0_silent_3 6 rfl rfl)
theorem dX0_silent_78 : decode cX0_silent 78 = .ok (.if_icmp .ge 30, 3) := dk_162 0 30 (dk_at dksX0_silent_3 9 rfl rfl)
theorem dX0_silent_81 : decode cX0_silent 81 = .ok (.iload 5, 2) := dk_21 5 (dk_at dksX0_silent_3 12 rfl rfl)
theorem dX0_silent_83 : decode cX0_silent 83 = .ok (.iload 6, 2) := dk_21 6 (dk_at dksX0_silent_3 14 rfl rfl)
theorem dX0_silent_85 : decode cX0_silent 85 = .ok (.invokestatic 297, 3) := dk_184 1 41 (dk_at dksX0_silent_3 16 rfl rfl)
theorem dX0_silent_88 : decode cX0_silent 88 = .ok (.ifCond .eq 14, 3) := dk_153 0 14 (dk_at dksX0_silent_3 19 rfl rfl)
theorem dX0_silent_91 : decode cX0_silent 91 = .ok (.aload_n 0, 1) := dk_42 (dk_at dksX0_silent_3 22 rfl rfl)
theorem dX0_silent_92 : decode cX0_silent 92 = .ok (.getfield 23, 3) := dk_180 0 23 (dk_at dksX0_silent_4 0 rfl rfl)
theorem dX0_silent_95 : decode cX0_silent 95 = .ok (.getfield 157, 3) := dk_180 0 157 (dk_at dksX0_silent_4 3 rfl rfl)
theorem dX0_silent_98 : decode cX0_silent 98 = .ok (.iload 6, 2) := dk_21 6 (dk_at dksX0_silent_4 6 rfl rfl)
theorem dX0_silent_100 : decode cX0_silent 100 = .ok (.iconst 0, 1) := dk_3 (dk_at dksX0_silent_4 8 rfl rfl)
theorem dX0_silent_101 : decode cX0_silent 101 = .ok (.iastore, 1) := dk_79 (dk_at dksX0_silent_4 9 rfl rfl)
theorem dX0_silent_102 : decode cX0_silent 102 = .ok (.iinc 6 1, 3) := dk_132 6 1 (dk_at dksX0_silent_4 10 rfl rfl)
theorem dX0_silent_105 : decode cX0_silent 105 = .ok (.goto (-36), 3) := dk_167 255 220 (dk_at dksX0_silent_4 13 rfl rfl)
theorem dX0_silent_108 : decode cX0_silent 108 = .ok (.aload_n 0, 1) := dk_42 (dk_at dksX0_silent_4 16 rfl rfl)
theorem dX0_silent_109 : decode cX0_silent 109 = .ok (.iload_n 1, 1) := dk_27 (dk_at dksX0_silent_4 17 rfl rfl)
theorem dX0_silent_110 : decode cX0_silent 110 = .ok (.invokevirtual 288, 3) := dk_182 1 32 (dk_at dksX0_silent_4 18 rfl rfl)
theorem dX0_silent_113 : decode cX0_silent 113 = .ok (.aload_n 0, 1) := dk_42 (dk_at dksX0_silent_4 21 rfl rfl)
theorem dX0_silent_114 : decode cX0_silent 114 = .ok (.getfield 23, 3) := dk_180 0 23 (dk_at dksX0_silent_5 0 rfl rfl)
theorem dX0_silent_117 : decode cX0_silent 117 = .ok (.invokevirtual 291, 3) := dk_182 1 35 (dk_at dksX0_silent_5 3 rfl rfl)
theorem dX0_silent_120 : decode cX0_silent 120 = .ok (.iload 4, 2) := dk_21 4 (dk_at dksX0_silent_5 6 rfl rfl)
theorem dX0_silent_122 : decode cX0_silent 122 = .ok (.isub, 1) := dk_100 (dk_at dksX0_silent_5 8 rfl rfl)
theorem dX0_silent_123 : decode cX0_silent 123 = .ok (.istore 6, 2) := dk_54 6 (dk_at dksX0_silent_5 9 rfl rfl)
theorem dX0_silent_125 : decode cX0_silent 125 = .ok (.iload 6, 2) := dk_21 6 (dk_at dksX0_silent_5 11 rfl rfl)
theorem dX0_silent_127 : decode cX0_silent 127 = .ok (.ifCond .lt 35, 3) := dk_155 0 35 (dk_at dksX0_silent_5 13 rfl rfl)
theorem dX0_silent_130 : decode cX0_silent 130 = .ok (.iload 6, 2) := dk_21 6 (dk_at dksX0_silent_5 16 rfl rfl)
theorem dX0_silent_132 : decode cX0_silent 132 = .ok (.ifCond .ne 18, 3) := dk_154 0 18 (dk_at dksX0_silent_5 18 rfl rfl)
theorem dX0_silent_135 : decode cX0_silent 135 = .ok (.iload 5, 2) := dk_21 5 (dk_at dksX0_silent_5 21 rfl rfl)
theorem dX0_silent_137 : decode cX0_silent 137 = .ok (.invokestatic 183, 3) := dk_184 0 183 (dk_at dksX0_silent_6 0 rfl rfl)
theorem dX0_silent_140 : decode cX0_silent 140 = .ok (.iload_n 3, 1) := dk_29 (dk_at dksX0_silent_6 3 rfl rfl)
theorem dX0_silent_141 : decode cX0_silent 141 = .ok (.invokestatic 183, 3) := dk_184 0 183 (dk_at dksX0_silent_6 4 rfl rfl)
theorem dX0_silent_144 : decode cX0_silent 144 = .ok (.if_icmp .lt 6, 3) := dk_161 0 6 (dk_at dksX0_silent_6 7 rfl rfl)
theorem dX0_silent_147 : decode cX0_silent 147 = .ok (.goto 15, 3) := dk_167 0 15 (dk_at dksX0_silent_6 10 rfl rfl)
theorem dX0_silent_150 : decode cX0_silent 150 = .ok (.iload 5, 2) := dk_21 5 (dk_at dksX0_silent_6 13 rfl rfl)
theorem dX0_silent_152 : decode cX0_silent 152 = .ok (.istore_n 3, 1) := dk_62 (dk_at dksX0_silent_6 15 rfl rfl)
theorem dX0_silent_153 : decode cX0_silent 153 = .ok (.aload_n 0, 1) := dk_42 (dk_at dksX0_silent_6 16 rfl rfl)
theorem dX0_silent_154 : decode cX0_silent 154 = .ok (.getfield 23, 3) := dk_180 0 23 (dk_at dksX0_silent_6 17 rfl rfl)
theorem dX0_silent_157 : decode cX0_silent 157 = .ok (.invokevirtual 291, 3) := dk_182 1 35 (dk_at dksX0_silent_6 20 rfl rfl)
theorem dX0_silent_160 : decode cX0_silent 160 = .ok (.istore 4, 2) := dk_54 4 (dk_at dksX0_silent_7 0 rfl rfl)
theorem dX0_silent_162 : decode cX0_silent 162 = .ok (.iinc 5 1, 3) := dk_132 5 1 (dk_at dksX0_silent_7 2 rfl rfl)
theorem dX0_silent_165 : decode cX0_silent 165 = .ok (.goto (-124), 3) := dk_167 255 132 (dk_at dksX0_silent_7 5 rfl rfl)
theorem dX0_silent_168 : decode cX0_silent 168 = .ok (.iload_n 2, 1) := dk_28 (dk_at dksX0_silent_7 8 rfl rfl)
theorem dX0_silent_169 : decode cX0_silent 169 = .ok (.ifCond .ne 10, 3) := dk_154 0 10 (dk_at dksX0_silent_7 9 rfl rfl)
theorem dX0_silent_172 : decode cX0_silent 172 = .ok (.iload_n 3, 1) := dk_29 (dk_at dksX0_silent_7 12 rfl rfl)
theorem dX0_silent_173 : decode cX0_silent 173 = .ok (.invokestatic 183, 3) := dk_184 0 183 (dk_at dksX0_silent_7 13 rfl rfl)
theorem dX0_silent_176 : decode cX0_silent 176 = .ok (.goto 14, 3) := dk_167 0 14 (dk_at dksX0_silent_7 16 rfl rfl)
theorem dX0_silent_179 : decode cX0_silent 179 = .ok (.iload_n 2, 1) := dk_28 (dk_at dksX0_silent_7 19 rfl rfl)
theorem dX0_silent_180 : decode cX0_silent 180 = .ok (.iconst 1, 1) := dk_4 (dk_at dksX0_silent_7 20 rfl rfl)
theorem dX0_silent_181 : decode cX0_silent 181 = .ok (.if_icmp .ne 7, 3) := dk_160 0 7 (dk_at dksX0_silent_7 21 rfl rfl)
theorem dX0_silent_184 : decode cX0_silent 184 = .ok (.iload_n 3, 1) := dk_29 (dk_at dksX0_silent_8 0 rfl rfl)
theorem dX0_silent_185 : decode cX0_silent 185 = .ok (.goto 5, 3) := dk_167 0 5 (dk_at dksX0_silent_8 1 rfl rfl)
theorem dX0_silent_188 : decode cX0_silent 188 = .ok (.iload 4, 2) := dk_21 4 (dk_at dksX0_silent_8 4 rfl rfl)
theorem dX0_silent_190 : decode cX0_silent 190 = .ok (.ireturn, 1) := dk_172 (dk_at dksX0_silent_8 6 rfl rfl)
abbrev cX0_pence : ByteArray := prog_1_method_46_code
def yX0_pence : MethodName := ⟨RX0, "pence", "(II)I"⟩
def dkwX0_pence_6 : List UInt8 := [108, 21, 5, 21, 4, 162, 0, 7, 4, 167, 0, 4, 3, 184, 0, 173, 96, 172]
abbrev dktX0_pence_6 : List UInt8 := dkwX0_pence_6 ++ []
def dkwX0_pence_5 : List UInt8 := [28, 162, 0, 7, 4, 167, 0, 4, 3, 184, 0, 173, 96, 54, 5, 132, 7, 1, 167, 255, 177, 21, 6, 29]
abbrev dktX0_pence_5 : List UInt8 := dkwX0_pence_5 ++ dktX0_pence_6
def dkwX0_pence_4 : List UInt8 := [21, 8, 29, 112, 21, 6, 29, 112, 163, 0, 20, 21, 8, 29, 112, 21, 6, 29, 112, 160, 0, 13, 21, 7]
abbrev dktX0_pence_4 : List UInt8 := dkwX0_pence_4 ++ dktX0_pence_5
def dkwX0_pence_3 : List UInt8 := [42, 180, 0, 19, 180, 1, 64, 21, 7, 46, 104, 54, 8, 21, 4, 21, 8, 29, 108, 100, 54, 4, 21, 5]
abbrev dktX0_pence_3 : List UInt8 := dkwX0_pence_3 ++ dktX0_pence_4
def dkwX0_pence_2 : List UInt8 := [180, 1, 64, 28, 46, 104, 54, 6, 3, 54, 7, 21, 7, 42, 180, 0, 10, 182, 0, 100, 162, 0, 73, 27]
abbrev dktX0_pence_2 : List UInt8 := dkwX0_pence_2 ++ dktX0_pence_3
def dkwX0_pence_1 : List UInt8 := [180, 0, 19, 182, 0, 189, 62, 29, 154, 0, 5, 3, 172, 27, 54, 4, 3, 54, 5, 27, 42, 180, 0, 19]
abbrev dktX0_pence_1 : List UInt8 := dkwX0_pence_1 ++ dktX0_pence_2
def dkwX0_pence_0 : List UInt8 := [42, 28, 182, 0, 147, 153, 0, 15, 27, 133, 9, 20, 1, 62, 184, 0, 104, 154, 0, 5, 2, 172, 42]
abbrev dktX0_pence_0 : List UInt8 := dkwX0_pence_0 ++ dktX0_pence_1
theorem dksX0_pence_0 : cX0_pence.data.toList.drop 0 = dktX0_pence_0 := by decide +kernel
theorem dksX0_pence_1 : cX0_pence.data.toList.drop 23 = dktX0_pence_1 := dk_seg dksX0_pence_0 23 rfl rfl
theorem dksX0_pence_2 : cX0_pence.data.toList.drop 47 = dktX0_pence_2 := dk_seg dksX0_pence_1 24 rfl rfl
theorem dksX0_pence_3 : cX0_pence.data.toList.drop 71 = dktX0_pence_3 := dk_seg dksX0_pence_2 24 rfl rfl
theorem dksX0_pence_4 : cX0_pence.data.toList.drop 95 = dktX0_pence_4 := dk_seg dksX0_pence_3 24 rfl rfl
theorem dksX0_pence_5 : cX0_pence.data.toList.drop 119 = dktX0_pence_5 := dk_seg dksX0_pence_4 24 rfl rfl
theorem dksX0_pence_6 : cX0_pence.data.toList.drop 143 = dktX0_pence_6 := dk_seg dksX0_pence_5 24 rfl rfl
theorem dX0_pence_0 : decode cX0_pence 0 = .ok (.aload_n 0, 1) := dk_42 (dk_at dksX0_pence_0 0 rfl rfl)
theorem dX0_pence_1 : decode cX0_pence 1 = .ok (.iload_n 2, 1) := dk_28 (dk_at dksX0_pence_0 1 rfl rfl)
theorem dX0_pence_2 : decode cX0_pence 2 = .ok (.invokevirtual 147, 3) := dk_182 0 147 (dk_at dksX0_pence_0 2 rfl rfl)
theorem dX0_pence_5 : decode cX0_pence 5 = .ok (.ifCond .eq 15, 3) := dk_153 0 15 (dk_at dksX0_pence_0 5 rfl rfl)
theorem dX0_pence_8 : decode cX0_pence 8 = .ok (.iload_n 1, 1) := dk_27 (dk_at dksX0_pence_0 8 rfl rfl)
theorem dX0_pence_9 : decode cX0_pence 9 = .ok (.i2l, 1) := dk_133 (dk_at dksX0_pence_0 9 rfl rfl)
theorem dX0_pence_10 : decode cX0_pence 10 = .ok (.lconst 0, 1) := dk_9 (dk_at dksX0_pence_0 10 rfl rfl)
theorem dX0_pence_11 : decode cX0_pence 11 = .ok (.ldc2_w 318, 3) := dk_20 1 62 (dk_at dksX0_pence_0 11 rfl rfl)
theorem dX0_pence_14 : decode cX0_pence 14 = .ok (.invokestatic 104, 3) := dk_184 0 104 (dk_at dksX0_pence_0 14 rfl rfl)
theorem dX0_pence_17 : decode cX0_pence 17 = .ok (.ifCond .ne 5, 3) := dk_154 0 5 (dk_at dksX0_pence_0 17 rfl rfl)
theorem dX0_pence_20 : decode cX0_pence 20 = .ok (.iconst (-1), 1) := dk_2 (dk_at dksX0_pence_0 20 rfl rfl)
theorem dX0_pence_21 : decode cX0_pence 21 = .ok (.ireturn, 1) := dk_172 (dk_at dksX0_pence_0 21 rfl rfl)
theorem dX0_pence_22 : decode cX0_pence 22 = .ok (.aload_n 0, 1) := dk_42 (dk_at dksX0_pence_0 22 rfl rfl)
theorem dX0_pence_23 : decode cX0_pence 23 = .ok (.getfield 19, 3) := dk_180 0 19 (dk_at dksX0_pence_1 0 rfl rfl)
theorem dX0_pence_26 : decode cX0_pence 26 = .ok (.invokevirtual 189, 3) := dk_182 0 189 (dk_at dksX0_pence_1 3 rfl rfl)
theorem dX0_pence_29 : decode cX0_pence 29 = .ok (.istore_n 3, 1) := dk_62 (dk_at dksX0_pence_1 6 rfl rfl)
theorem dX0_pence_30 : decode cX0_pence 30 = .ok (.iload_n 3, 1) := dk_29 (dk_at dksX0_pence_1 7 rfl rfl)
theorem dX0_pence_31 : decode cX0_pence 31 = .ok (.ifCond .ne 5, 3) := dk_154 0 5 (dk_at dksX0_pence_1 8 rfl rfl)
theorem dX0_pence_34 : decode cX0_pence 34 = .ok (.iconst 0, 1) := dk_3 (dk_at dksX0_pence_1 11 rfl rfl)
theorem dX0_pence_35 : decode cX0_pence 35 = .ok (.ireturn, 1) := dk_172 (dk_at dksX0_pence_1 12 rfl rfl)
theorem dX0_pence_36 : decode cX0_pence 36 = .ok (.iload_n 1, 1) := dk_27 (dk_at dksX0_pence_1 13 rfl rfl)
theorem dX0_pence_37 : decode cX0_pence 37 = .ok (.istore 4, 2) := dk_54 4 (dk_at dksX0_pence_1 14 rfl rfl)
theorem dX0_pence_39 : decode cX0_pence 39 = .ok (.iconst 0, 1) := dk_3 (dk_at dksX0_pence_1 16 rfl rfl)
theorem dX0_pence_40 : decode cX0_pence 40 = .ok (.istore 5, 2) := dk_54 5 (dk_at dksX0_pence_1 17 rfl rfl)
theorem dX0_pence_42 : decode cX0_pence 42 = .ok (.iload_n 1, 1) := dk_27 (dk_at dksX0_pence_1 19 rfl rfl)
theorem dX0_pence_43 : decode cX0_pence 43 = .ok (.aload_n 0, 1) := dk_42 (dk_at dksX0_pence_1 20 rfl rfl)
theorem dX0_pence_44 : decode cX0_pence 44 = .ok (.getfield 19, 3) := dk_180 0 19 (dk_at dksX0_pence_1 21 rfl rfl)
theorem dX0_pence_47 : decode cX0_pence 47 = .ok (.getfield 320, 3) := dk_180 1 64 (dk_at dksX0_pence_2 0 rfl rfl)
theorem dX0_pence_50 : decode cX0_pence 50 = .ok (.iload_n 2, 1) := dk_28 (dk_at dksX0_pence_2 3 rfl rfl)
theorem dX0_pence_51 : decode cX0_pence 51 = .ok (.iaload, 1) := dk_46 (dk_at dksX0_pence_2 4 rfl rfl)
theorem dX0_pence_52 : decode cX0_pence 52 = .ok (.imul, 1) := dk_104 (dk_at dksX0_pence_2 5 rfl rfl)
theorem dX0_pence_53 : decode cX0_pence 53 = .ok (.istore 6, 2) := dk_54 6 (dk_at dksX0_pence_2 6 rfl rfl)
theorem dX0_pence_55 : decode cX0_pence 55 = .ok (.iconst 0, 1) := dk_3 (dk_at dksX0_pence_2 8 rfl rfl)
theorem dX0_pence_56 : decode cX0_pence 56 = .ok (.istore 7, 2) := dk_54 7 (dk_at dksX0_pence_2 9 rfl rfl)
theorem dX0_pence_58 : decode cX0_pence 58 = .ok (.iload 7, 2) := dk_21 7 (dk_at dksX0_pence_2 11 rfl rfl)
theorem dX0_pence_60 : decode cX0_pence 60 = .ok (.aload_n 0, 1) := dk_42 (dk_at dksX0_pence_2 13 rfl rfl)
theorem dX0_pence_61 : decode cX0_pence 61 = .ok (.getfield 10, 3) := dk_180 0 10 (dk_at dksX0_pence_2 14 rfl rfl)
theorem dX0_pence_64 : decode cX0_pence 64 = .ok (.invokevirtual 100, 3) := dk_182 0 100 (dk_at dksX0_pence_2 17 rfl rfl)
theorem dX0_pence_67 : decode cX0_pence 67 = .ok (.if_icmp .ge 73, 3) := dk_162 0 73 (dk_at dksX0_pence_2 20 rfl rfl)
theorem dX0_pence_70 : decode cX0_pence 70 = .ok (.iload_n 1, 1) := dk_27 (dk_at dksX0_pence_2 23 rfl rfl)
theorem dX0_pence_71 : decode cX0_pence 71 = .ok (.aload_n 0, 1) := dk_42 (dk_at dksX0_pence_3 0 rfl rfl)
theorem dX0_pence_72 : decode cX0_pence 72 = .ok (.getfield 19, 3) := dk_180 0 19 (dk_at dksX0_pence_3 1 rfl rfl)
theorem dX0_pence_75 : decode cX0_pence 75 = .ok (.getfield 320, 3) := dk_180 1 64 (dk_at dksX0_pence_3 4 rfl rfl)
theorem dX0_pence_78 : decode cX0_pence 78 = .ok (.iload 7, 2) := dk_21 7 (dk_at dksX0_pence_3 7 rfl rfl)
theorem dX0_pence_80 : decode cX0_pence 80 = .ok (.iaload, 1) := dk_46 (dk_at dksX0_pence_3 9 rfl rfl)
theorem dX0_pence_81 : decode cX0_pence 81 = .ok (.imul, 1) := dk_104 (dk_at dksX0_pence_3 10 rfl rfl)
theorem dX0_pence_82 : decode cX0_pence 82 = .ok (.istore 8, 2) := dk_54 8 (dk_at dksX0_pence_3 11 rfl rfl)
theorem dX0_pence_84 : decode cX0_pence 84 = .ok (.iload 4, 2) := dk_21 4 (dk_at dksX0_pence_3 13 rfl rfl)
theorem dX0_pence_86 : decode cX0_pence 86 = .ok (.iload 8, 2) := dk_21 8 (dk_at dksX0_pence_3 15 rfl rfl)
theorem dX0_pence_88 : decode cX0_pence 88 = .ok (.iload_n 3, 1) := dk_29 (dk_at dksX0_pence_3 17 rfl rfl)
theorem dX0_pence_89 : decode cX0_pence 89 = .ok (.idiv, 1) := dk_108 (dk_at dksX0_pence_3 18 rfl rfl)
theorem dX0_pence_90 : decode cX0_pence 90 = .ok (.isub, 1) := dk_100 (dk_at dksX0_pence_3 19 rfl rfl)
theorem dX0_pence_91 : decode cX0_pence 91 = .ok (.istore 4, 2) := dk_54 4 (dk_at dksX0_pence_3 20 rfl rfl)
theorem dX0_pence_93 : decode cX0_pence 93 = .ok (.iload 5, 2) := dk_21 5 (dk_at dksX0_pence_3 22 rfl rfl)
theorem dX0_pence_95 : decode cX0_pence 95 = .ok (.iload 8, 2) := dk_21 8 (dk_at dksX0_pence_4 0 rfl rfl)
theorem dX0_pence_97 : decode cX0_pence 97 = .ok (.iload_n 3, 1) := dk_29 (dk_at dksX0_pence_4 2 rfl rfl)
theorem dX0_pence_98 : decode cX0_pence 98 = .ok (.irem, 1) := dk_112 (dk_at dksX0_pence_4 3 rfl rfl)
theorem dX0_pence_99 : decode cX0_pence 99 = .ok (.iload 6, 2) := dk_21 6 (dk_at dksX0_pence_4 4 rfl rfl)
theorem dX0_pence_101 : decode cX0_pence 101 = .ok (.iload_n 3, 1) := dk_29 (dk_at dksX0_pence_4 6 rfl rfl)
theorem dX0_pence_102 : decode cX0_pence 102 = .ok (.irem, 1) := dk_112 (dk_at dksX0_pence_4 7 rfl rfl)
theorem dX0_pence_103 : decode cX0_pence 103 = .ok (.if_icmp .gt 20, 3) := dk_163 0 20 (dk_at dksX0_pence_4 8 rfl rfl)
theorem dX0_pence_106 : decode cX0_pence 106 = .ok (.iload 8, 2) := dk_21 8 (dk_at dksX0_pence_4 11 rfl rfl)
theorem dX0_pence_108 : decode cX0_pence 108 = .ok (.iload_n 3, 1) := dk_29 (dk_at dksX0_pence_4 13 rfl rfl)
theorem dX0_pence_109 : decode cX0_pence 109 = .ok (.irem, 1) := dk_112 (dk_at dksX0_pence_4 14 rfl rfl)
theorem dX0_pence_110 : decode cX0_pence 110 = .ok (.iload 6, 2) := dk_21 6 (dk_at dksX0_pence_4 15 rfl rfl)
theorem dX0_pence_112 : decode cX0_pence 112 = .ok (.iload_n 3, 1) := dk_29 (dk_at dksX0_pence_4 17 rfl rfl)
theorem dX0_pence_113 : decode cX0_pence 113 = .ok (.irem, 1) := dk_112 (dk_at dksX0_pence_4 18 rfl rfl)
theorem dX0_pence_114 : decode cX0_pence 114 = .ok (.if_icmp .ne 13, 3) := dk_160 0 13 (dk_at dksX0_pence_4 19 rfl rfl)
theorem dX0_pence_117 : decode cX0_pence 117 = .ok (.iload 7, 2) := dk_21 7 (dk_at dksX0_pence_4 22 rfl rfl)
theorem dX0_pence_119 : decode cX0_pence 119 = .ok (.iload_n 2, 1) := dk_28 (dk_at dksX0_pence_5 0 rfl rfl)
theorem dX0_pence_120 : decode cX0_pence 120 = .ok (.if_icmp .ge 7, 3) := dk_162 0 7 (dk_at dksX0_pence_5 1 rfl rfl)
theorem dX0_pence_123 : decode cX0_pence 123 = .ok (.iconst 1, 1) := dk_4 (dk_at dksX0_pence_5 4 rfl rfl)
theorem dX0_pence_124 : decode cX0_pence 124 = .ok (.goto 4, 3) := dk_167 0 4 (dk_at dksX0_pence_5 5 rfl rfl)
theorem dX0_pence_127 : decode cX0_pence 127 = .ok (.iconst 0, 1) := dk_3 (dk_at dksX0_pence_5 8 rfl rfl)
theorem dX0_pence_128 : decode cX0_pence 128 = .ok (.invokestatic 173, 3) := dk_184 0 173 (dk_at dksX0_pence_5 9 rfl rfl)
theorem dX0_pence_131 : decode cX0_pence 131 = .ok (.iadd, 1) := dk_96 (dk_at dksX0_pence_5 12 rfl rfl)
theorem dX0_pence_132 : decode cX0_pence 132 = .ok (.istore 5, 2) := dk_54 5 (dk_at dksX0_pence_5 13 rfl rfl)
theorem dX0_pence_134 : decode cX0_pence 134 = .ok (.iinc 7 1, 3) := dk_132 7 1 (dk_at dksX0_pence_5 15 rfl rfl)
theorem dX0_pence_137 : decode cX0_pence 137 = .ok (.goto (-79), 3) := dk_167 255 177 (dk_at dksX0_pence_5 18 rfl rfl)
theorem dX0_pence_140 : decode cX0_pence 140 = .ok (.iload 6, 2) := dk_21 6 (dk_at dksX0_pence_5 21 rfl rfl)
theorem dX0_pence_142 : decode cX0_pence 142 = .ok (.iload_n 3, 1) := dk_29 (dk_at dksX0_pence_5 23 rfl rfl)
theorem dX0_pence_143 : decode cX0_pence 143 = .ok (.idiv, 1) := dk_108 (dk_at dksX0_pence_6 0 rfl rfl)
theorem dX0_pence_144 : decode cX0_pence 144 = .ok (.iload 5, 2) := dk_21 5 (dk_at dksX0_pence_6 1 rfl rfl)
theorem dX0_pence_146 : decode cX0_pence 146 = .ok (.iload 4, 2) := dk_21 4 (dk_at dksX0_pence_6 3 rfl rfl)
theorem dX0_pence_148 : decode cX0_pence 148 = .ok (.if_icmp .ge 7, 3) := dk_162 0 7 (dk_at dksX0_pence_6 5 rfl rfl)
theorem dX0_pence_151 : decode cX0_pence 151 = .ok (.iconst 1, 1) := dk_4 (dk_at dksX0_pence_6 8 rfl rfl)
theorem dX0_pence_152 : decode cX0_pence 152 = .ok (.goto 4, 3) := dk_167 0 4 (dk_at dksX0_pence_6 9 rfl rfl)
theorem dX0_pence_155 : decode cX0_pence 155 = .ok (.iconst 0, 1) := dk_3 (dk_at dksX0_pence_6 12 rfl rfl)
theorem dX0_pence_156 : decode cX0_pence 156 = .ok (.invokestatic 173, 3) := dk_184 0 173 (dk_at dksX0_pence_6 13 rfl rfl)
theorem dX0_pence_159 : decode cX0_pence 159 = .ok (.iadd, 1) := dk_96 (dk_at dksX0_pence_6 16 rfl rfl)
theorem dX0_pence_160 : decode cX0_pence 160 = .ok (.ireturn, 1) := dk_172 (dk_at dksX0_pence_6 17 rfl rfl)
abbrev cX0_rests : ByteArray := prog_1_method_49_code
def yX0_rests : MethodName := ⟨RX0, "rests", "(IIII)I"⟩
def dkwX0_rests_6 : List UInt8 := [8, 112, 104, 172]
abbrev dktX0_rests_6 : List UInt8 := dkwX0_rests_6 ++ []
def dkwX0_rests_5 : List UInt8 := [160, 0, 8, 16, 254, 167, 0, 22, 8, 21, 4, 4, 160, 0, 10, 21, 6, 8, 108, 167, 0, 7, 21, 6]
abbrev dktX0_rests_5 : List UInt8 := dkwX0_rests_5 ++ dktX0_rests_6
def dkwX0_rests_4 : List UInt8 := [54, 6, 132, 5, 1, 132, 7, 1, 167, 255, 217, 21, 4, 154, 0, 6, 21, 5, 172, 21, 6, 2]
abbrev dktX0_rests_4 : List UInt8 := dkwX0_rests_4 ++ dktX0_rests_5
def dkwX0_rests_3 : List UInt8 := [21, 7, 182, 1, 71, 154, 0, 6, 167, 0, 20, 21, 5, 154, 0, 8, 21, 7, 167, 0, 5, 21, 6]
abbrev dktX0_rests_3 : List UInt8 := dkwX0_rests_3 ++ dktX0_rests_4
def dkwX0_rests_2 : List UInt8 := [42, 27, 28, 29, 182, 1, 67, 3, 54, 5, 2, 54, 6, 3, 54, 7, 21, 7, 16, 25, 162, 0, 38, 42]
abbrev dktX0_rests_2 : List UInt8 := dkwX0_rests_2 ++ dktX0_rests_3
def dkwX0_rests_1 : List UInt8 := [20, 1, 23, 184, 0, 104, 153, 0, 16, 21, 4, 133, 9, 20, 1, 28, 184, 0, 104, 154, 0, 5, 2, 172]
abbrev dktX0_rests_1 : List UInt8 := dkwX0_rests_1 ++ dktX0_rests_2
def dkwX0_rests_0 : List UInt8 := [42, 27, 182, 0, 147, 153, 0, 41, 42, 28, 182, 0, 147, 153, 0, 33, 27, 28, 159, 0, 28, 29, 133, 10]
abbrev dktX0_rests_0 : List UInt8 := dkwX0_rests_0 ++ dktX0_rests_1
theorem dksX0_rests_0 : cX0_rests.data.toList.drop 0 = dktX0_rests_0 := by decide +kernel
theorem dksX0_rests_1 : cX0_rests.data.toList.drop 24 = dktX0_rests_1 := dk_seg dksX0_rests_0 24 rfl rfl
theorem dksX0_rests_2 : cX0_rests.data.toList.drop 48 = dktX0_rests_2 := dk_seg dksX0_rests_1 24 rfl rfl
theorem dksX0_rests_3 : cX0_rests.data.toList.drop 72 = dktX0_rests_3 := dk_seg dksX0_rests_2 24 rfl rfl
theorem dksX0_rests_4 : cX0_rests.data.toList.drop 95 = dktX0_rests_4 := dk_seg dksX0_rests_3 23 rfl rfl
theorem dksX0_rests_5 : cX0_rests.data.toList.drop 117 = dktX0_rests_5 := dk_seg dksX0_rests_4 22 rfl rfl
theorem dksX0_rests_6 : cX0_rests.data.toList.drop 141 = dktX0_rests_6 := dk_seg dksX0_rests_5 24 rfl rfl
theorem dX0_rests_0 : decode cX0_rests 0 = .ok (.aload_n 0, 1) := dk_42 (dk_at dksX0_rests_0 0 rfl rfl)
theorem dX0_rests_1 : decode cX0_rests 1 = .ok (.iload_n 1, 1) := dk_27 (dk_at dksX0_rests_0 1 rfl rfl)
theorem dX0_rests_2 : decode cX0_rests 2 = .ok (.invokevirtual 147, 3) := dk_182 0 147 (dk_at dksX0_rests_0 2 rfl rfl)
theorem dX0_rests_5 : decode cX0_rests 5 = .ok (.ifCond .eq 41, 3) := dk_153 0 41 (dk_at dksX0_rests_0 5 rfl rfl)
theorem dX0_rests_8 : decode cX0_rests 8 = .ok (.aload_n 0, 1) := dk_42 (dk_at dksX0_rests_0 8 rfl rfl)
theorem dX0_rests_9 : decode cX0_rests 9 = .ok (.iload_n 2, 1) := dk_28 (dk_at dksX0_rests_0 9 rfl rfl)
theorem dX0_rests_10 : decode cX0_rests 10 = .ok (.invokevirtual 147, 3) := dk_182 0 147 (dk_at dksX0_rests_0 10 rfl rfl)
theorem dX0_rests_13 : decode cX0_rests 13 = .ok (.ifCond .eq 33, 3) := dk_153 0 33 (dk_at dksX0_rests_0 13 rfl rfl)
theorem dX0_rests_16 : decode cX0_rests 16 = .ok (.iload_n 1, 1) := dk_27 (dk_at dksX0_rests_0 16 rfl rfl)
theorem dX0_rests_17 : decode cX0_rests 17 = .ok (.iload_n 2, 1) := dk_28 (dk_at dksX0_rests_0 17 rfl rfl)
theorem dX0_rests_18 : decode cX0_rests 18 = .ok (.if_icmp .eq 28, 3) := dk_159 0 28 (dk_at dksX0_rests_0 18 rfl rfl)
theorem dX0_rests_21 : decode cX0_rests 21 = .ok (.iload_n 3, 1) := dk_29 (dk_at dksX0_rests_0 21 rfl rfl)
theorem dX0_rests_22 : decode cX0_rests 22 = .ok (.i2l, 1) := dk_133 (dk_at dksX0_rests_0 22 rfl rfl)
theorem dX0_rests_23 : decode cX0_rests 23 = .ok (.lconst 1, 1) := dk_10 (dk_at dksX0_rests_0 23 rfl rfl)
theorem dX0_rests_24 : decode cX0_rests 24 = .ok (.ldc2_w 279, 3) := dk_20 1 23 (dk_at dksX0_rests_1 0 rfl rfl)
theorem dX0_rests_27 : decode cX0_rests 27 = .ok (.invokestatic 104, 3) := dk_184 0 104 (dk_at dksX0_rests_1 3 rfl rfl)
theorem dX0_rests_30 : decode cX0_rests 30 = .ok (.ifCond .eq 16, 3) := dk_153 0 16 (dk_at dksX0_rests_1 6 rfl rfl)
theorem dX0_rests_33 : decode cX0_rests 33 = .ok (.iload 4, 2) := dk_21 4 (dk_at dksX0_rests_1 9 rfl rfl)
theorem dX0_rests_35 : decode cX0_rests 35 = .ok (.i2l, 1) := dk_133 (dk_at dksX0_rests_1 11 rfl rfl)
theorem dX0_rests_36 : decode cX0_rests 36 = .ok (.lconst 0, 1) := dk_9 (dk_at dksX0_rests_1 12 rfl rfl)
theorem dX0_rests_37 : decode cX0_rests 37 = .ok (.ldc2_w 284, 3) := dk_20 1 28 (dk_at dksX0_rests_1 13 rfl rfl)
theorem dX0_rests_40 : decode cX0_rests 40 = .ok (.invokestatic 104, 3) := dk_184 0 104 (dk_at dksX0_rests_1 16 rfl rfl)
theorem dX0_rests_43 : decode cX0_rests 43 = .ok (.ifCond .ne 5, 3) := dk_154 0 5 (dk_at dksX0_rests_1 19 rfl rfl)
theorem dX0_rests_46 : decode cX0_rests 46 = .ok (.iconst (-1), 1) := dk_2 (dk_at dksX0_rests_1 22 rfl rfl)
theorem dX0_rests_47 : decode cX0_rests 47 = .ok (.ireturn, 1) := dk_172 (dk_at dksX0_rests_1 23 rfl rfl)
theorem dX0_rests_48 : decode cX0_rests 48 = .ok (.aload_n 0, 1) := dk_42 (dk_at dksX0_rests_2 0 rfl rfl)
theorem dX0_rests_49 : decode cX0_rests 49 = .ok (.iload_n 1, 1) := dk_27 (dk_at dksX0_rests_2 1 rfl rfl)
theorem dX0_rests_50 : decode cX0_rests 50 = .ok (.iload_n 2, 1) := dk_28 (dk_at dksX0_rests_2 2 rfl rfl)
theorem dX0_rests_51 : decode cX0_rests 51 = .ok (.iload_n 3, 1) := dk_29 (dk_at dksX0_rests_2 3 rfl rfl)
theorem dX0_rests_52 : decode cX0_rests 52 = .ok (.invokevirtual 323, 3) := dk_182 1 67 (dk_at dksX0_rests_2 4 rfl rfl)
theorem dX0_rests_55 : decode cX0_rests 55 = .ok (.iconst 0, 1) := dk_3 (dk_at dksX0_rests_2 7 rfl rfl)
theorem dX0_rests_56 : decode cX0_rests 56 = .ok (.istore 5, 2) := dk_54 5 (dk_at dksX0_rests_2 8 rfl rfl)
theorem dX0_rests_58 : decode cX0_rests 58 = .ok (.iconst (-1), 1) := dk_2 (dk_at dksX0_rests_2 10 rfl rfl)
theorem dX0_rests_59 : decode cX0_rests 59 = .ok (.istore 6, 2) := dk_54 6 (dk_at dksX0_rests_2 11 rfl rfl)
theorem dX0_rests_61 : decode cX0_rests 61 = .ok (.iconst 0, 1) := dk_3 (dk_at dksX0_rests_2 13 rfl rfl)
theorem dX0_rests_62 : decode cX0_rests 62 = .ok (.istore 7, 2) := dk_54 7 (dk_at dksX0_rests_2 14 rfl rfl)
theorem dX0_rests_64 : decode cX0_rests 64 = .ok (.iload 7, 2) := dk_21 7 (dk_at dksX0_rests_2 16 rfl rfl)
theorem dX0_rests_66 : decode cX0_rests 66 = .ok (.bipush 25, 2) := dk_16 25 (dk_at dksX0_rests_2 18 rfl rfl)
theorem dX0_rests_68 : decode cX0_rests 68 = .ok (.if_icmp .ge 38, 3) := dk_162 0 38 (dk_at dksX0_rests_2 20 rfl rfl)
theorem dX0_rests_71 : decode cX0_rests 71 = .ok (.aload_n 0, 1) := dk_42 (dk_at dksX0_rests_2 23 rfl rfl)
theorem dX0_rests_72 : decode cX0_rests 72 = .ok (.iload 7, 2) := dk_21 7 (dk_at dksX0_rests_3 0 rfl rfl)
theorem dX0_rests_74 : decode cX0_rests 74 = .ok (.invokevirtual 327, 3) := dk_182 1 71 (dk_at dksX0_rests_3 2 rfl rfl)
theorem dX0_rests_77 : decode cX0_rests 77 = .ok (.ifCond .ne 6, 3) := dk_154 0 6 (dk_at dksX0_rests_3 5 rfl rfl)
theorem dX0_rests_80 : decode cX0_rests 80 = .ok (.goto 20, 3) := dk_167 0 20 (dk_at dksX0_rests_3 8 rfl rfl)
theorem dX0_rests_83 : decode cX0_rests 83 = .ok (.iload 5, 2) := dk_21 5 (dk_at dksX0_rests_3 11 rfl rfl)
theorem dX0_rests_85 : decode cX0_rests 85 = .ok (.ifCond .ne 8, 3) := dk_154 0 8 (dk_at dksX0_rests_3 13 rfl rfl)
theorem dX0_rests_88 : decode cX0_rests 88 = .ok (.iload 7, 2) := dk_21 7 (dk_at dksX0_rests_3 16 rfl rfl)
theorem dX0_rests_90 : decode cX0_rests 90 = .ok (.goto 5, 3) := dk_167 0 5 (dk_at dksX0_rests_3 18 rfl rfl)
theorem dX0_rests_93 : decode cX0_rests 93 = .ok (.iload 6, 2) := dk_21 6 (dk_at dksX0_rests_3 21 rfl rfl)
theorem dX0_rests_95 : decode cX0_rests 95 = .ok (.istore 6, 2) := dk_54 6 (dk_at dksX0_rests_4 0 rfl rfl)
theorem dX0_rests_97 : decode cX0_rests 97 = .ok (.iinc 5 1, 3) := dk_132 5 1 (dk_at dksX0_rests_4 2 rfl rfl)
theorem dX0_rests_100 : decode cX0_rests 100 = .ok (.iinc 7 1, 3) := dk_132 7 1 (dk_at dksX0_rests_4 5 rfl rfl)
theorem dX0_rests_103 : decode cX0_rests 103 = .ok (.goto (-39), 3) := dk_167 255 217 (dk_at dksX0_rests_4 8 rfl rfl)
theorem dX0_rests_106 : decode cX0_rests 106 = .ok (.iload 4, 2) := dk_21 4 (dk_at dksX0_rests_4 11 rfl rfl)
theorem dX0_rests_108 : decode cX0_rests 108 = .ok (.ifCond .ne 6, 3) := dk_154 0 6 (dk_at dksX0_rests_4 13 rfl rfl)
theorem dX0_rests_111 : decode cX0_rests 111 = .ok (.iload 5, 2) := dk_21 5 (dk_at dksX0_rests_4 16 rfl rfl)
theorem dX0_rests_113 : decode cX0_rests 113 = .ok (.ireturn, 1) := dk_172 (dk_at dksX0_rests_4 18 rfl rfl)
theorem dX0_rests_114 : decode cX0_rests 114 = .ok (.iload 6, 2) := dk_21 6 (dk_at dksX0_rests_4 19 rfl rfl)
theorem dX0_rests_116 : decode cX0_rests 116 = .ok (.iconst (-1), 1) := dk_2 (dk_at dksX0_rests_4 21 rfl rfl)
theorem dX0_rests_117 : decode cX0_rests 117 = .ok (.if_icmp .ne 8, 3) := dk_160 0 8 (dk_at dksX0_rests_5 0 rfl rfl)
theorem dX0_rests_120 : decode cX0_rests 120 = .ok (.bipush (-2), 2) := dk_16 254 (dk_at dksX0_rests_5 3 rfl rfl)
theorem dX0_rests_122 : decode cX0_rests 122 = .ok (.goto 22, 3) := dk_167 0 22 (dk_at dksX0_rests_5 5 rfl rfl)
theorem dX0_rests_125 : decode cX0_rests 125 = .ok (.iconst 5, 1) := dk_8 (dk_at dksX0_rests_5 8 rfl rfl)
theorem dX0_rests_126 : decode cX0_rests 126 = .ok (.iload 4, 2) := dk_21 4 (dk_at dksX0_rests_5 9 rfl rfl)
theorem dX0_rests_128 : decode cX0_rests 128 = .ok (.iconst 1, 1) := dk_4 (dk_at dksX0_rests_5 11 rfl rfl)
theorem dX0_rests_129 : decode cX0_rests 129 = .ok (.if_icmp .ne 10, 3) := dk_160 0 10 (dk_at dksX0_rests_5 12 rfl rfl)
theorem dX0_rests_132 : decode cX0_rests 132 = .ok (.iload 6, 2) := dk_21 6 (dk_at dksX0_rests_5 15 rfl rfl)
theorem dX0_rests_134 : decode cX0_rests 134 = .ok (.iconst 5, 1) := dk_8 (dk_at dksX0_rests_5 17 rfl rfl)
theorem dX0_rests_135 : decode cX0_rests 135 = .ok (.idiv, 1) := dk_108 (dk_at dksX0_rests_5 18 rfl rfl)
theorem dX0_rests_136 : decode cX0_rests 136 = .ok (.goto 7, 3) := dk_167 0 7 (dk_at dksX0_rests_5 19 rfl rfl)
theorem dX0_rests_139 : decode cX0_rests 139 = .ok (.iload 6, 2) := dk_21 6 (dk_at dksX0_rests_5 22 rfl rfl)
theorem dX0_rests_141 : decode cX0_rests 141 = .ok (.iconst 5, 1) := dk_8 (dk_at dksX0_rests_6 0 rfl rfl)
theorem dX0_rests_142 : decode cX0_rests 142 = .ok (.irem, 1) := dk_112 (dk_at dksX0_rests_6 1 rfl rfl)
theorem dX0_rests_143 : decode cX0_rests 143 = .ok (.imul, 1) := dk_104 (dk_at dksX0_rests_6 2 rfl rfl)
theorem dX0_rests_144 : decode cX0_rests 144 = .ok (.ireturn, 1) := dk_172 (dk_at dksX0_rests_6 3 rfl rfl)
abbrev cX0_laysWords : ByteArray := prog_1_method_47_code
def yX0_laysWords : MethodName := ⟨RX0, "laysWords", "(III)V"⟩
def dkwX0_laysWords_4 : List UInt8 := [21, 4, 8, 112, 100, 79, 132, 4, 1, 167, 255, 158, 177]
abbrev dktX0_laysWords_4 : List UInt8 := dkwX0_laysWords_4 ++ []
def dkwX0_laysWords_3 : List UInt8 := [27, 46, 21, 4, 8, 108, 100, 79, 42, 180, 0, 82, 21, 4, 42, 180, 0, 23, 180, 0, 151, 28, 46]
abbrev dktX0_laysWords_3 : List UInt8 := dkwX0_laysWords_3 ++ dktX0_laysWords_4
def dkwX0_laysWords_2 : List UInt8 := [21, 4, 8, 112, 104, 79, 42, 29, 182, 1, 32, 42, 180, 0, 79, 21, 4, 42, 180, 0, 23, 180, 0, 151]
abbrev dktX0_laysWords_2 : List UInt8 := dkwX0_laysWords_2 ++ dktX0_laysWords_3
def dkwX0_laysWords_1 : List UInt8 := [180, 0, 23, 180, 0, 157, 27, 8, 21, 4, 8, 108, 104, 79, 42, 180, 0, 23, 180, 0, 157, 28, 8]
abbrev dktX0_laysWords_1 : List UInt8 := dkwX0_laysWords_1 ++ dktX0_laysWords_2
def dkwX0_laysWords_0 : List UInt8 := [3, 54, 4, 21, 4, 16, 25, 162, 0, 97, 42, 180, 0, 23, 42, 180, 0, 19, 182, 1, 13, 42]
abbrev dktX0_laysWords_0 : List UInt8 := dkwX0_laysWords_0 ++ dktX0_laysWords_1
theorem dksX0_laysWords_0 : cX0_laysWords.data.toList.drop 0 = dktX0_laysWords_0 := by decide +kernel
theorem dksX0_laysWords_1 : cX0_laysWords.data.toList.drop 22 = dktX0_laysWords_1 := dk_seg dksX0_laysWords_0 22 rfl rfl
theorem dksX0_laysWords_2 : cX0_laysWords.data.toList.drop 45 = dktX0_laysWords_2 := dk_seg dksX0_laysWords_1 23 rfl rfl
theorem dksX0_laysWords_3 : cX0_laysWords.data.toList.drop 69 = dktX0_laysWords_3 := dk_seg dksX0_laysWords_2 24 rfl rfl
theorem dksX0_laysWords_4 : cX0_laysWords.data.toList.drop 92 = dktX0_laysWords_4 := dk_seg dksX0_laysWords_3 23 rfl rfl
theorem dX0_laysWords_0 : decode cX0_laysWords 0 = .ok (.iconst 0, 1) := dk_3 (dk_at dksX0_laysWords_0 0 rfl rfl)
theorem dX0_laysWords_1 : decode cX0_laysWords 1 = .ok (.istore 4, 2) := dk_54 4 (dk_at dksX0_laysWords_0 1 rfl rfl)
theorem dX0_laysWords_3 : decode cX0_laysWords 3 = .ok (.iload 4, 2) := dk_21 4 (dk_at dksX0_laysWords_0 3 rfl rfl)
theorem dX0_laysWords_5 : decode cX0_laysWords 5 = .ok (.bipush 25, 2) := dk_16 25 (dk_at dksX0_laysWords_0 5 rfl rfl)
theorem dX0_laysWords_7 : decode cX0_laysWords 7 = .ok (.if_icmp .ge 97, 3) := dk_162 0 97 (dk_at dksX0_laysWords_0 7 rfl rfl)
theorem dX0_laysWords_10 : decode cX0_laysWords 10 = .ok (.aload_n 0, 1) := dk_42 (dk_at dksX0_laysWords_0 10 rfl rfl)
theorem dX0_laysWords_11 : decode cX0_laysWords 11 = .ok (.getfield 23, 3) := dk_180 0 23 (dk_at dksX0_laysWords_0 11 rfl rfl)
theorem dX0_laysWords_14 : decode cX0_laysWords 14 = .ok (.aload_n 0, 1) := dk_42 (dk_at dksX0_laysWords_0 14 rfl rfl)
theorem dX0_laysWords_15 : decode cX0_laysWords 15 = .ok (.getfield 19, 3) := dk_180 0 19 (dk_at dksX0_laysWords_0 15 rfl rfl)
theorem dX0_laysWords_18 : decode cX0_laysWords 18 = .ok (.invokevirtual 269, 3) := dk_182 1 13 (dk_at dksX0_laysWords_0 18 rfl rfl)
theorem dX0_laysWords_21 : decode cX0_laysWords 21 = .ok (.aload_n 0, 1) := dk_42 (dk_at dksX0_laysWords_0 21 rfl rfl)
theorem dX0_laysWords_22 : decode cX0_laysWords 22 = .ok (.getfield 23, 3) := dk_180 0 23 (dk_at dksX0_laysWords_1 0 rfl rfl)
theorem dX0_laysWords_25 : decode cX0_laysWords 25 = .ok (.getfield 157, 3) := dk_180 0 157 (dk_at dksX0_laysWords_1 3 rfl rfl)
theorem dX0_laysWords_28 : decode cX0_laysWords 28 = .ok (.iload_n 1, 1) := dk_27 (dk_at dksX0_laysWords_1 6 rfl rfl)
theorem dX0_laysWords_29 : decode cX0_laysWords 29 = .ok (.iconst 5, 1) := dk_8 (dk_at dksX0_laysWords_1 7 rfl rfl)
theorem dX0_laysWords_30 : decode cX0_laysWords 30 = .ok (.iload 4, 2) := dk_21 4 (dk_at dksX0_laysWords_1 8 rfl rfl)
theorem dX0_laysWords_32 : decode cX0_laysWords 32 = .ok (.iconst 5, 1) := dk_8 (dk_at dksX0_laysWords_1 10 rfl rfl)
theorem dX0_laysWords_33 : decode cX0_laysWords 33 = .ok (.idiv, 1) := dk_108 (dk_at dksX0_laysWords_1 11 rfl rfl)
theorem dX0_laysWords_34 : decode cX0_laysWords 34 = .ok (.imul, 1) := dk_104 (dk_at dksX0_laysWords_1 12 rfl rfl)
theorem dX0_laysWords_35 : decode cX0_laysWords 35 = .ok (.iastore, 1) := dk_79 (dk_at dksX0_laysWords_1 13 rfl rfl)
theorem dX0_laysWords_36 : decode cX0_laysWords 36 = .ok (.aload_n 0, 1) := dk_42 (dk_at dksX0_laysWords_1 14 rfl rfl)
theorem dX0_laysWords_37 : decode cX0_laysWords 37 = .ok (.getfield 23, 3) := dk_180 0 23 (dk_at dksX0_laysWords_1 15 rfl rfl)
theorem dX0_laysWords_40 : decode cX0_laysWords 40 = .ok (.getfield 157, 3) := dk_180 0 157 (dk_at dksX0_laysWords_1 18 rfl rfl)
theorem dX0_laysWords_43 : decode cX0_laysWords 43 = .ok (.iload_n 2, 1) := dk_28 (dk_at dksX0_laysWords_1 21 rfl rfl)
theorem dX0_laysWords_44 : decode cX0_laysWords 44 = .ok (.iconst 5, 1) := dk_8 (dk_at dksX0_laysWords_1 22 rfl rfl)
theorem dX0_laysWords_45 : decode cX0_laysWords 45 = .ok (.iload 4, 2) := dk_21 4 (dk_at dksX0_laysWords_2 0 rfl rfl)
theorem dX0_laysWords_47 : decode cX0_laysWords 47 = .ok (.iconst 5, 1) := dk_8 (dk_at dksX0_laysWords_2 2 rfl rfl)
theorem dX0_laysWords_48 : decode cX0_laysWords 48 = .ok (.irem, 1) := dk_112 (dk_at dksX0_laysWords_2 3 rfl rfl)
theorem dX0_laysWords_49 : decode cX0_laysWords 49 = .ok (.imul, 1) := dk_104 (dk_at dksX0_laysWords_2 4 rfl rfl)
theorem dX0_laysWords_50 : decode cX0_laysWords 50 = .ok (.iastore, 1) := dk_79 (dk_at dksX0_laysWords_2 5 rfl rfl)
theorem dX0_laysWords_51 : decode cX0_laysWords 51 = .ok (.aload_n 0, 1) := dk_42 (dk_at dksX0_laysWords_2 6 rfl rfl)
theorem dX0_laysWords_52 : decode cX0_laysWords 52 = .ok (.iload_n 3, 1) := dk_29 (dk_at dksX0_laysWords_2 7 rfl rfl)
theorem dX0_laysWords_53 : decode cX0_laysWords 53 = .ok (.invokevirtual 288, 3) := dk_182 1 32 (dk_at dksX0_laysWords_2 8 rfl rfl)
theorem dX0_laysWords_56 : decode cX0_laysWords 56 = .ok (.aload_n 0, 1) := dk_42 (dk_at dksX0_laysWords_2 11 rfl rfl)
theorem dX0_laysWords_57 : decode cX0_laysWords 57 = .ok (.getfield 79, 3) := dk_180 0 79 (dk_at dksX0_laysWords_2 12 rfl rfl)
theorem dX0_laysWords_60 : decode cX0_laysWords 60 = .ok (.iload 4, 2) := dk_21 4 (dk_at dksX0_laysWords_2 15 rfl rfl)
theorem dX0_laysWords_62 : decode cX0_laysWords 62 = .ok (.aload_n 0, 1) := dk_42 (dk_at dksX0_laysWords_2 17 rfl rfl)
theorem dX0_laysWords_63 : decode cX0_laysWords 63 = .ok (.getfield 23, 3) := dk_180 0 23 (dk_at dksX0_laysWords_2 18 rfl rfl)
theorem dX0_laysWords_66 : decode cX0_laysWords 66 = .ok (.getfield 151, 3) := dk_180 0 151 (dk_at dksX0_laysWords_2 21 rfl rfl)
theorem dX0_laysWords_69 : decode cX0_laysWords 69 = .ok (.iload_n 1, 1) := dk_27 (dk_at dksX0_laysWords_3 0 rfl rfl)
theorem dX0_laysWords_70 : decode cX0_laysWords 70 = .ok (.iaload, 1) := dk_46 (dk_at dksX0_laysWords_3 1 rfl rfl)
theorem dX0_laysWords_71 : decode cX0_laysWords 71 = .ok (.iload 4, 2) := dk_21 4 (dk_at dksX0_laysWords_3 2 rfl rfl)
theorem dX0_laysWords_73 : decode cX0_laysWords 73 = .ok (.iconst 5, 1) := dk_8 (dk_at dksX0_laysWords_3 4 rfl rfl)
theorem dX0_laysWords_74 : decode cX0_laysWords 74 = .ok (.idiv, 1) := dk_108 (dk_at dksX0_laysWords_3 5 rfl rfl)
theorem dX0_laysWords_75 : decode cX0_laysWords 75 = .ok (.isub, 1) := dk_100 (dk_at dksX0_laysWords_3 6 rfl rfl)
theorem dX0_laysWords_76 : decode cX0_laysWords 76 = .ok (.iastore, 1) := dk_79 (dk_at dksX0_laysWords_3 7 rfl rfl)
theorem dX0_laysWords_77 : decode cX0_laysWords 77 = .ok (.aload_n 0, 1) := dk_42 (dk_at dksX0_laysWords_3 8 rfl rfl)
theorem dX0_laysWords_78 : decode cX0_laysWords 78 = .ok (.getfield 82, 3) := dk_180 0 82 (dk_at dksX0_laysWords_3 9 rfl rfl)
theorem dX0_laysWords_81 : decode cX0_laysWords 81 = .ok (.iload 4, 2) := dk_21 4 (dk_at dksX0_laysWords_3 12 rfl rfl)
theorem dX0_laysWords_83 : decode cX0_laysWords 83 = .ok (.aload_n 0, 1) := dk_42 (dk_at dksX0_laysWords_3 14 rfl rfl)
theorem dX0_laysWords_84 : decode cX0_laysWords 84 = .ok (.getfield 23, 3) := dk_180 0 23 (dk_at dksX0_laysWords_3 15 rfl rfl)
theorem dX0_laysWords_87 : decode cX0_laysWords 87 = .ok (.getfield 151, 3) := dk_180 0 151 (dk_at dksX0_laysWords_3 18 rfl rfl)
theorem dX0_laysWords_90 : decode cX0_laysWords 90 = .ok (.iload_n 2, 1) := dk_28 (dk_at dksX0_laysWords_3 21 rfl rfl)
theorem dX0_laysWords_91 : decode cX0_laysWords 91 = .ok (.iaload, 1) := dk_46 (dk_at dksX0_laysWords_3 22 rfl rfl)
theorem dX0_laysWords_92 : decode cX0_laysWords 92 = .ok (.iload 4, 2) := dk_21 4 (dk_at dksX0_laysWords_4 0 rfl rfl)
theorem dX0_laysWords_94 : decode cX0_laysWords 94 = .ok (.iconst 5, 1) := dk_8 (dk_at dksX0_laysWords_4 2 rfl rfl)
theorem dX0_laysWords_95 : decode cX0_laysWords 95 = .ok (.irem, 1) := dk_112 (dk_at dksX0_laysWords_4 3 rfl rfl)
theorem dX0_laysWords_96 : decode cX0_laysWords 96 = .ok (.isub, 1) := dk_100 (dk_at dksX0_laysWords_4 4 rfl rfl)
theorem dX0_laysWords_97 : decode cX0_laysWords 97 = .ok (.iastore, 1) := dk_79 (dk_at dksX0_laysWords_4 5 rfl rfl)
theorem dX0_laysWords_98 : decode cX0_laysWords 98 = .ok (.iinc 4 1, 3) := dk_132 4 1 (dk_at dksX0_laysWords_4 6 rfl rfl)
theorem dX0_laysWords_101 : decode cX0_laysWords 101 = .ok (.goto (-98), 3) := dk_167 255 158 (dk_at dksX0_laysWords_4 9 rfl rfl)
theorem dX0_laysWords_104 : decode cX0_laysWords 104 = .ok (.return_, 1) := dk_177 (dk_at dksX0_laysWords_4 12 rfl rfl)
abbrev cX0_isRest : ByteArray := prog_1_method_48_code
def yX0_isRest : MethodName := ⟨RX0, "isRest", "(I)Z"⟩
def dkwX0_isRest_2 : List UInt8 := [164, 0, 5, 3, 172, 132, 2, 1, 167, 255, 204, 4, 172]
abbrev dktX0_isRest_2 : List UInt8 := dkwX0_isRest_2 ++ []
def dkwX0_isRest_1 : List UInt8 := [46, 163, 0, 24, 42, 180, 0, 82, 27, 27, 8, 112, 100, 28, 96, 46, 42, 180, 0, 82, 27, 46]
abbrev dktX0_isRest_1 : List UInt8 := dkwX0_isRest_1 ++ dktX0_isRest_2
def dkwX0_isRest_0 : List UInt8 := [3, 61, 28, 8, 162, 0, 53, 42, 180, 0, 79, 8, 28, 104, 27, 8, 112, 96, 46, 42, 180, 0, 79, 27]
abbrev dktX0_isRest_0 : List UInt8 := dkwX0_isRest_0 ++ dktX0_isRest_1
theorem dksX0_isRest_0 : cX0_isRest.data.toList.drop 0 = dktX0_isRest_0 := by decide +kernel
theorem dksX0_isRest_1 : cX0_isRest.data.toList.drop 24 = dktX0_isRest_1 := dk_seg dksX0_isRest_0 24 rfl rfl
theorem dksX0_isRest_2 : cX0_isRest.data.toList.drop 46 = dktX0_isRest_2 := dk_seg dksX0_isRest_1 22 rfl rfl
theorem dX0_isRest_0 : decode cX0_isRest 0 = .ok (.iconst 0, 1) := dk_3 (dk_at dksX0_isRest_0 0 rfl rfl)
theorem dX0_isRest_1 : decode cX0_isRest 1 = .ok (.istore_n 2, 1) := dk_61 (dk_at dksX0_isRest_0 1 rfl rfl)
theorem dX0_isRest_2 : decode cX0_isRest 2 = .ok (.iload_n 2, 1) := dk_28 (dk_at dksX0_isRest_0 2 rfl rfl)
theorem dX0_isRest_3 : decode cX0_isRest 3 = .ok (.iconst 5, 1) := dk_8 (dk_at dksX0_isRest_0 3 rfl rfl)
theorem dX0_isRest_4 : decode cX0_isRest 4 = .ok (.if_icmp .ge 53, 3) := dk_162 0 53 (dk_at dksX0_isRest_0 4 rfl rfl)
theorem dX0_isRest_7 : decode cX0_isRest 7 = .ok (.aload_n 0, 1) := dk_42 (dk_at dksX0_isRest_0 7 rfl rfl)
theorem dX0_isRest_8 : decode cX0_isRest 8 = .ok (.getfield 79, 3) := dk_180 0 79 (dk_at dksX0_isRest_0 8 rfl rfl)
theorem dX0_isRest_11 : decode cX0_isRest 11 = .ok (.iconst 5, 1) := dk_8 (dk_at dksX0_isRest_0 11 rfl rfl)
theorem dX0_isRest_12 : decode cX0_isRest 12 = .ok (.iload_n 2, 1) := dk_28 (dk_at dksX0_isRest_0 12 rfl rfl)
theorem dX0_isRest_13 : decode cX0_isRest 13 = .ok (.imul, 1) := dk_104 (dk_at dksX0_isRest_0 13 rfl rfl)
theorem dX0_isRest_14 : decode cX0_isRest 14 = .ok (.iload_n 1, 1) := dk_27 (dk_at dksX0_isRest_0 14 rfl rfl)
theorem dX0_isRest_15 : decode cX0_isRest 15 = .ok (.iconst 5, 1) := dk_8 (dk_at dksX0_isRest_0 15 rfl rfl)
theorem dX0_isRest_16 : decode cX0_isRest 16 = .ok (.irem, 1) := dk_112 (dk_at dksX0_isRest_0 16 rfl rfl)
theorem dX0_isRest_17 : decode cX0_isRest 17 = .ok (.iadd, 1) := dk_96 (dk_at dksX0_isRest_0 17 rfl rfl)
theorem dX0_isRest_18 : decode cX0_isRest 18 = .ok (.iaload, 1) := dk_46 (dk_at dksX0_isRest_0 18 rfl rfl)
theorem dX0_isRest_19 : decode cX0_isRest 19 = .ok (.aload_n 0, 1) := dk_42 (dk_at dksX0_isRest_0 19 rfl rfl)
theorem dX0_isRest_20 : decode cX0_isRest 20 = .ok (.getfield 79, 3) := dk_180 0 79 (dk_at dksX0_isRest_0 20 rfl rfl)
theorem dX0_isRest_23 : decode cX0_isRest 23 = .ok (.iload_n 1, 1) := dk_27 (dk_at dksX0_isRest_0 23 rfl rfl)
theorem dX0_isRest_24 : decode cX0_isRest 24 = .ok (.iaload, 1) := dk_46 (dk_at dksX0_isRest_1 0 rfl rfl)
theorem dX0_isRest_25 : decode cX0_isRest 25 = .ok (.if_icmp .gt 24, 3) := dk_163 0 24 (dk_at dksX0_isRest_1 1 rfl rfl)
theorem dX0_isRest_28 : decode cX0_isRest 28 = .ok (.aload_n 0, 1) := dk_42 (dk_at dksX0_isRest_1 4 rfl rfl)
theorem dX0_isRest_29 : decode cX0_isRest 29 = .ok (.getfield 82, 3) := dk_180 0 82 (dk_at dksX0_isRest_1 5 rfl rfl)
theorem dX0_isRest_32 : decode cX0_isRest 32 = .ok (.iload_n 1, 1) := dk_27 (dk_at dksX0_isRest_1 8 rfl rfl)
theorem dX0_isRest_33 : decode cX0_isRest 33 = .ok (.iload_n 1, 1) := dk_27 (dk_at dksX0_isRest_1 9 rfl rfl)
theorem dX0_isRest_34 : decode cX0_isRest 34 = .ok (.iconst 5, 1) := dk_8 (dk_at dksX0_isRest_1 10 rfl rfl)
theorem dX0_isRest_35 : decode cX0_isRest 35 = .ok (.irem, 1) := dk_112 (dk_at dksX0_isRest_1 11 rfl rfl)
theorem dX0_isRest_36 : decode cX0_isRest 36 = .ok (.isub, 1) := dk_100 (dk_at dksX0_isRest_1 12 rfl rfl)
theorem dX0_isRest_37 : decode cX0_isRest 37 = .ok (.iload_n 2, 1) := dk_28 (dk_at dksX0_isRest_1 13 rfl rfl)
theorem dX0_isRest_38 : decode cX0_isRest 38 = .ok (.iadd, 1) := dk_96 (dk_at dksX0_isRest_1 14 rfl rfl)
theorem dX0_isRest_39 : decode cX0_isRest 39 = .ok (.iaload, 1) := dk_46 (dk_at dksX0_isRest_1 15 rfl rfl)
theorem dX0_isRest_40 : decode cX0_isRest 40 = .ok (.aload_n 0, 1) := dk_42 (dk_at dksX0_isRest_1 16 rfl rfl)
theorem dX0_isRest_41 : decode cX0_isRest 41 = .ok (.getfield 82, 3) := dk_180 0 82 (dk_at dksX0_isRest_1 17 rfl rfl)
theorem dX0_isRest_44 : decode cX0_isRest 44 = .ok (.iload_n 1, 1) := dk_27 (dk_at dksX0_isRest_1 20 rfl rfl)
theorem dX0_isRest_45 : decode cX0_isRest 45 = .ok (.iaload, 1) := dk_46 (dk_at dksX0_isRest_1 21 rfl rfl)
theorem dX0_isRest_46 : decode cX0_isRest 46 = .ok (.if_icmp .le 5, 3) := dk_164 0 5 (dk_at dksX0_isRest_2 0 rfl rfl)
theorem dX0_isRest_49 : decode cX0_isRest 49 = .ok (.iconst 0, 1) := dk_3 (dk_at dksX0_isRest_2 3 rfl rfl)
theorem dX0_isRest_50 : decode cX0_isRest 50 = .ok (.ireturn, 1) := dk_172 (dk_at dksX0_isRest_2 4 rfl rfl)
theorem dX0_isRest_51 : decode cX0_isRest 51 = .ok (.iinc 2 1, 3) := dk_132 2 1 (dk_at dksX0_isRest_2 5 rfl rfl)
theorem dX0_isRest_54 : decode cX0_isRest 54 = .ok (.goto (-52), 3) := dk_167 255 204 (dk_at dksX0_isRest_2 8 rfl rfl)
theorem dX0_isRest_57 : decode cX0_isRest 57 = .ok (.iconst 1, 1) := dk_4 (dk_at dksX0_isRest_2 11 rfl rfl)
theorem dX0_isRest_58 : decode cX0_isRest 58 = .ok (.ireturn, 1) := dk_172 (dk_at dksX0_isRest_2 12 rfl rfl)
abbrev cX0_first : ByteArray := prog_1_method_50_code
def yX0_first : MethodName := ⟨RX0, "first", "(I)I"⟩
def dkwX0_first_3 : List UInt8 := [180, 0, 195, 4, 100, 172, 132, 2, 1, 167, 255, 209, 16, 254, 172]
abbrev dktX0_first_3 : List UInt8 := dkwX0_first_3 ++ []
def dkwX0_first_2 : List UInt8 := [180, 1, 1, 2, 159, 0, 24, 27, 154, 0, 10, 42, 180, 1, 1, 167, 0, 12, 42, 180, 0, 23]
abbrev dktX0_first_2 : List UInt8 := dkwX0_first_2 ++ dktX0_first_3
def dkwX0_first_1 : List UInt8 := [180, 0, 19, 182, 1, 13, 3, 61, 28, 16, 60, 162, 0, 47, 42, 42, 180, 0, 23, 182, 1, 8, 87, 42]
abbrev dktX0_first_1 : List UInt8 := dkwX0_first_1 ++ dktX0_first_2
def dkwX0_first_0 : List UInt8 := [42, 182, 0, 108, 153, 0, 13, 27, 133, 9, 10, 184, 0, 104, 154, 0, 5, 2, 172, 42, 180, 0, 23, 42]
abbrev dktX0_first_0 : List UInt8 := dkwX0_first_0 ++ dktX0_first_1
theorem dksX0_first_0 : cX0_first.data.toList.drop 0 = dktX0_first_0 := by decide +kernel
theorem dksX0_first_1 : cX0_first.data.toList.drop 24 = dktX0_first_1 := dk_seg dksX0_first_0 24 rfl rfl
theorem dksX0_first_2 : cX0_first.data.toList.drop 48 = dktX0_first_2 := dk_seg dksX0_first_1 24 rfl rfl
theorem dksX0_first_3 : cX0_first.data.toList.drop 70 = dktX0_first_3 := dk_seg dksX0_first_2 22 rfl rfl
theorem dX0_first_0 : decode cX0_first 0 = .ok (.aload_n 0, 1) := dk_42 (dk_at dksX0_first_0 0 rfl rfl)
theorem dX0_first_1 : decode cX0_first 1 = .ok (.invokevirtual 108, 3) := dk_182 0 108 (dk_at dksX0_first_0 1 rfl rfl)
theorem dX0_first_4 : decode cX0_first 4 = .ok (.ifCond .eq 13, 3) := dk_153 0 13 (dk_at dksX0_first_0 4 rfl rfl)
theorem dX0_first_7 : decode cX0_first 7 = .ok (.iload_n 1, 1) := dk_27 (dk_at dksX0_first_0 7 rfl rfl)
theorem dX0_first_8 : decode cX0_first 8 = .ok (.i2l, 1) := dk_133 (dk_at dksX0_first_0 8 rfl rfl)
theorem dX0_first_9 : decode cX0_first 9 = .ok (.lconst 0, 1) := dk_9 (dk_at dksX0_first_0 9 rfl rfl)
theorem dX0_first_10 : decode cX0_first 10 = .ok (.lconst 1, 1) := dk_10 (dk_at dksX0_first_0 10 rfl rfl)
theorem dX0_first_11 : decode cX0_first 11 = .ok (.invokestatic 104, 3) := dk_184 0 104 (dk_at dksX0_first_0 11 rfl rfl)
theorem dX0_first_14 : decode cX0_first 14 = .ok (.ifCond .ne 5, 3) := dk_154 0 5 (dk_at dksX0_first_0 14 rfl rfl)
theorem dX0_first_17 : decode cX0_first 17 = .ok (.iconst (-1), 1) := dk_2 (dk_at dksX0_first_0 17 rfl rfl)
theorem dX0_first_18 : decode cX0_first 18 = .ok (.ireturn, 1) := dk_172 (dk_at dksX0_first_0 18 rfl rfl)
theorem dX0_first_19 : decode cX0_first 19 = .ok (.aload_n 0, 1) := dk_42 (dk_at dksX0_first_0 19 rfl rfl)
theorem dX0_first_20 : decode cX0_first 20 = .ok (.getfield 23, 3) := dk_180 0 23 (dk_at dksX0_first_0 20 rfl rfl)
theorem dX0_first_23 : decode cX0_first 23 = .ok (.aload_n 0, 1) := dk_42 (dk_at dksX0_first_0 23 rfl rfl)
theorem dX0_first_24 : decode cX0_first 24 = .ok (.getfield 19, 3) := dk_180 0 19 (dk_at dksX0_first_1 0 rfl rfl)
theorem dX0_first_27 : decode cX0_first 27 = .ok (.invokevirtual 269, 3) := dk_182 1 13 (dk_at dksX0_first_1 3 rfl rfl)
theorem dX0_first_30 : decode cX0_first 30 = .ok (.iconst 0, 1) := dk_3 (dk_at dksX0_first_1 6 rfl rfl)
theorem dX0_first_31 : decode cX0_first 31 = .ok (.istore_n 2, 1) := dk_61 (dk_at dksX0_first_1 7 rfl rfl)
theorem dX0_first_32 : decode cX0_first 32 = .ok (.iload_n 2, 1) := dk_28 (dk_at dksX0_first_1 8 rfl rfl)
theorem dX0_first_33 : decode cX0_first 33 = .ok (.bipush 60, 2) := dk_16 60 (dk_at dksX0_first_1 9 rfl rfl)
theorem dX0_first_35 : decode cX0_first 35 = .ok (.if_icmp .ge 47, 3) := dk_162 0 47 (dk_at dksX0_first_1 11 rfl rfl)
theorem dX0_first_38 : decode cX0_first 38 = .ok (.aload_n 0, 1) := dk_42 (dk_at dksX0_first_1 14 rfl rfl)
theorem dX0_first_39 : decode cX0_first 39 = .ok (.aload_n 0, 1) := dk_42 (dk_at dksX0_first_1 15 rfl rfl)
theorem dX0_first_40 : decode cX0_first 40 = .ok (.getfield 23, 3) := dk_180 0 23 (dk_at dksX0_first_1 16 rfl rfl)
theorem dX0_first_43 : decode cX0_first 43 = .ok (.invokevirtual 264, 3) := dk_182 1 8 (dk_at dksX0_first_1 19 rfl rfl)
theorem dX0_first_46 : decode cX0_first 46 = .ok (.pop, 1) := dk_87 (dk_at dksX0_first_1 22 rfl rfl)
theorem dX0_first_47 : decode cX0_first 47 = .ok (.aload_n 0, 1) := dk_42 (dk_at dksX0_first_1 23 rfl rfl)
theorem dX0_first_48 : decode cX0_first 48 = .ok (.getfield 257, 3) := dk_180 1 1 (dk_at dksX0_first_2 0 rfl rfl)
theorem dX0_first_51 : decode cX0_first 51 = .ok (.iconst (-1), 1) := dk_2 (dk_at dksX0_first_2 3 rfl rfl)
theorem dX0_first_52 : decode cX0_first 52 = .ok (.if_icmp .eq 24, 3) := dk_159 0 24 (dk_at dksX0_first_2 4 rfl rfl)
theorem dX0_first_55 : decode cX0_first 55 = .ok (.iload_n 1, 1) := dk_27 (dk_at dksX0_first_2 7 rfl rfl)
theorem dX0_first_56 : decode cX0_first 56 = .ok (.ifCond .ne 10, 3) := dk_154 0 10 (dk_at dksX0_first_2 8 rfl rfl)
theorem dX0_first_59 : decode cX0_first 59 = .ok (.aload_n 0, 1) := dk_42 (dk_at dksX0_first_2 11 rfl rfl)
theorem dX0_first_60 : decode cX0_first 60 = .ok (.getfield 257, 3) := dk_180 1 1 (dk_at dksX0_first_2 12 rfl rfl)
theorem dX0_first_63 : decode cX0_first 63 = .ok (.goto 12, 3) := dk_167 0 12 (dk_at dksX0_first_2 15 rfl rfl)
theorem dX0_first_66 : decode cX0_first 66 = .ok (.aload_n 0, 1) := dk_42 (dk_at dksX0_first_2 18 rfl rfl)
theorem dX0_first_67 : decode cX0_first 67 = .ok (.getfield 23, 3) := dk_180 0 23 (dk_at dksX0_first_2 19 rfl rfl)
theorem dX0_first_70 : decode cX0_first 70 = .ok (.getfield 195, 3) := dk_180 0 195 (dk_at dksX0_first_3 0 rfl rfl)
theorem dX0_first_73 : decode cX0_first 73 = .ok (.iconst 1, 1) := dk_4 (dk_at dksX0_first_3 3 rfl rfl)
theorem dX0_first_74 : decode cX0_first 74 = .ok (.isub, 1) := dk_100 (dk_at dksX0_first_3 4 rfl rfl)
theorem dX0_first_75 : decode cX0_first 75 = .ok (.ireturn, 1) := dk_172 (dk_at dksX0_first_3 5 rfl rfl)
theorem dX0_first_76 : decode cX0_first 76 = .ok (.iinc 2 1, 3) := dk_132 2 1 (dk_at dksX0_first_3 6 rfl rfl)
theorem dX0_first_79 : decode cX0_first 79 = .ok (.goto (-47), 3) := dk_167 255 209 (dk_at dksX0_first_3 9 rfl rfl)
theorem dX0_first_82 : decode cX0_first 82 = .ok (.bipush (-2), 2) := dk_16 254 (dk_at dksX0_first_3 12 rfl rfl)
theorem dX0_first_84 : decode cX0_first 84 = .ok (.ireturn, 1) := dk_172 (dk_at dksX0_first_3 14 rfl rfl)
abbrev cX0_note : ByteArray := prog_1_method_51_code
def yX0_note : MethodName := ⟨RX0, "note", "(II)I"⟩
def dkwX0_note_3 : List UInt8 := [181, 0, 133, 42, 180, 0, 133, 172]
abbrev dktX0_note_3 : List UInt8 := dkwX0_note_3 ++ []
def dkwX0_note_2 : List UInt8 := [42, 180, 0, 133, 27, 79, 42, 180, 0, 54, 42, 180, 0, 133, 28, 79, 42, 89, 180, 0, 133, 4, 96]
abbrev dktX0_note_2 : List UInt8 := dkwX0_note_2 ++ dktX0_note_3
def dkwX0_note_1 : List UInt8 := [42, 28, 182, 0, 166, 153, 0, 12, 42, 180, 0, 133, 16, 10, 160, 0, 6, 16, 254, 172, 42, 180, 0, 50]
abbrev dktX0_note_1 : List UInt8 := dkwX0_note_1 ++ dktX0_note_2
def dkwX0_note_0 : List UInt8 := [27, 2, 160, 0, 10, 42, 3, 181, 0, 133, 3, 172, 27, 133, 9, 20, 1, 52, 184, 0, 104, 153, 0, 20]
abbrev dktX0_note_0 : List UInt8 := dkwX0_note_0 ++ dktX0_note_1
theorem dksX0_note_0 : cX0_note.data.toList.drop 0 = dktX0_note_0 := by decide +kernel
theorem dksX0_note_1 : cX0_note.data.toList.drop 24 = dktX0_note_1 := dk_seg dksX0_note_0 24 rfl rfl
theorem dksX0_note_2 : cX0_note.data.toList.drop 48 = dktX0_note_2 := dk_seg dksX0_note_1 24 rfl rfl
theorem dksX0_note_3 : cX0_note.data.toList.drop 71 = dktX0_note_3 := dk_seg dksX0_note_2 23 rfl rfl
theorem dX0_note_0 : decode cX0_note 0 = .ok (.iload_n 1, 1) := dk_27 (dk_at dksX0_note_0 0 rfl rfl)
theorem dX0_note_1 : decode cX0_note 1 = .ok (.iconst (-1), 1) := dk_2 (dk_at dksX0_note_0 1 rfl rfl)
theorem dX0_note_2 : decode cX0_note 2 = .ok (.if_icmp .ne 10, 3) := dk_160 0 10 (dk_at dksX0_note_0 2 rfl rfl)
theorem dX0_note_5 : decode cX0_note 5 = .ok (.aload_n 0, 1) := dk_42 (dk_at dksX0_note_0 5 rfl rfl)
theorem dX0_note_6 : decode cX0_note 6 = .ok (.iconst 0, 1) := dk_3 (dk_at dksX0_note_0 6 rfl rfl)
theorem dX0_note_7 : decode cX0_note 7 = .ok (.putfield 133, 3) := dk_181 0 133 (dk_at dksX0_note_0 7 rfl rfl)
theorem dX0_note_10 : decode cX0_note 10 = .ok (.iconst 0, 1) := dk_3 (dk_at dksX0_note_0 10 rfl rfl)
theorem dX0_note_11 : decode cX0_note 11 = .ok (.ireturn, 1) := dk_172 (dk_at dksX0_note_0 11 rfl rfl)
theorem dX0_note_12 : decode cX0_note 12 = .ok (.iload_n 1, 1) := dk_27 (dk_at dksX0_note_0 12 rfl rfl)
theorem dX0_note_13 : decode cX0_note 13 = .ok (.i2l, 1) := dk_133 (dk_at dksX0_note_0 13 rfl rfl)
theorem dX0_note_14 : decode cX0_note 14 = .ok (.lconst 0, 1) := dk_9 (dk_at dksX0_note_0 14 rfl rfl)
theorem dX0_note_15 : decode cX0_note 15 = .ok (.ldc2_w 308, 3) := dk_20 1 52 (dk_at dksX0_note_0 15 rfl rfl)
theorem dX0_note_18 : decode cX0_note 18 = .ok (.invokestatic 104, 3) := dk_184 0 104 (dk_at dksX0_note_0 18 rfl rfl)
theorem dX0_note_21 : decode cX0_note 21 = .ok (.ifCond .eq 20, 3) := dk_153 0 20 (dk_at dksX0_note_0 21 rfl rfl)
theorem dX0_note_24 : decode cX0_note 24 = .ok (.aload_n 0, 1) := dk_42 (dk_at dksX0_note_1 0 rfl rfl)
theorem dX0_note_25 : decode cX0_note 25 = .ok (.iload_n 2, 1) := dk_28 (dk_at dksX0_note_1 1 rfl rfl)
theorem dX0_note_26 : decode cX0_note 26 = .ok (.invokevirtual 166, 3) := dk_182 0 166 (dk_at dksX0_note_1 2 rfl rfl)
theorem dX0_note_29 : decode cX0_note 29 = .ok (.ifCond .eq 12, 3) := dk_153 0 12 (dk_at dksX0_note_1 5 rfl rfl)
theorem dX0_note_32 : decode cX0_note 32 = .ok (.aload_n 0, 1) := dk_42 (dk_at dksX0_note_1 8 rfl rfl)
theorem dX0_note_33 : decode cX0_note 33 = .ok (.getfield 133, 3) := dk_180 0 133 (dk_at dksX0_note_1 9 rfl rfl)
theorem dX0_note_36 : decode cX0_note 36 = .ok (.bipush 10, 2) := dk_16 10 (dk_at dksX0_note_1 12 rfl rfl)
theorem dX0_note_38 : decode cX0_note 38 = .ok (.if_icmp .ne 6, 3) := dk_160 0 6 (dk_at dksX0_note_1 14 rfl rfl)
theorem dX0_note_41 : decode cX0_note 41 = .ok (.bipush (-2), 2) := dk_16 254 (dk_at dksX0_note_1 17 rfl rfl)
theorem dX0_note_43 : decode cX0_note 43 = .ok (.ireturn, 1) := dk_172 (dk_at dksX0_note_1 19 rfl rfl)
theorem dX0_note_44 : decode cX0_note 44 = .ok (.aload_n 0, 1) := dk_42 (dk_at dksX0_note_1 20 rfl rfl)
theorem dX0_note_45 : decode cX0_note 45 = .ok (.getfield 50, 3) := dk_180 0 50 (dk_at dksX0_note_1 21 rfl rfl)
theorem dX0_note_48 : decode cX0_note 48 = .ok (.aload_n 0, 1) := dk_42 (dk_at dksX0_note_2 0 rfl rfl)
theorem dX0_note_49 : decode cX0_note 49 = .ok (.getfield 133, 3) := dk_180 0 133 (dk_at dksX0_note_2 1 rfl rfl)
theorem dX0_note_52 : decode cX0_note 52 = .ok (.iload_n 1, 1) := dk_27 (dk_at dksX0_note_2 4 rfl rfl)
theorem dX0_note_53 : decode cX0_note 53 = .ok (.iastore, 1) := dk_79 (dk_at dksX0_note_2 5 rfl rfl)
theorem dX0_note_54 : decode cX0_note 54 = .ok (.aload_n 0, 1) := dk_42 (dk_at dksX0_note_2 6 rfl rfl)
theorem dX0_note_55 : decode cX0_note 55 = .ok (.getfield 54, 3) := dk_180 0 54 (dk_at dksX0_note_2 7 rfl rfl)
theorem dX0_note_58 : decode cX0_note 58 = .ok (.aload_n 0, 1) := dk_42 (dk_at dksX0_note_2 10 rfl rfl)
theorem dX0_note_59 : decode cX0_note 59 = .ok (.getfield 133, 3) := dk_180 0 133 (dk_at dksX0_note_2 11 rfl rfl)
theorem dX0_note_62 : decode cX0_note 62 = .ok (.iload_n 2, 1) := dk_28 (dk_at dksX0_note_2 14 rfl rfl)
theorem dX0_note_63 : decode cX0_note 63 = .ok (.iastore, 1) := dk_79 (dk_at dksX0_note_2 15 rfl rfl)
theorem dX0_note_64 : decode cX0_note 64 = .ok (.aload_n 0, 1) := dk_42 (dk_at dksX0_note_2 16 rfl rfl)
theorem dX0_note_65 : decode cX0_note 65 = .ok (.dup, 1) := dk_89 (dk_at dksX0_note_2 17 rfl rfl)
theorem dX0_note_66 : decode cX0_note 66 = .ok (.getfield 133, 3) := dk_180 0 133 (dk_at dksX0_note_2 18 rfl rfl)
theorem dX0_note_69 : decode cX0_note 69 = .ok (.iconst 1, 1) := dk_4 (dk_at dksX0_note_2 21 rfl rfl)
theorem dX0_note_70 : decode cX0_note 70 = .ok (.iadd, 1) := dk_96 (dk_at dksX0_note_2 22 rfl rfl)
theorem dX0_note_71 : decode cX0_note 71 = .ok (.putfield 133, 3) := dk_181 0 133 (dk_at dksX0_note_3 0 rfl rfl)
theorem dX0_note_74 : decode cX0_note 74 = .ok (.aload_n 0, 1) := dk_42 (dk_at dksX0_note_3 3 rfl rfl)
theorem dX0_note_75 : decode cX0_note 75 = .ok (.getfield 133, 3) := dk_180 0 133 (dk_at dksX0_note_3 4 rfl rfl)
theorem dX0_note_78 : decode cX0_note 78 = .ok (.ireturn, 1) := dk_172 (dk_at dksX0_note_3 7 rfl rfl)
abbrev cX0_ruled : ByteArray := prog_1_method_53_code
def yX0_ruled : MethodName := ⟨RX0, "ruled", "(I)I"⟩
def dkwX0_ruled_3 : List UInt8 := [167, 255, 215, 27, 154, 0, 7, 28, 167, 0, 4, 29, 172]
abbrev dktX0_ruled_3 : List UInt8 := dkwX0_ruled_3 ++ []
def dkwX0_ruled_2 : List UInt8 := [154, 0, 6, 167, 0, 17, 28, 154, 0, 8, 21, 4, 167, 0, 4, 29, 62, 132, 2, 1, 132, 4, 1]
abbrev dktX0_ruled_2 : List UInt8 := dkwX0_ruled_2 ++ dktX0_ruled_3
def dkwX0_ruled_1 : List UInt8 := [62, 2, 54, 4, 21, 4, 42, 180, 0, 31, 182, 0, 139, 162, 0, 35, 42, 21, 4, 182, 1, 74]
abbrev dktX0_ruled_1 : List UInt8 := dkwX0_ruled_1 ++ dktX0_ruled_2
def dkwX0_ruled_0 : List UInt8 := [42, 182, 0, 108, 153, 0, 13, 27, 133, 9, 10, 184, 0, 104, 154, 0, 6, 16, 253, 172, 3, 61, 16, 254]
abbrev dktX0_ruled_0 : List UInt8 := dkwX0_ruled_0 ++ dktX0_ruled_1
theorem dksX0_ruled_0 : cX0_ruled.data.toList.drop 0 = dktX0_ruled_0 := by decide +kernel
theorem dksX0_ruled_1 : cX0_ruled.data.toList.drop 24 = dktX0_ruled_1 := dk_seg dksX0_ruled_0 24 rfl rfl
theorem dksX0_ruled_2 : cX0_ruled.data.toList.drop 46 = dktX0_ruled_2 := dk_seg dksX0_ruled_1 22 rfl rfl
theorem dksX0_ruled_3 : cX0_ruled.data.toList.drop 69 = dktX0_ruled_3 := dk_seg dksX0_ruled_2 23 rfl rfl
theorem dX0_ruled_0 : decode cX0_ruled 0 = .ok (.aload_n 0, 1) := dk_42 (dk_at dksX0_ruled_0 0 rfl rfl)
theorem dX0_ruled_1 : decode cX0_ruled 1 = .ok (.invokevirtual 108, 3) := dk_182 0 108 (dk_at dksX0_ruled_0 1 rfl rfl)
theorem dX0_ruled_4 : decode cX0_ruled 4 = .ok (.ifCond .eq 13, 3) := dk_153 0 13 (dk_at dksX0_ruled_0 4 rfl rfl)
theorem dX0_ruled_7 : decode cX0_ruled 7 = .ok (.iload_n 1, 1) := dk_27 (dk_at dksX0_ruled_0 7 rfl rfl)
theorem dX0_ruled_8 : decode cX0_ruled 8 = .ok (.i2l, 1) := dk_133 (dk_at dksX0_ruled_0 8 rfl rfl)
theorem dX0_ruled_9 : decode cX0_ruled 9 = .ok (.lconst 0, 1) := dk_9 (dk_at dksX0_ruled_0 9 rfl rfl)
theorem dX0_ruled_10 : decode cX0_ruled 10 = .ok (.lconst 1, 1) := dk_10 (dk_at dksX0_ruled_0 10 rfl rfl)
theorem dX0_ruled_11 : decode cX0_ruled 11 = .ok (.invokestatic 104, 3) := dk_184 0 104 (dk_at dksX0_ruled_0 11 rfl rfl)
theorem dX0_ruled_14 : decode cX0_ruled 14 = .ok (.ifCond .ne 6, 3) := dk_154 0 6 (dk_at dksX0_ruled_0 14 rfl rfl)
theorem dX0_ruled_17 : decode cX0_ruled 17 = .ok (.bipush (-3), 2) := dk_16 253 (dk_at dksX0_ruled_0 17 rfl rfl)
theorem dX0_ruled_19 : decode cX0_ruled 19 = .ok (.ireturn, 1) := dk_172 (dk_at dksX0_ruled_0 19 rfl rfl)
theorem dX0_ruled_20 : decode cX0_ruled 20 = .ok (.iconst 0, 1) := dk_3 (dk_at dksX0_ruled_0 20 rfl rfl)
theorem dX0_ruled_21 : decode cX0_ruled 21 = .ok (.istore_n 2, 1) := dk_61 (dk_at dksX0_ruled_0 21 rfl rfl)
theorem dX0_ruled_22 : decode cX0_ruled 22 = .ok (.bipush (-2), 2) := dk_16 254 (dk_at dksX0_ruled_0 22 rfl rfl)
theorem dX0_ruled_24 : decode cX0_ruled 24 = .ok (.istore_n 3, 1) := dk_62 (dk_at dksX0_ruled_1 0 rfl rfl)
theorem dX0_ruled_25 : decode cX0_ruled 25 = .ok (.iconst (-1), 1) := dk_2 (dk_at dksX0_ruled_1 1 rfl rfl)
theorem dX0_ruled_26 : decode cX0_ruled 26 = .ok (.istore 4, 2) := dk_54 4 (dk_at dksX0_ruled_1 2 rfl rfl)
theorem dX0_ruled_28 : decode cX0_ruled 28 = .ok (.iload 4, 2) := dk_21 4 (dk_at dksX0_ruled_1 4 rfl rfl)
theorem dX0_ruled_30 : decode cX0_ruled 30 = .ok (.aload_n 0, 1) := dk_42 (dk_at dksX0_ruled_1 6 rfl rfl)
theorem dX0_ruled_31 : decode cX0_ruled 31 = .ok (.getfield 31, 3) := dk_180 0 31 (dk_at dksX0_ruled_1 7 rfl rfl)
theorem dX0_ruled_34 : decode cX0_ruled 34 = .ok (.invokevirtual 139, 3) := dk_182 0 139 (dk_at dksX0_ruled_1 10 rfl rfl)
theorem dX0_ruled_37 : decode cX0_ruled 37 = .ok (.if_icmp .ge 35, 3) := dk_162 0 35 (dk_at dksX0_ruled_1 13 rfl rfl)
theorem dX0_ruled_40 : decode cX0_ruled 40 = .ok (.aload_n 0, 1) := dk_42 (dk_at dksX0_ruled_1 16 rfl rfl)
theorem dX0_ruled_41 : decode cX0_ruled 41 = .ok (.iload 4, 2) := dk_21 4 (dk_at dksX0_ruled_1 17 rfl rfl)
theorem dX0_ruled_43 : decode cX0_ruled 43 = .ok (.invokevirtual 330, 3) := dk_182 1 74 (dk_at dksX0_ruled_1 19 rfl rfl)
theorem dX0_ruled_46 : decode cX0_ruled 46 = .ok (.ifCond .ne 6, 3) := dk_154 0 6 (dk_at dksX0_ruled_2 0 rfl rfl)
theorem dX0_ruled_49 : decode cX0_ruled 49 = .ok (.goto 17, 3) := dk_167 0 17 (dk_at dksX0_ruled_2 3 rfl rfl)
theorem dX0_ruled_52 : decode cX0_ruled 52 = .ok (.iload_n 2, 1) := dk_28 (dk_at dksX0_ruled_2 6 rfl rfl)
theorem dX0_ruled_53 : decode cX0_ruled 53 = .ok (.ifCond .ne 8, 3) := dk_154 0 8 (dk_at dksX0_ruled_2 7 rfl rfl)
theorem dX0_ruled_56 : decode cX0_ruled 56 = .ok (.iload 4, 2) := dk_21 4 (dk_at dksX0_ruled_2 10 rfl rfl)
theorem dX0_ruled_58 : decode cX0_ruled 58 = .ok (.goto 4, 3) := dk_167 0 4 (dk_at dksX0_ruled_2 12 rfl rfl)
theorem dX0_ruled_61 : decode cX0_ruled 61 = .ok (.iload_n 3, 1) := dk_29 (dk_at dksX0_ruled_2 15 rfl rfl)
theorem dX0_ruled_62 : decode cX0_ruled 62 = .ok (.istore_n 3, 1) := dk_62 (dk_at dksX0_ruled_2 16 rfl rfl)
theorem dX0_ruled_63 : decode cX0_ruled 63 = .ok (.iinc 2 1, 3) := dk_132 2 1 (dk_at dksX0_ruled_2 17 rfl rfl)
theorem dX0_ruled_66 : decode cX0_ruled 66 = .ok (.iinc 4 1, 3) := dk_132 4 1 (dk_at dksX0_ruled_2 20 rfl rfl)
theorem dX0_ruled_69 : decode cX0_ruled 69 = .ok (.goto (-41), 3) := dk_167 255 215 (dk_at dksX0_ruled_3 0 rfl rfl)
theorem dX0_ruled_72 : decode cX0_ruled 72 = .ok (.iload_n 1, 1) := dk_27 (dk_at dksX0_ruled_3 3 rfl rfl)
theorem dX0_ruled_73 : decode cX0_ruled 73 = .ok (.ifCond .ne 7, 3) := dk_154 0 7 (dk_at dksX0_ruled_3 4 rfl rfl)
theorem dX0_ruled_76 : decode cX0_ruled 76 = .ok (.iload_n 2, 1) := dk_28 (dk_at dksX0_ruled_3 7 rfl rfl)
theorem dX0_ruled_77 : decode cX0_ruled 77 = .ok (.goto 4, 3) := dk_167 0 4 (dk_at dksX0_ruled_3 8 rfl rfl)
theorem dX0_ruled_80 : decode cX0_ruled 80 = .ok (.iload_n 3, 1) := dk_29 (dk_at dksX0_ruled_3 11 rfl rfl)
theorem dX0_ruled_81 : decode cX0_ruled 81 = .ok (.ireturn, 1) := dk_172 (dk_at dksX0_ruled_3 12 rfl rfl)
abbrev cX0_couldRule : ByteArray := prog_1_method_52_code
def yX0_couldRule : MethodName := ⟨RX0, "couldRule", "(I)Z"⟩
def dkwX0_couldRule_4 : List UInt8 := [172, 132, 3, 1, 167, 255, 223, 4, 172]
abbrev dktX0_couldRule_4 : List UInt8 := dkwX0_couldRule_4 ++ []
def dkwX0_couldRule_3 : List UInt8 := [162, 0, 31, 42, 180, 0, 85, 42, 180, 0, 50, 29, 46, 46, 42, 180, 0, 54, 29, 46, 159, 0, 5, 3]
abbrev dktX0_couldRule_3 : List UInt8 := dkwX0_couldRule_3 ++ dktX0_couldRule_4
def dkwX0_couldRule_2 : List UInt8 := [182, 1, 8, 87, 132, 3, 1, 167, 255, 225, 42, 28, 181, 0, 35, 3, 62, 29, 42, 180, 0, 133]
abbrev dktX0_couldRule_2 : List UInt8 := dkwX0_couldRule_2 ++ dktX0_couldRule_3
def dkwX0_couldRule_1 : List UInt8 := [16, 60, 163, 0, 31, 42, 180, 0, 85, 29, 42, 180, 0, 23, 180, 0, 177, 79, 42, 42, 180, 0, 23]
abbrev dktX0_couldRule_1 : List UInt8 := dkwX0_couldRule_1 ++ dktX0_couldRule_2
def dkwX0_couldRule_0 : List UInt8 := [42, 180, 0, 35, 61, 42, 27, 181, 0, 35, 42, 180, 0, 23, 42, 180, 0, 10, 182, 0, 129, 3, 62, 29]
abbrev dktX0_couldRule_0 : List UInt8 := dkwX0_couldRule_0 ++ dktX0_couldRule_1
theorem dksX0_couldRule_0 : cX0_couldRule.data.toList.drop 0 = dktX0_couldRule_0 := by decide +kernel
theorem dksX0_couldRule_1 : cX0_couldRule.data.toList.drop 24 = dktX0_couldRule_1 := dk_seg dksX0_couldRule_0 24 rfl rfl
theorem dksX0_couldRule_2 : cX0_couldRule.data.toList.drop 47 = dktX0_couldRule_2 := dk_seg dksX0_couldRule_1 23 rfl rfl
theorem dksX0_couldRule_3 : cX0_couldRule.data.toList.drop 69 = dktX0_couldRule_3 := dk_seg dksX0_couldRule_2 22 rfl rfl
theorem dksX0_couldRule_4 : cX0_couldRule.data.toList.drop 93 = dktX0_couldRule_4 := dk_seg dksX0_couldRule_3 24 rfl rfl
theorem dX0_couldRule_0 : decode cX0_couldRule 0 = .ok (.aload_n 0, 1) := dk_42 (dk_at dksX0_couldRule_0 0 rfl rfl)
theorem dX0_couldRule_1 : decode cX0_couldRule 1 = .ok (.getfield 35, 3) := dk_180 0 35 (dk_at dksX0_couldRule_0 1 rfl rfl)
theorem dX0_couldRule_4 : decode cX0_couldRule 4 = .ok (.istore_n 2, 1) := dk_61 (dk_at dksX0_couldRule_0 4 rfl rfl)
theorem dX0_couldRule_5 : decode cX0_couldRule 5 = .ok (.aload_n 0, 1) := dk_42 (dk_at dksX0_couldRule_0 5 rfl rfl)
theorem dX0_couldRule_6 : decode cX0_couldRule 6 = .ok (.iload_n 1, 1) := dk_27 (dk_at dksX0_couldRule_0 6 rfl rfl)
theorem dX0_couldRule_7 : decode cX0_couldRule 7 = .ok (.putfield 35, 3) := dk_181 0 35 (dk_at dksX0_couldRule_0 7 rfl rfl)
theorem dX0_couldRule_10 : decode cX0_couldRule 10 = .ok (.aload_n 0, 1) := dk_42 (dk_at dksX0_couldRule_0 10 rfl rfl)
theorem dX0_couldRule_11 : decode cX0_couldRule 11 = .ok (.getfield 23, 3) := dk_180 0 23 (dk_at dksX0_couldRule_0 11 rfl rfl)
theorem dX0_couldRule_14 : decode cX0_couldRule 14 = .ok (.aload_n 0, 1) := dk_42 (dk_at dksX0_couldRule_0 14 rfl rfl)
theorem dX0_couldRule_15 : decode cX0_couldRule 15 = .ok (.getfield 10, 3) := dk_180 0 10 (dk_at dksX0_couldRule_0 15 rfl rfl)
theorem dX0_couldRule_18 : decode cX0_couldRule 18 = .ok (.invokevirtual 129, 3) := dk_182 0 129 (dk_at dksX0_couldRule_0 18 rfl rfl)
theorem dX0_couldRule_21 : decode cX0_couldRule 21 = .ok (.iconst 0, 1) := dk_3 (dk_at dksX0_couldRule_0 21 rfl rfl)
theorem dX0_couldRule_22 : decode cX0_couldRule 22 = .ok (.istore_n 3, 1) := dk_62 (dk_at dksX0_couldRule_0 22 rfl rfl)
theorem dX0_couldRule_23 : decode cX0_couldRule 23 = .ok (.iload_n 3, 1) := dk_29 (dk_at dksX0_couldRule_0 23 rfl rfl)
theorem dX0_couldRule_24 : decode cX0_couldRule 24 = .ok (.bipush 60, 2) := dk_16 60 (dk_at dksX0_couldRule_1 0 rfl rfl)
theorem dX0_couldRule_26 : decode cX0_couldRule 26 = .ok (.if_icmp .gt 31, 3) := dk_163 0 31 (dk_at dksX0_couldRule_1 2 rfl rfl)
theorem dX0_couldRule_29 : decode cX0_couldRule 29 = .ok (.aload_n 0, 1) := dk_42 (dk_at dksX0_couldRule_1 5 rfl rfl)
theorem dX0_couldRule_30 : decode cX0_couldRule 30 = .ok (.getfield 85, 3) := dk_180 0 85 (dk_at dksX0_couldRule_1 6 rfl rfl)
theorem dX0_couldRule_33 : decode cX0_couldRule 33 = .ok (.iload_n 3, 1) := dk_29 (dk_at dksX0_couldRule_1 9 rfl rfl)
theorem dX0_couldRule_34 : decode cX0_couldRule 34 = .ok (.aload_n 0, 1) := dk_42 (dk_at dksX0_couldRule_1 10 rfl rfl)
theorem dX0_couldRule_35 : decode cX0_couldRule 35 = .ok (.getfield 23, 3) := dk_180 0 23 (dk_at dksX0_couldRule_1 11 rfl rfl)
theorem dX0_couldRule_38 : decode cX0_couldRule 38 = .ok (.getfield 177, 3) := dk_180 0 177 (dk_at dksX0_couldRule_1 14 rfl rfl)
theorem dX0_couldRule_41 : decode cX0_couldRule 41 = .ok (.iastore, 1) := dk_79 (dk_at dksX0_couldRule_1 17 rfl rfl)
theorem dX0_couldRule_42 : decode cX0_couldRule 42 = .ok (.aload_n 0, 1) := dk_42 (dk_at dksX0_couldRule_1 18 rfl rfl)
theorem dX0_couldRule_43 : decode cX0_couldRule 43 = .ok (.aload_n 0, 1) := dk_42 (dk_at dksX0_couldRule_1 19 rfl rfl)
theorem dX0_couldRule_44 : decode cX0_couldRule 44 = .ok (.getfield 23, 3) := dk_180 0 23 (dk_at dksX0_couldRule_1 20 rfl rfl)
theorem dX0_couldRule_47 : decode cX0_couldRule 47 = .ok (.invokevirtual 264, 3) := dk_182 1 8 (dk_at dksX0_couldRule_2 0 rfl rfl)
theorem dX0_couldRule_50 : decode cX0_couldRule 50 = .ok (.pop, 1) := dk_87 (dk_at dksX0_couldRule_2 3 rfl rfl)
theorem dX0_couldRule_51 : decode cX0_couldRule 51 = .ok (.iinc 3 1, 3) := dk_132 3 1 (dk_at dksX0_couldRule_2 4 rfl rfl)
theorem dX0_couldRule_54 : decode cX0_couldRule 54 = .ok (.goto (-31), 3) := dk_167 255 225 (dk_at dksX0_couldRule_2 7 rfl rfl)
theorem dX0_couldRule_57 : decode cX0_couldRule 57 = .ok (.aload_n 0, 1) := dk_42 (dk_at dksX0_couldRule_2 10 rfl rfl)
theorem dX0_couldRule_58 : decode cX0_couldRule 58 = .ok (.iload_n 2, 1) := dk_28 (dk_at dksX0_couldRule_2 11 rfl rfl)
theorem dX0_couldRule_59 : decode cX0_couldRule 59 = .ok (.putfield 35, 3) := dk_181 0 35 (dk_at dksX0_couldRule_2 12 rfl rfl)
theorem dX0_couldRule_62 : decode cX0_couldRule 62 = .ok (.iconst 0, 1) := dk_3 (dk_at dksX0_couldRule_2 15 rfl rfl)
theorem dX0_couldRule_63 : decode cX0_couldRule 63 = .ok (.istore_n 3, 1) := dk_62 (dk_at dksX0_couldRule_2 16 rfl rfl)
theorem dX0_couldRule_64 : decode cX0_couldRule 64 = .ok (.iload_n 3, 1) := dk_29 (dk_at dksX0_couldRule_2 17 rfl rfl)
theorem dX0_couldRule_65 : decode cX0_couldRule 65 = .ok (.aload_n 0, 1) := dk_42 (dk_at dksX0_couldRule_2 18 rfl rfl)
theorem dX0_couldRule_66 : decode cX0_couldRule 66 = .ok (.getfield 133, 3) := dk_180 0 133 (dk_at dksX0_couldRule_2 19 rfl rfl)
theorem dX0_couldRule_69 : decode cX0_couldRule 69 = .ok (.if_icmp .ge 31, 3) := dk_162 0 31 (dk_at dksX0_couldRule_3 0 rfl rfl)
theorem dX0_couldRule_72 : decode cX0_couldRule 72 = .ok (.aload_n 0, 1) := dk_42 (dk_at dksX0_couldRule_3 3 rfl rfl)
theorem dX0_couldRule_73 : decode cX0_couldRule 73 = .ok (.getfield 85, 3) := dk_180 0 85 (dk_at dksX0_couldRule_3 4 rfl rfl)
theorem dX0_couldRule_76 : decode cX0_couldRule 76 = .ok (.aload_n 0, 1) := dk_42 (dk_at dksX0_couldRule_3 7 rfl rfl)
theorem dX0_couldRule_77 : decode cX0_couldRule 77 = .ok (.getfield 50, 3) := dk_180 0 50 (dk_at dksX0_couldRule_3 8 rfl rfl)
theorem dX0_couldRule_80 : decode cX0_couldRule 80 = .ok (.iload_n 3, 1) := dk_29 (dk_at dksX0_couldRule_3 11 rfl rfl)
theorem dX0_couldRule_81 : decode cX0_couldRule 81 = .ok (.iaload, 1) := dk_46 (dk_at dksX0_couldRule_3 12 rfl rfl)
theorem dX0_couldRule_82 : decode cX0_couldRule 82 = .ok (.iaload, 1) := dk_46 (dk_at dksX0_couldRule_3 13 rfl rfl)
theorem dX0_couldRule_83 : decode cX0_couldRule 83 = .ok (.aload_n 0, 1) := dk_42 (dk_at dksX0_couldRule_3 14 rfl rfl)
theorem dX0_couldRule_84 : decode cX0_couldRule 84 = .ok (.getfield 54, 3) := dk_180 0 54 (dk_at dksX0_couldRule_3 15 rfl rfl)
theorem dX0_couldRule_87 : decode cX0_couldRule 87 = .ok (.iload_n 3, 1) := dk_29 (dk_at dksX0_couldRule_3 18 rfl rfl)
theorem dX0_couldRule_88 : decode cX0_couldRule 88 = .ok (.iaload, 1) := dk_46 (dk_at dksX0_couldRule_3 19 rfl rfl)
theorem dX0_couldRule_89 : decode cX0_couldRule 89 = .ok (.if_icmp .eq 5, 3) := dk_159 0 5 (dk_at dksX0_couldRule_3 20 rfl rfl)
theorem dX0_couldRule_92 : decode cX0_couldRule 92 = .ok (.iconst 0, 1) := dk_3 (dk_at dksX0_couldRule_3 23 rfl rfl)
theorem dX0_couldRule_93 : decode cX0_couldRule 93 = .ok (.ireturn, 1) := dk_172 (dk_at dksX0_couldRule_4 0 rfl rfl)
theorem dX0_couldRule_94 : decode cX0_couldRule 94 = .ok (.iinc 3 1, 3) := dk_132 3 1 (dk_at dksX0_couldRule_4 1 rfl rfl)
theorem dX0_couldRule_97 : decode cX0_couldRule 97 = .ok (.goto (-33), 3) := dk_167 255 223 (dk_at dksX0_couldRule_4 4 rfl rfl)
theorem dX0_couldRule_100 : decode cX0_couldRule 100 = .ok (.iconst 1, 1) := dk_4 (dk_at dksX0_couldRule_4 7 rfl rfl)
theorem dX0_couldRule_101 : decode cX0_couldRule 101 = .ok (.ireturn, 1) := dk_172 (dk_at dksX0_couldRule_4 8 rfl rfl)
abbrev cX0_look : ByteArray := prog_1_method_55_code
def yX0_look : MethodName := ⟨RX0, "look", "(I)I"⟩
def dkwX0_look_6 : List UInt8 := [29, 28, 182, 1, 77, 172]
abbrev dktX0_look_6 : List UInt8 := dkwX0_look_6 ++ []
def dkwX0_look_5 : List UInt8 := [182, 1, 77, 162, 0, 6, 21, 4, 62, 132, 4, 1, 167, 255, 227, 27, 154, 0, 7, 29, 167, 0, 9, 42]
abbrev dktX0_look_5 : List UInt8 := dkwX0_look_5 ++ dktX0_look_6
def dkwX0_look_4 : List UInt8 := [3, 62, 4, 54, 4, 21, 4, 16, 60, 163, 0, 28, 42, 21, 4, 28, 182, 1, 77, 42, 29, 28]
abbrev dktX0_look_4 : List UInt8 := dkwX0_look_4 ++ dktX0_look_5
def dkwX0_look_3 : List UInt8 := [46, 79, 132, 4, 1, 167, 255, 227, 132, 2, 1, 132, 3, 1, 167, 255, 193, 28, 154, 0, 6, 16, 254, 172]
abbrev dktX0_look_3 : List UInt8 := dkwX0_look_3 ++ dktX0_look_4
def dkwX0_look_2 : List UInt8 := [21, 4, 16, 60, 163, 0, 28, 42, 180, 0, 88, 16, 61, 28, 104, 21, 4, 96, 42, 180, 0, 85, 21, 4]
abbrev dktX0_look_2 : List UInt8 := dkwX0_look_2 ++ dktX0_look_3
def dkwX0_look_1 : List UInt8 := [42, 180, 0, 31, 182, 0, 139, 162, 0, 58, 42, 29, 182, 1, 74, 154, 0, 6, 167, 0, 41, 3, 54, 4]
abbrev dktX0_look_1 : List UInt8 := dkwX0_look_1 ++ dktX0_look_2
def dkwX0_look_0 : List UInt8 := [42, 182, 0, 108, 153, 0, 13, 27, 133, 9, 10, 184, 0, 104, 154, 0, 5, 2, 172, 3, 61, 2, 62, 29]
abbrev dktX0_look_0 : List UInt8 := dkwX0_look_0 ++ dktX0_look_1
theorem dksX0_look_0 : cX0_look.data.toList.drop 0 = dktX0_look_0 := by decide +kernel
theorem dksX0_look_1 : cX0_look.data.toList.drop 24 = dktX0_look_1 := dk_seg dksX0_look_0 24 rfl rfl
theorem dksX0_look_2 : cX0_look.data.toList.drop 48 = dktX0_look_2 := dk_seg dksX0_look_1 24 rfl rfl
theorem dksX0_look_3 : cX0_look.data.toList.drop 72 = dktX0_look_3 := dk_seg dksX0_look_2 24 rfl rfl
theorem dksX0_look_4 : cX0_look.data.toList.drop 96 = dktX0_look_4 := dk_seg dksX0_look_3 24 rfl rfl
theorem dksX0_look_5 : cX0_look.data.toList.drop 118 = dktX0_look_5 := dk_seg dksX0_look_4 22 rfl rfl
theorem dksX0_look_6 : cX0_look.data.toList.drop 142 = dktX0_look_6 := dk_seg dksX0_look_5 24 rfl rfl
theorem dX0_look_0 : decode cX0_look 0 = .ok (.aload_n 0, 1) := dk_42 (dk_at dksX0_look_0 0 rfl rfl)
theorem dX0_look_1 : decode cX0_look 1 = .ok (.invokevirtual 108, 3) := dk_182 0 108 (dk_at dksX0_look_0 1 rfl rfl)
theorem dX0_look_4 : decode cX0_look 4 = .ok (.ifCond .eq 13, 3) := dk_153 0 13 (dk_at dksX0_look_0 4 rfl rfl)
theorem dX0_look_7 : decode cX0_look 7 = .ok (.iload_n 1, 1) := dk_27 (dk_at dksX0_look_0 7 rfl rfl)
theorem dX0_look_8 : decode cX0_look 8 = .ok (.i2l, 1) := dk_133 (dk_at dksX0_look_0 8 rfl rfl)
theorem dX0_look_9 : decode cX0_look 9 = .ok (.lconst 0, 1) := dk_9 (dk_at dksX0_look_0 9 rfl rfl)
theorem dX0_look_10 : decode cX0_look 10 = .ok (.lconst 1, 1) := dk_10 (dk_at dksX0_look_0 10 rfl rfl)
theorem dX0_look_11 : decode cX0_look 11 = .ok (.invokestatic 104, 3) := dk_184 0 104 (dk_at dksX0_look_0 11 rfl rfl)
theorem dX0_look_14 : decode cX0_look 14 = .ok (.ifCond .ne 5, 3) := dk_154 0 5 (dk_at dksX0_look_0 14 rfl rfl)
theorem dX0_look_17 : decode cX0_look 17 = .ok (.iconst (-1), 1) := dk_2 (dk_at dksX0_look_0 17 rfl rfl)
theorem dX0_look_18 : decode cX0_look 18 = .ok (.ireturn, 1) := dk_172 (dk_at dksX0_look_0 18 rfl rfl)
theorem dX0_look_19 : decode cX0_look 19 = .ok (.iconst 0, 1) := dk_3 (dk_at dksX0_look_0 19 rfl rfl)
theorem dX0_look_20 : decode cX0_look 20 = .ok (.istore_n 2, 1) := dk_61 (dk_at dksX0_look_0 20 rfl rfl)
theorem dX0_look_21 : decode cX0_look 21 = .ok (.iconst (-1), 1) := dk_2 (dk_at dksX0_look_0 21 rfl rfl)
theorem dX0_look_22 : decode cX0_look 22 = .ok (.istore_n 3, 1) := dk_62 (dk_at dksX0_look_0 22 rfl rfl)
theorem dX0_look_23 : decode cX0_look 23 = .ok (.iload_n 3, 1) := dk_29 (dk_at dksX0_look_0 23 rfl rfl)
theorem dX0_look_24 : decode cX0_look 24 = .ok (.aload_n 0, 1) := dk_42 (dk_at dksX0_look_1 0 rfl rfl)
theorem dX0_look_25 : decode cX0_look 25 = .ok (.getfield 31, 3) := dk_180 0 31 (dk_at dksX0_look_1 1 rfl rfl)
theorem dX0_look_28 : decode cX0_look 28 = .ok (.invokevirtual 139, 3) := dk_182 0 139 (dk_at dksX0_look_1 4 rfl rfl)
theorem dX0_look_31 : decode cX0_look 31 = .ok (.if_icmp .ge 58, 3) := dk_162 0 58 (dk_at dksX0_look_1 7 rfl rfl)
theorem dX0_look_34 : decode cX0_look 34 = .ok (.aload_n 0, 1) := dk_42 (dk_at dksX0_look_1 10 rfl rfl)
theorem dX0_look_35 : decode cX0_look 35 = .ok (.iload_n 3, 1) := dk_29 (dk_at dksX0_look_1 11 rfl rfl)
theorem dX0_look_36 : decode cX0_look 36 = .ok (.invokevirtual 330, 3) := dk_182 1 74 (dk_at dksX0_look_1 12 rfl rfl)
theorem dX0_look_39 : decode cX0_look 39 = .ok (.ifCond .ne 6, 3) := dk_154 0 6 (dk_at dksX0_look_1 15 rfl rfl)
theorem dX0_look_42 : decode cX0_look 42 = .ok (.goto 41, 3) := dk_167 0 41 (dk_at dksX0_look_1 18 rfl rfl)
theorem dX0_look_45 : decode cX0_look 45 = .ok (.iconst 0, 1) := dk_3 (dk_at dksX0_look_1 21 rfl rfl)
theorem dX0_look_46 : decode cX0_look 46 = .ok (.istore 4, 2) := dk_54 4 (dk_at dksX0_look_1 22 rfl rfl)
theorem dX0_look_48 : decode cX0_look 48 = .ok (.iload 4, 2) := dk_21 4 (dk_at dksX0_look_2 0 rfl rfl)
theorem dX0_look_50 : decode cX0_look 50 = .ok (.bipush 60, 2) := dk_16 60 (dk_at dksX0_look_2 2 rfl rfl)
theorem dX0_look_52 : decode cX0_look 52 = .ok (.if_icmp .gt 28, 3) := dk_163 0 28 (dk_at dksX0_look_2 4 rfl rfl)
theorem dX0_look_55 : decode cX0_look 55 = .ok (.aload_n 0, 1) := dk_42 (dk_at dksX0_look_2 7 rfl rfl)
theorem dX0_look_56 : decode cX0_look 56 = .ok (.getfield 88, 3) := dk_180 0 88 (dk_at dksX0_look_2 8 rfl rfl)
theorem dX0_look_59 : decode cX0_look 59 = .ok (.bipush 61, 2) := dk_16 61 (dk_at dksX0_look_2 11 rfl rfl)
theorem dX0_look_61 : decode cX0_look 61 = .ok (.iload_n 2, 1) := dk_28 (dk_at dksX0_look_2 13 rfl rfl)
theorem dX0_look_62 : decode cX0_look 62 = .ok (.imul, 1) := dk_104 (dk_at dksX0_look_2 14 rfl rfl)
theorem dX0_look_63 : decode cX0_look 63 = .ok (.iload 4, 2) := dk_21 4 (dk_at dksX0_look_2 15 rfl rfl)
theorem dX0_look_65 : decode cX0_look 65 = .ok (.iadd, 1) := dk_96 (dk_at dksX0_look_2 17 rfl rfl)
theorem dX0_look_66 : decode cX0_look 66 = .ok (.aload_n 0, 1) := dk_42 (dk_at dksX0_look_2 18 rfl rfl)
theorem dX0_look_67 : decode cX0_look 67 = .ok (.getfield 85, 3) := dk_180 0 85 (dk_at dksX0_look_2 19 rfl rfl)
theorem dX0_look_70 : decode cX0_look 70 = .ok (.iload 4, 2) := dk_21 4 (dk_at dksX0_look_2 22 rfl rfl)
theorem dX0_look_72 : decode cX0_look 72 = .ok (.iaload, 1) := dk_46 (dk_at dksX0_look_3 0 rfl rfl)
theorem dX0_look_73 : decode cX0_look 73 = .ok (.iastore, 1) := dk_79 (dk_at dksX0_look_3 1 rfl rfl)
theorem dX0_look_74 : decode cX0_look 74 = .ok (.iinc 4 1, 3) := dk_132 4 1 (dk_at dksX0_look_3 2 rfl rfl)
theorem dX0_look_77 : decode cX0_look 77 = .ok (.goto (-29), 3) := dk_167 255 227 (dk_at dksX0_look_3 5 rfl rfl)
theorem dX0_look_80 : decode cX0_look 80 = .ok (.iinc 2 1, 3) := dk_132 2 1 (dk_at dksX0_look_3 8 rfl rfl)
theorem dX0_look_83 : decode cX0_look 83 = .ok (.iinc 3 1, 3) := dk_132 3 1 (dk_at dksX0_look_3 11 rfl rfl)
theorem dX0_look_86 : decode cX0_look 86 = .ok (.goto (-63), 3) := dk_167 255 193 (dk_at dksX0_look_3 14 rfl rfl)
theorem dX0_look_89 : decode cX0_look 89 = .ok (.iload_n 2, 1) := dk_28 (dk_at dksX0_look_3 17 rfl rfl)
theorem dX0_look_90 : decode cX0_look 90 = .ok (.ifCond .ne 6, 3) := dk_154 0 6 (dk_at dksX0_look_3 18 rfl rfl)
theorem dX0_look_93 : decode cX0_look 93 = .ok (.bipush (-2), 2) := dk_16 254 (dk_at dksX0_look_3 21 rfl rfl)
theorem dX0_look_95 : decode cX0_look 95 = .ok (.ireturn, 1) := dk_172 (dk_at dksX0_look_3 23 rfl rfl)
theorem dX0_look_96 : decode cX0_look 96 = .ok (.iconst 0, 1) := dk_3 (dk_at dksX0_look_4 0 rfl rfl)
theorem dX0_look_97 : decode cX0_look 97 = .ok (.istore_n 3, 1) := dk_62 (dk_at dksX0_look_4 1 rfl rfl)
theorem dX0_look_98 : decode cX0_look 98 = .ok (.iconst 1, 1) := dk_4 (dk_at dksX0_look_4 2 rfl rfl)
theorem dX0_look_99 : decode cX0_look 99 = .ok (.istore 4, 2) := dk_54 4 (dk_at dksX0_look_4 3 rfl rfl)
theorem dX0_look_101 : decode cX0_look 101 = .ok (.iload 4, 2) := dk_21 4 (dk_at dksX0_look_4 5 rfl rfl)
theorem dX0_look_103 : decode cX0_look 103 = .ok (.bipush 60, 2) := dk_16 60 (dk_at dksX0_look_4 7 rfl rfl)
theorem dX0_look_105 : decode cX0_look 105 = .ok (.if_icmp .gt 28, 3) := dk_163 0 28 (dk_at dksX0_look_4 9 rfl rfl)
theorem dX0_look_108 : decode cX0_look 108 = .ok (.aload_n 0, 1) := dk_42 (dk_at dksX0_look_4 12 rfl rfl)
theorem dX0_look_109 : decode cX0_look 109 = .ok (.iload 4, 2) := dk_21 4 (dk_at dksX0_look_4 13 rfl rfl)
theorem dX0_look_111 : decode cX0_look 111 = .ok (.iload_n 2, 1) := dk_28 (dk_at dksX0_look_4 15 rfl rfl)
theorem dX0_look_112 : decode cX0_look 112 = .ok (.invokevirtual 333, 3) := dk_182 1 77 (dk_at dksX0_look_4 16 rfl rfl)
theorem dX0_look_115 : decode cX0_look 115 = .ok (.aload_n 0, 1) := dk_42 (dk_at dksX0_look_4 19 rfl rfl)
theorem dX0_look_116 : decode cX0_look 116 = .ok (.iload_n 3, 1) := dk_29 (dk_at dksX0_look_4 20 rfl rfl)
theorem dX0_look_117 : decode cX0_look 117 = .ok (.iload_n 2, 1) := dk_28 (dk_at dksX0_look_4 21 rfl rfl)
theorem dX0_look_118 : decode cX0_look 118 = .ok (.invokevirtual 333, 3) := dk_182 1 77 (dk_at dksX0_look_5 0 rfl rfl)
theorem dX0_look_121 : decode cX0_look 121 = .ok (.if_icmp .ge 6, 3) := dk_162 0 6 (dk_at dksX0_look_5 3 rfl rfl)
theorem dX0_look_124 : decode cX0_look 124 = .ok (.iload 4, 2) := dk_21 4 (dk_at dksX0_look_5 6 rfl rfl)
theorem dX0_look_126 : decode cX0_look 126 = .ok (.istore_n 3, 1) := dk_62 (dk_at dksX0_look_5 8 rfl rfl)
theorem dX0_look_127 : decode cX0_look 127 = .ok (.iinc 4 1, 3) := dk_132 4 1 (dk_at dksX0_look_5 9 rfl rfl)
theorem dX0_look_130 : decode cX0_look 130 = .ok (.goto (-29), 3) := dk_167 255 227 (dk_at dksX0_look_5 12 rfl rfl)
theorem dX0_look_133 : decode cX0_look 133 = .ok (.iload_n 1, 1) := dk_27 (dk_at dksX0_look_5 15 rfl rfl)
theorem dX0_look_134 : decode cX0_look 134 = .ok (.ifCond .ne 7, 3) := dk_154 0 7 (dk_at dksX0_look_5 16 rfl rfl)
theorem dX0_look_137 : decode cX0_look 137 = .ok (.iload_n 3, 1) := dk_29 (dk_at dksX0_look_5 19 rfl rfl)
theorem dX0_look_138 : decode cX0_look 138 = .ok (.goto 9, 3) := dk_167 0 9 (dk_at dksX0_look_5 20 rfl rfl)
theorem dX0_look_141 : decode cX0_look 141 = .ok (.aload_n 0, 1) := dk_42 (dk_at dksX0_look_5 23 rfl rfl)
theorem dX0_look_142 : decode cX0_look 142 = .ok (.iload_n 3, 1) := dk_29 (dk_at dksX0_look_6 0 rfl rfl)
theorem dX0_look_143 : decode cX0_look 143 = .ok (.iload_n 2, 1) := dk_28 (dk_at dksX0_look_6 1 rfl rfl)
theorem dX0_look_144 : decode cX0_look 144 = .ok (.invokevirtual 333, 3) := dk_182 1 77 (dk_at dksX0_look_6 2 rfl rfl)
theorem dX0_look_147 : decode cX0_look 147 = .ok (.ireturn, 1) := dk_172 (dk_at dksX0_look_6 5 rfl rfl)
abbrev cX0_mostAlike : ByteArray := prog_1_method_54_code
def yX0_mostAlike : MethodName := ⟨RX0, "mostAlike", "(II)I"⟩
def dkwX0_mostAlike_3 : List UInt8 := [21, 5, 184, 0, 249, 62, 132, 4, 1, 167, 255, 182, 29, 172]
abbrev dktX0_mostAlike_3 : List UInt8 := dkwX0_mostAlike_3 ++ []
def dkwX0_mostAlike_2 : List UInt8 := [96, 46, 160, 0, 7, 4, 167, 0, 4, 3, 184, 0, 173, 96, 54, 5, 132, 6, 1, 167, 255, 207, 29]
abbrev dktX0_mostAlike_2 : List UInt8 := dkwX0_mostAlike_2 ++ dktX0_mostAlike_3
def dkwX0_mostAlike_1 : List UInt8 := [21, 5, 42, 180, 0, 88, 16, 61, 21, 6, 104, 27, 96, 46, 42, 180, 0, 88, 16, 61, 21, 4, 104, 27]
abbrev dktX0_mostAlike_1 : List UInt8 := dkwX0_mostAlike_1 ++ dktX0_mostAlike_2
def dkwX0_mostAlike_0 : List UInt8 := [3, 62, 3, 54, 4, 21, 4, 28, 162, 0, 74, 3, 54, 5, 3, 54, 6, 21, 6, 28, 162, 0, 49]
abbrev dktX0_mostAlike_0 : List UInt8 := dkwX0_mostAlike_0 ++ dktX0_mostAlike_1
theorem dksX0_mostAlike_0 : cX0_mostAlike.data.toList.drop 0 = dktX0_mostAlike_0 := by decide +kernel
theorem dksX0_mostAlike_1 : cX0_mostAlike.data.toList.drop 23 = dktX0_mostAlike_1 := dk_seg dksX0_mostAlike_0 23 rfl rfl
theorem dksX0_mostAlike_2 : cX0_mostAlike.data.toList.drop 47 = dktX0_mostAlike_2 := dk_seg dksX0_mostAlike_1 24 rfl rfl
theorem dksX0_mostAlike_3 : cX0_mostAlike.data.toList.drop 70 = dktX0_mostAlike_3 := dk_seg dksX0_mostAlike_2 23 rfl rfl
theorem dX0_mostAlike_0 : decode cX0_mostAlike 0 = .ok (.iconst 0, 1) := dk_3 (dk_at dksX0_mostAlike_0 0 rfl rfl)
theorem dX0_mostAlike_1 : decode cX0_mostAlike 1 = .ok (.istore_n 3, 1) := dk_62 (dk_at dksX0_mostAlike_0 1 rfl rfl)
theorem dX0_mostAlike_2 : decode cX0_mostAlike 2 = .ok (.iconst 0, 1) := dk_3 (dk_at dksX0_mostAlike_0 2 rfl rfl)
theorem dX0_mostAlike_3 : decode cX0_mostAlike 3 = .ok (.istore 4, 2) := dk_54 4 (dk_at dksX0_mostAlike_0 3 rfl rfl)
theorem dX0_mostAlike_5 : decode cX0_mostAlike 5 = .ok (.iload 4, 2) := dk_21 4 (dk_at dksX0_mostAlike_0 5 rfl rfl)
theorem dX0_mostAlike_7 : decode cX0_mostAlike 7 = .ok (.iload_n 2, 1) := dk_28 (dk_at dksX0_mostAlike_0 7 rfl rfl)
theorem dX0_mostAlike_8 : decode cX0_mostAlike 8 = .ok (.if_icmp .ge 74, 3) := dk_162 0 74 (dk_at dksX0_mostAlike_0 8 rfl rfl)
theorem dX0_mostAlike_11 : decode cX0_mostAlike 11 = .ok (.iconst 0, 1) := dk_3 (dk_at dksX0_mostAlike_0 11 rfl rfl)
theorem dX0_mostAlike_12 : decode cX0_mostAlike 12 = .ok (.istore 5, 2) := dk_54 5 (dk_at dksX0_mostAlike_0 12 rfl rfl)
theorem dX0_mostAlike_14 : decode cX0_mostAlike 14 = .ok (.iconst 0, 1) := dk_3 (dk_at dksX0_mostAlike_0 14 rfl rfl)
theorem dX0_mostAlike_15 : decode cX0_mostAlike 15 = .ok (.istore 6, 2) := dk_54 6 (dk_at dksX0_mostAlike_0 15 rfl rfl)
theorem dX0_mostAlike_17 : decode cX0_mostAlike 17 = .ok (.iload 6, 2) := dk_21 6 (dk_at dksX0_mostAlike_0 17 rfl rfl)
theorem dX0_mostAlike_19 : decode cX0_mostAlike 19 = .ok (.iload_n 2, 1) := dk_28 (dk_at dksX0_mostAlike_0 19 rfl rfl)
theorem dX0_mostAlike_20 : decode cX0_mostAlike 20 = .ok (.if_icmp .ge 49, 3) := dk_162 0 49 (dk_at dksX0_mostAlike_0 20 rfl rfl)
theorem dX0_mostAlike_23 : decode cX0_mostAlike 23 = .ok (.iload 5, 2) := dk_21 5 (dk_at dksX0_mostAlike_1 0 rfl rfl)
theorem dX0_mostAlike_25 : decode cX0_mostAlike 25 = .ok (.aload_n 0, 1) := dk_42 (dk_at dksX0_mostAlike_1 2 rfl rfl)
theorem dX0_mostAlike_26 : decode cX0_mostAlike 26 = .ok (.getfield 88, 3) := dk_180 0 88 (dk_at dksX0_mostAlike_1 3 rfl rfl)
theorem dX0_mostAlike_29 : decode cX0_mostAlike 29 = .ok (.bipush 61, 2) := dk_16 61 (dk_at dksX0_mostAlike_1 6 rfl rfl)
theorem dX0_mostAlike_31 : decode cX0_mostAlike 31 = .ok (.iload 6, 2) := dk_21 6 (dk_at dksX0_mostAlike_1 8 rfl rfl)
theorem dX0_mostAlike_33 : decode cX0_mostAlike 33 = .ok (.imul, 1) := dk_104 (dk_at dksX0_mostAlike_1 10 rfl rfl)
theorem dX0_mostAlike_34 : decode cX0_mostAlike 34 = .ok (.iload_n 1, 1) := dk_27 (dk_at dksX0_mostAlike_1 11 rfl rfl)
theorem dX0_mostAlike_35 : decode cX0_mostAlike 35 = .ok (.iadd, 1) := dk_96 (dk_at dksX0_mostAlike_1 12 rfl rfl)
theorem dX0_mostAlike_36 : decode cX0_mostAlike 36 = .ok (.iaload, 1) := dk_46 (dk_at dksX0_mostAlike_1 13 rfl rfl)
theorem dX0_mostAlike_37 : decode cX0_mostAlike 37 = .ok (.aload_n 0, 1) := dk_42 (dk_at dksX0_mostAlike_1 14 rfl rfl)
theorem dX0_mostAlike_38 : decode cX0_mostAlike 38 = .ok (.getfield 88, 3) := dk_180 0 88 (dk_at dksX0_mostAlike_1 15 rfl rfl)
theorem dX0_mostAlike_41 : decode cX0_mostAlike 41 = .ok (.bipush 61, 2) := dk_16 61 (dk_at dksX0_mostAlike_1 18 rfl rfl)
theorem dX0_mostAlike_43 : decode cX0_mostAlike 43 = .ok (.iload 4, 2) := dk_21 4 (dk_at dksX0_mostAlike_1 20 rfl rfl)
theorem dX0_mostAlike_45 : decode cX0_mostAlike 45 = .ok (.imul, 1) := dk_104 (dk_at dksX0_mostAlike_1 22 rfl rfl)
theorem dX0_mostAlike_46 : decode cX0_mostAlike 46 = .ok (.iload_n 1, 1) := dk_27 (dk_at dksX0_mostAlike_1 23 rfl rfl)
theorem dX0_mostAlike_47 : decode cX0_mostAlike 47 = .ok (.iadd, 1) := dk_96 (dk_at dksX0_mostAlike_2 0 rfl rfl)
theorem dX0_mostAlike_48 : decode cX0_mostAlike 48 = .ok (.iaload, 1) := dk_46 (dk_at dksX0_mostAlike_2 1 rfl rfl)
theorem dX0_mostAlike_49 : decode cX0_mostAlike 49 = .ok (.if_icmp .ne 7, 3) := dk_160 0 7 (dk_at dksX0_mostAlike_2 2 rfl rfl)
theorem dX0_mostAlike_52 : decode cX0_mostAlike 52 = .ok (.iconst 1, 1) := dk_4 (dk_at dksX0_mostAlike_2 5 rfl rfl)
theorem dX0_mostAlike_53 : decode cX0_mostAlike 53 = .ok (.goto 4, 3) := dk_167 0 4 (dk_at dksX0_mostAlike_2 6 rfl rfl)
theorem dX0_mostAlike_56 : decode cX0_mostAlike 56 = .ok (.iconst 0, 1) := dk_3 (dk_at dksX0_mostAlike_2 9 rfl rfl)
theorem dX0_mostAlike_57 : decode cX0_mostAlike 57 = .ok (.invokestatic 173, 3) := dk_184 0 173 (dk_at dksX0_mostAlike_2 10 rfl rfl)
theorem dX0_mostAlike_60 : decode cX0_mostAlike 60 = .ok (.iadd, 1) := dk_96 (dk_at dksX0_mostAlike_2 13 rfl rfl)
theorem dX0_mostAlike_61 : decode cX0_mostAlike 61 = .ok (.istore 5, 2) := dk_54 5 (dk_at dksX0_mostAlike_2 14 rfl rfl)
theorem dX0_mostAlike_63 : decode cX0_mostAlike 63 = .ok (.iinc 6 1, 3) := dk_132 6 1 (dk_at dksX0_mostAlike_2 16 rfl rfl)
theorem dX0_mostAlike_66 : decode cX0_mostAlike 66 = .ok (.goto (-49), 3) := dk_167 255 207 (dk_at dksX0_mostAlike_2 19 rfl rfl)
theorem dX0_mostAlike_69 : decode cX0_mostAlike 69 = .ok (.iload_n 3, 1) := dk_29 (dk_at dksX0_mostAlike_2 22 rfl rfl)
theorem dX0_mostAlike_70 : decode cX0_mostAlike 70 = .ok (.iload 5, 2) := dk_21 5 (dk_at dksX0_mostAlike_3 0 rfl rfl)
theorem dX0_mostAlike_72 : decode cX0_mostAlike 72 = .ok (.invokestatic 249, 3) := dk_184 0 249 (dk_at dksX0_mostAlike_3 2 rfl rfl)
theorem dX0_mostAlike_75 : decode cX0_mostAlike 75 = .ok (.istore_n 3, 1) := dk_62 (dk_at dksX0_mostAlike_3 5 rfl rfl)
theorem dX0_mostAlike_76 : decode cX0_mostAlike 76 = .ok (.iinc 4 1, 3) := dk_132 4 1 (dk_at dksX0_mostAlike_3 6 rfl rfl)
theorem dX0_mostAlike_79 : decode cX0_mostAlike 79 = .ok (.goto (-74), 3) := dk_167 255 182 (dk_at dksX0_mostAlike_3 9 rfl rfl)
theorem dX0_mostAlike_82 : decode cX0_mostAlike 82 = .ok (.iload_n 3, 1) := dk_29 (dk_at dksX0_mostAlike_3 12 rfl rfl)
theorem dX0_mostAlike_83 : decode cX0_mostAlike 83 = .ok (.ireturn, 1) := dk_172 (dk_at dksX0_mostAlike_3 13 rfl rfl)
abbrev cX0_seed : ByteArray := prog_1_method_56_code
def yX0_seed : MethodName := ⟨RX0, "seed", "(I)I"⟩
def dkwX0_seed_0 : List UInt8 := [27, 156, 0, 5, 2, 172, 42, 180, 1, 80, 61, 42, 27, 181, 1, 80, 28, 172]
abbrev dktX0_seed_0 : List UInt8 := dkwX0_seed_0 ++ []
theorem dksX0_seed_0 : cX0_seed.data.toList.drop 0 = dktX0_seed_0 := by decide +kernel
theorem dX0_seed_0 : decode cX0_seed 0 = .ok (.iload_n 1, 1) := dk_27 (dk_at dksX0_seed_0 0 rfl rfl)
theorem dX0_seed_1 : decode cX0_seed 1 = .ok (.ifCond .ge 5, 3) := dk_156 0 5 (dk_at dksX0_seed_0 1 rfl rfl)
theorem dX0_seed_4 : decode cX0_seed 4 = .ok (.iconst (-1), 1) := dk_2 (dk_at dksX0_seed_0 4 rfl rfl)
theorem dX0_seed_5 : decode cX0_seed 5 = .ok (.ireturn, 1) := dk_172 (dk_at dksX0_seed_0 5 rfl rfl)
theorem dX0_seed_6 : decode cX0_seed 6 = .ok (.aload_n 0, 1) := dk_42 (dk_at dksX0_seed_0 6 rfl rfl)
theorem dX0_seed_7 : decode cX0_seed 7 = .ok (.getfield 336, 3) := dk_180 1 80 (dk_at dksX0_seed_0 7 rfl rfl)
theorem dX0_seed_10 : decode cX0_seed 10 = .ok (.istore_n 2, 1) := dk_61 (dk_at dksX0_seed_0 10 rfl rfl)
theorem dX0_seed_11 : decode cX0_seed 11 = .ok (.aload_n 0, 1) := dk_42 (dk_at dksX0_seed_0 11 rfl rfl)
theorem dX0_seed_12 : decode cX0_seed 12 = .ok (.iload_n 1, 1) := dk_27 (dk_at dksX0_seed_0 12 rfl rfl)
theorem dX0_seed_13 : decode cX0_seed 13 = .ok (.putfield 336, 3) := dk_181 1 80 (dk_at dksX0_seed_0 13 rfl rfl)
theorem dX0_seed_16 : decode cX0_seed 16 = .ok (.iload_n 2, 1) := dk_28 (dk_at dksX0_seed_0 16 rfl rfl)
theorem dX0_seed_17 : decode cX0_seed 17 = .ok (.ireturn, 1) := dk_172 (dk_at dksX0_seed_0 17 rfl rfl)
abbrev cX0_sparks : ByteArray := prog_1_method_59_code
def yX0_sparks : MethodName := ⟨RX0, "sparks", "(IIII)I"⟩
def dkwX0_sparks_7 : List UInt8 := [167, 0, 5, 21, 7, 172]
abbrev dktX0_sparks_7 : List UInt8 := dkwX0_sparks_7 ++ []
def dkwX0_sparks_6 : List UInt8 := [96, 54, 7, 132, 8, 1, 167, 255, 180, 42, 21, 5, 181, 1, 80, 21, 4, 154, 0, 8, 21, 6]
abbrev dktX0_sparks_6 : List UInt8 := dkwX0_sparks_6 ++ dktX0_sparks_7
def dkwX0_sparks_5 : List UInt8 := [21, 6, 42, 180, 0, 23, 182, 1, 35, 96, 54, 6, 21, 7, 42, 180, 0, 23, 182, 0, 180, 184, 0, 183]
abbrev dktX0_sparks_5 : List UInt8 := dkwX0_sparks_5 ++ dktX0_sparks_6
def dkwX0_sparks_4 : List UInt8 := [28, 162, 0, 23, 42, 29, 182, 1, 95, 42, 42, 180, 0, 23, 182, 1, 8, 87, 132, 9, 1, 167, 255, 233]
abbrev dktX0_sparks_4 : List UInt8 := dkwX0_sparks_4 ++ dktX0_sparks_5
def dkwX0_sparks_3 : List UInt8 := [54, 8, 21, 8, 27, 162, 0, 76, 42, 180, 0, 23, 42, 180, 0, 19, 182, 1, 13, 3, 54, 9, 21, 9]
abbrev dktX0_sparks_3 : List UInt8 := dkwX0_sparks_3 ++ dktX0_sparks_4
def dkwX0_sparks_2 : List UInt8 := [9, 10, 184, 0, 104, 154, 0, 5, 2, 172, 42, 180, 1, 80, 54, 5, 3, 54, 6, 3, 54, 7, 3]
abbrev dktX0_sparks_2 : List UInt8 := dkwX0_sparks_2 ++ dktX0_sparks_3
def dkwX0_sparks_1 : List UInt8 := [20, 1, 52, 184, 0, 104, 153, 0, 26, 29, 133, 9, 20, 1, 30, 184, 0, 104, 153, 0, 14, 21, 4, 133]
abbrev dktX0_sparks_1 : List UInt8 := dkwX0_sparks_1 ++ dktX0_sparks_2
def dkwX0_sparks_0 : List UInt8 := [42, 182, 0, 108, 153, 0, 50, 27, 133, 10, 20, 1, 93, 184, 0, 104, 153, 0, 38, 28, 133, 10]
abbrev dktX0_sparks_0 : List UInt8 := dkwX0_sparks_0 ++ dktX0_sparks_1
theorem dksX0_sparks_0 : cX0_sparks.data.toList.drop 0 = dktX0_sparks_0 := by decide +kernel
theorem dksX0_sparks_1 : cX0_sparks.data.toList.drop 22 = dktX0_sparks_1 := dk_seg dksX0_sparks_0 22 rfl rfl
theorem dksX0_sparks_2 : cX0_sparks.data.toList.drop 46 = dktX0_sparks_2 := dk_seg dksX0_sparks_1 24 rfl rfl
theorem dksX0_sparks_3 : cX0_sparks.data.toList.drop 69 = dktX0_sparks_3 := dk_seg dksX0_sparks_2 23 rfl rfl
theorem dksX0_sparks_4 : cX0_sparks.data.toList.drop 93 = dktX0_sparks_4 := dk_seg dksX0_sparks_3 24 rfl rfl
theorem dksX0_sparks_5 : cX0_sparks.data.toList.drop 117 = dktX0_sparks_5 := dk_seg dksX0_sparks_4 24 rfl rfl
theorem dksX0_sparks_6 : cX0_sparks.data.toList.drop 141 = dktX0_sparks_6 := dk_seg dksX0_sparks_5 24 rfl rfl
theorem dksX0_sparks_7 : cX0_sparks.data.toList.drop 163 = dktX0_sparks_7 := dk_seg dksX0_sparks_6 22 rfl rfl
theorem dX0_sparks_0 : decode cX0_sparks 0 = .ok (.aload_n 0, 1) := dk_42 (dk_at dksX0_sparks_0 0 rfl rfl)
theorem dX0_sparks_1 : decode cX0_sparks 1 = .ok (.invokevirtual 108, 3) := dk_182 0 108 (dk_at dksX0_sparks_0 1 rfl rfl)
theorem dX0_sparks_4 : decode cX0_sparks 4 = .ok (.ifCond .eq 50, 3) := dk_153 0 50 (dk_at dksX0_sparks_0 4 rfl rfl)
theorem dX0_sparks_7 : decode cX0_sparks 7 = .ok (.iload_n 1, 1) := dk_27 (dk_at dksX0_sparks_0 7 rfl rfl)
theorem dX0_sparks_8 : decode cX0_sparks 8 = .ok (.i2l, 1) := dk_133 (dk_at dksX0_sparks_0 8 rfl rfl)
theorem dX0_sparks_9 : decode cX0_sparks 9 = .ok (.lconst 1, 1) := dk_10 (dk_at dksX0_sparks_0 9 rfl rfl)
theorem dX0_sparks_10 : decode cX0_sparks 10 = .ok (.ldc2_w 349, 3) := dk_20 1 93 (dk_at dksX0_sparks_0 10 rfl rfl)
theorem dX0_sparks_13 : decode cX0_sparks 13 = .ok (.invokestatic 104, 3) := dk_184 0 104 (dk_at dksX0_sparks_0 13 rfl rfl)
theorem dX0_sparks_16 : decode cX0_sparks 16 = .ok (.ifCond .eq 38, 3) := dk_153 0 38 (dk_at dksX0_sparks_0 16 rfl rfl)
theorem dX0_sparks_19 : decode cX0_sparks 19 = .ok (.iload_n 2, 1) := dk_28 (dk_at dksX0_sparks_0 19 rfl rfl)
theorem dX0_sparks_20 : decode cX0_sparks 20 = .ok (.i2l, 1) := dk_133 (dk_at dksX0_sparks_0 20 rfl rfl)
theorem dX0_sparks_21 : decode cX0_sparks 21 = .ok (.lconst 1, 1) := dk_10 (dk_at dksX0_sparks_0 21 rfl rfl)
theorem dX0_sparks_22 : decode cX0_sparks 22 = .ok (.ldc2_w 308, 3) := dk_20 1 52 (dk_at dksX0_sparks_1 0 rfl rfl)
theorem dX0_sparks_25 : decode cX0_sparks 25 = .ok (.invokestatic 104, 3) := dk_184 0 104 (dk_at dksX0_sparks_1 3 rfl rfl)
theorem dX0_sparks_28 : decode cX0_sparks 28 = .ok (.ifCond .eq 26, 3) := dk_153 0 26 (dk_at dksX0_sparks_1 6 rfl rfl)
theorem dX0_sparks_31 : decode cX0_sparks 31 = .ok (.iload_n 3, 1) := dk_29 (dk_at dksX0_sparks_1 9 rfl rfl)
theorem dX0_sparks_32 : decode cX0_sparks 32 = .ok (.i2l, 1) := dk_133 (dk_at dksX0_sparks_1 10 rfl rfl)
theorem dX0_sparks_33 : decode cX0_sparks 33 = .ok (.lconst 0, 1) := dk_9 (dk_at dksX0_sparks_1 11 rfl rfl)
theorem dX0_sparks_34 : decode cX0_sparks 34 = .ok (.ldc2_w 286, 3) := dk_20 1 30 (dk_at dksX0_sparks_1 12 rfl rfl)
theorem dX0_sparks_37 : decode cX0_sparks 37 = .ok (.invokestatic 104, 3) := dk_184 0 104 (dk_at dksX0_sparks_1 15 rfl rfl)
theorem dX0_sparks_40 : decode cX0_sparks 40 = .ok (.ifCond .eq 14, 3) := dk_153 0 14 (dk_at dksX0_sparks_1 18 rfl rfl)
theorem dX0_sparks_43 : decode cX0_sparks 43 = .ok (.iload 4, 2) := dk_21 4 (dk_at dksX0_sparks_1 21 rfl rfl)
theorem dX0_sparks_45 : decode cX0_sparks 45 = .ok (.i2l, 1) := dk_133 (dk_at dksX0_sparks_1 23 rfl rfl)
theorem dX0_sparks_46 : decode cX0_sparks 46 = .ok (.lconst 0, 1) := dk_9 (dk_at dksX0_sparks_2 0 rfl rfl)
theorem dX0_sparks_47 : decode cX0_sparks 47 = .ok (.lconst 1, 1) := dk_10 (dk_at dksX0_sparks_2 1 rfl rfl)
theorem dX0_sparks_48 : decode cX0_sparks 48 = .ok (.invokestatic 104, 3) := dk_184 0 104 (dk_at dksX0_sparks_2 2 rfl rfl)
theorem dX0_sparks_51 : decode cX0_sparks 51 = .ok (.ifCond .ne 5, 3) := dk_154 0 5 (dk_at dksX0_sparks_2 5 rfl rfl)
theorem dX0_sparks_54 : decode cX0_sparks 54 = .ok (.iconst (-1), 1) := dk_2 (dk_at dksX0_sparks_2 8 rfl rfl)
theorem dX0_sparks_55 : decode cX0_sparks 55 = .ok (.ireturn, 1) := dk_172 (dk_at dksX0_sparks_2 9 rfl rfl)
theorem dX0_sparks_56 : decode cX0_sparks 56 = .ok (.aload_n 0, 1) := dk_42 (dk_at dksX0_sparks_2 10 rfl rfl)
theorem dX0_sparks_57 : decode cX0_sparks 57 = .ok (.getfield 336, 3) := dk_180 1 80 (dk_at dksX0_sparks_2 11 rfl rfl)
theorem dX0_sparks_60 : decode cX0_sparks 60 = .ok (.istore 5, 2) := dk_54 5 (dk_at dksX0_sparks_2 14 rfl rfl)
theorem dX0_sparks_62 : decode cX0_sparks 62 = .ok (.iconst 0, 1) := dk_3 (dk_at dksX0_sparks_2 16 rfl rfl)
theorem dX0_sparks_63 : decode cX0_sparks 63 = .ok (.istore 6, 2) := dk_54 6 (dk_at dksX0_sparks_2 17 rfl rfl)
theorem dX0_sparks_65 : decode cX0_sparks 65 = .ok (.iconst 0, 1) := dk_3 (dk_at dksX0_sparks_2 19 rfl rfl)
theorem dX0_sparks_66 : decode cX0_sparks 66 = .ok (.istore 7, 2) := dk_54 7 (dk_at dksX0_sparks_2 20 rfl rfl)
theorem dX0_sparks_68 : decode cX0_sparks 68 = .ok (.iconst 0, 1) := dk_3 (dk_at dksX0_sparks_2 22 rfl rfl)
theorem dX0_sparks_69 : decode cX0_sparks 69 = .ok (.istore 8, 2) := dk_54 8 (dk_at dksX0_sparks_3 0 rfl rfl)
theorem dX0_sparks_71 : decode cX0_sparks 71 = .ok (.iload 8, 2) := dk_21 8 (dk_at dksX0_sparks_3 2 rfl rfl)
theorem dX0_sparks_73 : decode cX0_sparks 73 = .ok (.iload_n 1, 1) := dk_27 (dk_at dksX0_sparks_3 4 rfl rfl)
theorem dX0_sparks_74 : decode cX0_sparks 74 = .ok (.if_icmp .ge 76, 3) := dk_162 0 76 (dk_at dksX0_sparks_3 5 rfl rfl)
theorem dX0_sparks_77 : decode cX0_sparks 77 = .ok (.aload_n 0, 1) := dk_42 (dk_at dksX0_sparks_3 8 rfl rfl)
theorem dX0_sparks_78 : decode cX0_sparks 78 = .ok (.getfield 23, 3) := dk_180 0 23 (dk_at dksX0_sparks_3 9 rfl rfl)
theorem dX0_sparks_81 : decode cX0_sparks 81 = .ok (.aload_n 0, 1) := dk_42 (dk_at dksX0_sparks_3 12 rfl rfl)
theorem dX0_sparks_82 : decode cX0_sparks 82 = .ok (.getfield 19, 3) := dk_180 0 19 (dk_at dksX0_sparks_3 13 rfl rfl)
theorem dX0_sparks_85 : decode cX0_sparks 85 = .ok (.invokevirtual 269, 3) := dk_182 1 13 (dk_at dksX0_sparks_3 16 rfl rfl)
theorem dX0_sparks_88 : decode cX0_sparks 88 = .ok (.iconst 0, 1) := dk_3 (dk_at dksX0_sparks_3 19 rfl rfl)
theorem dX0_sparks_89 : decode cX0_sparks 89 = .ok (.istore 9, 2) := dk_54 9 (dk_at dksX0_sparks_3 20 rfl rfl)
theorem dX0_sparks_91 : decode cX0_sparks 91 = .ok (.iload 9, 2) := dk_21 9 (dk_at dksX0_sparks_3 22 rfl rfl)
theorem dX0_sparks_93 : decode cX0_sparks 93 = .ok (.iload_n 2, 1) := dk_28 (dk_at dksX0_sparks_4 0 rfl rfl)
theorem dX0_sparks_94 : decode cX0_sparks 94 = .ok (.if_icmp .ge 23, 3) := dk_162 0 23 (dk_at dksX0_sparks_4 1 rfl rfl)
theorem dX0_sparks_97 : decode cX0_sparks 97 = .ok (.aload_n 0, 1) := dk_42 (dk_at dksX0_sparks_4 4 rfl rfl)
theorem dX0_sparks_98 : decode cX0_sparks 98 = .ok (.iload_n 3, 1) := dk_29 (dk_at dksX0_sparks_4 5 rfl rfl)
theorem dX0_sparks_99 : decode cX0_sparks 99 = .ok (.invokevirtual 351, 3) := dk_182 1 95 (dk_at dksX0_sparks_4 6 rfl rfl)
theorem dX0_sparks_102 : decode cX0_sparks 102 = .ok (.aload_n 0, 1) := dk_42 (dk_at dksX0_sparks_4 9 rfl rfl)
theorem dX0_sparks_103 : decode cX0_sparks 103 = .ok (.aload_n 0, 1) := dk_42 (dk_at dksX0_sparks_4 10 rfl rfl)
theorem dX0_sparks_104 : decode cX0_sparks 104 = .ok (.getfield 23, 3) := dk_180 0 23 (dk_at dksX0_sparks_4 11 rfl rfl)
theorem dX0_sparks_107 : decode cX0_sparks 107 = .ok (.invokevirtual 264, 3) := dk_182 1 8 (dk_at dksX0_sparks_4 14 rfl rfl)
theorem dX0_sparks_110 : decode cX0_sparks 110 = .ok (.pop, 1) := dk_87 (dk_at dksX0_sparks_4 17 rfl rfl)
theorem dX0_sparks_111 : decode cX0_sparks 111 = .ok (.iinc 9 1, 3) := dk_132 9 1 (dk_at dksX0_sparks_4 18 rfl rfl)
theorem dX0_sparks_114 : decode cX0_sparks 114 = .ok (.goto (-23), 3) := dk_167 255 233 (dk_at dksX0_sparks_4 21 rfl rfl)
theorem dX0_sparks_117 : decode cX0_sparks 117 = .ok (.iload 6, 2) := dk_21 6 (dk_at dksX0_sparks_5 0 rfl rfl)
theorem dX0_sparks_119 : decode cX0_sparks 119 = .ok (.aload_n 0, 1) := dk_42 (dk_at dksX0_sparks_5 2 rfl rfl)
theorem dX0_sparks_120 : decode cX0_sparks 120 = .ok (.getfield 23, 3) := dk_180 0 23 (dk_at dksX0_sparks_5 3 rfl rfl)
theorem dX0_sparks_123 : decode cX0_sparks 123 = .ok (.invokevirtual 291, 3) := dk_182 1 35 (dk_at dksX0_sparks_5 6 rfl rfl)
theorem dX0_sparks_126 : decode cX0_sparks 126 = .ok (.iadd, 1) := dk_96 (dk_at dksX0_sparks_5 9 rfl rfl)
theorem dX0_sparks_127 : decode cX0_sparks 127 = .ok (.istore 6, 2) := dk_54 6 (dk_at dksX0_sparks_5 10 rfl rfl)
theorem dX0_sparks_129 : decode cX0_sparks 129 = .ok (.iload 7, 2) := dk_21 7 (dk_at dksX0_sparks_5 12 rfl rfl)
theorem dX0_sparks_131 : decode cX0_sparks 131 = .ok (.aload_n 0, 1) := dk_42 (dk_at dksX0_sparks_5 14 rfl rfl)
theorem dX0_sparks_132 : decode cX0_sparks 132 = .ok (.getfield 23, 3) := dk_180 0 23 (dk_at dksX0_sparks_5 15 rfl rfl)
theorem dX0_sparks_135 : decode cX0_sparks 135 = .ok (.invokevirtual 180, 3) := dk_182 0 180 (dk_at dksX0_sparks_5 18 rfl rfl)
theorem dX0_sparks_138 : decode cX0_sparks 138 = .ok (.invokestatic 183, 3) := dk_184 0 183 (dk_at dksX0_sparks_5 21 rfl rfl)
theorem dX0_sparks_141 : decode cX0_sparks 141 = .ok (.iadd, 1) := dk_96 (dk_at dksX0_sparks_6 0 rfl rfl)
theorem dX0_sparks_142 : decode cX0_sparks 142 = .ok (.istore 7, 2) := dk_54 7 (dk_at dksX0_sparks_6 1 rfl rfl)
theorem dX0_sparks_144 : decode cX0_sparks 144 = .ok (.iinc 8 1, 3) := dk_132 8 1 (dk_at dksX0_sparks_6 3 rfl rfl)
theorem dX0_sparks_147 : decode cX0_sparks 147 = .ok (.goto (-76), 3) := dk_167 255 180 (dk_at dksX0_sparks_6 6 rfl rfl)
theorem dX0_sparks_150 : decode cX0_sparks 150 = .ok (.aload_n 0, 1) := dk_42 (dk_at dksX0_sparks_6 9 rfl rfl)
theorem dX0_sparks_151 : decode cX0_sparks 151 = .ok (.iload 5, 2) := dk_21 5 (dk_at dksX0_sparks_6 10 rfl rfl)
theorem dX0_sparks_153 : decode cX0_sparks 153 = .ok (.putfield 336, 3) := dk_181 1 80 (dk_at dksX0_sparks_6 12 rfl rfl)
theorem dX0_sparks_156 : decode cX0_sparks 156 = .ok (.iload 4, 2) := dk_21 4 (dk_at dksX0_sparks_6 15 rfl rfl)
theorem dX0_sparks_158 : decode cX0_sparks 158 = .ok (.ifCond .ne 8, 3) := dk_154 0 8 (dk_at dksX0_sparks_6 17 rfl rfl)
theorem dX0_sparks_161 : decode cX0_sparks 161 = .ok (.iload 6, 2) := dk_21 6 (dk_at dksX0_sparks_6 20 rfl rfl)
theorem dX0_sparks_163 : decode cX0_sparks 163 = .ok (.goto 5, 3) := dk_167 0 5 (dk_at dksX0_sparks_7 0 rfl rfl)
theorem dX0_sparks_166 : decode cX0_sparks 166 = .ok (.iload 7, 2) := dk_21 7 (dk_at dksX0_sparks_7 3 rfl rfl)
theorem dX0_sparks_168 : decode cX0_sparks 168 = .ok (.ireturn, 1) := dk_172 (dk_at dksX0_sparks_7 5 rfl rfl)
abbrev cX0_drawsSpark : ByteArray := prog_1_method_58_code
def yX0_drawsSpark : MethodName := ⟨RX0, "drawsSpark", "(I)V"⟩
def dkwX0_drawsSpark_2 : List UInt8 := [180, 0, 23, 180, 0, 154, 28, 46, 154, 0, 13, 42, 180, 0, 23, 180, 0, 154, 28, 4, 79, 177]
abbrev dktX0_drawsSpark_2 : List UInt8 := dkwX0_drawsSpark_2 ++ []
def dkwX0_drawsSpark_1 : List UInt8 := [180, 0, 10, 182, 0, 100, 182, 1, 90, 61, 42, 180, 0, 23, 180, 0, 151, 28, 46, 158, 0, 25, 42]
abbrev dktX0_drawsSpark_1 : List UInt8 := dkwX0_drawsSpark_1 ++ dktX0_drawsSpark_2
def dkwX0_drawsSpark_0 : List UInt8 := [42, 16, 100, 182, 1, 90, 27, 162, 0, 13, 42, 180, 0, 10, 182, 0, 100, 154, 0, 4, 177, 42, 42]
abbrev dktX0_drawsSpark_0 : List UInt8 := dkwX0_drawsSpark_0 ++ dktX0_drawsSpark_1
theorem dksX0_drawsSpark_0 : cX0_drawsSpark.data.toList.drop 0 = dktX0_drawsSpark_0 := by decide +kernel
theorem dksX0_drawsSpark_1 : cX0_drawsSpark.data.toList.drop 23 = dktX0_drawsSpark_1 := dk_seg dksX0_drawsSpark_0 23 rfl rfl
theorem dksX0_drawsSpark_2 : cX0_drawsSpark.data.toList.drop 46 = dktX0_drawsSpark_2 := dk_seg dksX0_drawsSpark_1 23 rfl rfl
theorem dX0_drawsSpark_0 : decode cX0_drawsSpark 0 = .ok (.aload_n 0, 1) := dk_42 (dk_at dksX0_drawsSpark_0 0 rfl rfl)
theorem dX0_drawsSpark_1 : decode cX0_drawsSpark 1 = .ok (.bipush 100, 2) := dk_16 100 (dk_at dksX0_drawsSpark_0 1 rfl rfl)
theorem dX0_drawsSpark_3 : decode cX0_drawsSpark 3 = .ok (.invokevirtual 346, 3) := dk_182 1 90 (dk_at dksX0_drawsSpark_0 3 rfl rfl)
theorem dX0_drawsSpark_6 : decode cX0_drawsSpark 6 = .ok (.iload_n 1, 1) := dk_27 (dk_at dksX0_drawsSpark_0 6 rfl rfl)
theorem dX0_drawsSpark_7 : decode cX0_drawsSpark 7 = .ok (.if_icmp .ge 13, 3) := dk_162 0 13 (dk_at dksX0_drawsSpark_0 7 rfl rfl)
theorem dX0_drawsSpark_10 : decode cX0_drawsSpark 10 = .ok (.aload_n 0, 1) := dk_42 (dk_at dksX0_drawsSpark_0 10 rfl rfl)
theorem dX0_drawsSpark_11 : decode cX0_drawsSpark 11 = .ok (.getfield 10, 3) := dk_180 0 10 (dk_at dksX0_drawsSpark_0 11 rfl rfl)
theorem dX0_drawsSpark_14 : decode cX0_drawsSpark 14 = .ok (.invokevirtual 100, 3) := dk_182 0 100 (dk_at dksX0_drawsSpark_0 14 rfl rfl)
theorem dX0_drawsSpark_17 : decode cX0_drawsSpark 17 = .ok (.ifCond .ne 4, 3) := dk_154 0 4 (dk_at dksX0_drawsSpark_0 17 rfl rfl)
theorem dX0_drawsSpark_20 : decode cX0_drawsSpark 20 = .ok (.return_, 1) := dk_177 (dk_at dksX0_drawsSpark_0 20 rfl rfl)
theorem dX0_drawsSpark_21 : decode cX0_drawsSpark 21 = .ok (.aload_n 0, 1) := dk_42 (dk_at dksX0_drawsSpark_0 21 rfl rfl)
theorem dX0_drawsSpark_22 : decode cX0_drawsSpark 22 = .ok (.aload_n 0, 1) := dk_42 (dk_at dksX0_drawsSpark_0 22 rfl rfl)
theorem dX0_drawsSpark_23 : decode cX0_drawsSpark 23 = .ok (.getfield 10, 3) := dk_180 0 10 (dk_at dksX0_drawsSpark_1 0 rfl rfl)
theorem dX0_drawsSpark_26 : decode cX0_drawsSpark 26 = .ok (.invokevirtual 100, 3) := dk_182 0 100 (dk_at dksX0_drawsSpark_1 3 rfl rfl)
theorem dX0_drawsSpark_29 : decode cX0_drawsSpark 29 = .ok (.invokevirtual 346, 3) := dk_182 1 90 (dk_at dksX0_drawsSpark_1 6 rfl rfl)
theorem dX0_drawsSpark_32 : decode cX0_drawsSpark 32 = .ok (.istore_n 2, 1) := dk_61 (dk_at dksX0_drawsSpark_1 9 rfl rfl)
theorem dX0_drawsSpark_33 : decode cX0_drawsSpark 33 = .ok (.aload_n 0, 1) := dk_42 (dk_at dksX0_drawsSpark_1 10 rfl rfl)
theorem dX0_drawsSpark_34 : decode cX0_drawsSpark 34 = .ok (.getfield 23, 3) := dk_180 0 23 (dk_at dksX0_drawsSpark_1 11 rfl rfl)
theorem dX0_drawsSpark_37 : decode cX0_drawsSpark 37 = .ok (.getfield 151, 3) := dk_180 0 151 (dk_at dksX0_drawsSpark_1 14 rfl rfl)
theorem dX0_drawsSpark_40 : decode cX0_drawsSpark 40 = .ok (.iload_n 2, 1) := dk_28 (dk_at dksX0_drawsSpark_1 17 rfl rfl)
theorem dX0_drawsSpark_41 : decode cX0_drawsSpark 41 = .ok (.iaload, 1) := dk_46 (dk_at dksX0_drawsSpark_1 18 rfl rfl)
theorem dX0_drawsSpark_42 : decode cX0_drawsSpark 42 = .ok (.ifCond .le 25, 3) := dk_158 0 25 (dk_at dksX0_drawsSpark_1 19 rfl rfl)
theorem dX0_drawsSpark_45 : decode cX0_drawsSpark 45 = .ok (.aload_n 0, 1) := dk_42 (dk_at dksX0_drawsSpark_1 22 rfl rfl)
theorem dX0_drawsSpark_46 : decode cX0_drawsSpark 46 = .ok (.getfield 23, 3) := dk_180 0 23 (dk_at dksX0_drawsSpark_2 0 rfl rfl)
theorem dX0_drawsSpark_49 : decode cX0_drawsSpark 49 = .ok (.getfield 154, 3) := dk_180 0 154 (dk_at dksX0_drawsSpark_2 3 rfl rfl)
theorem dX0_drawsSpark_52 : decode cX0_drawsSpark 52 = .ok (.iload_n 2, 1) := dk_28 (dk_at dksX0_drawsSpark_2 6 rfl rfl)
theorem dX0_drawsSpark_53 : decode cX0_drawsSpark 53 = .ok (.iaload, 1) := dk_46 (dk_at dksX0_drawsSpark_2 7 rfl rfl)
theorem dX0_drawsSpark_54 : decode cX0_drawsSpark 54 = .ok (.ifCond .ne 13, 3) := dk_154 0 13 (dk_at dksX0_drawsSpark_2 8 rfl rfl)
theorem dX0_drawsSpark_57 : decode cX0_drawsSpark 57 = .ok (.aload_n 0, 1) := dk_42 (dk_at dksX0_drawsSpark_2 11 rfl rfl)
theorem dX0_drawsSpark_58 : decode cX0_drawsSpark 58 = .ok (.getfield 23, 3) := dk_180 0 23 (dk_at dksX0_drawsSpark_2 12 rfl rfl)
theorem dX0_drawsSpark_61 : decode cX0_drawsSpark 61 = .ok (.getfield 154, 3) := dk_180 0 154 (dk_at dksX0_drawsSpark_2 15 rfl rfl)
theorem dX0_drawsSpark_64 : decode cX0_drawsSpark 64 = .ok (.iload_n 2, 1) := dk_28 (dk_at dksX0_drawsSpark_2 18 rfl rfl)
theorem dX0_drawsSpark_65 : decode cX0_drawsSpark 65 = .ok (.iconst 1, 1) := dk_4 (dk_at dksX0_drawsSpark_2 19 rfl rfl)
theorem dX0_drawsSpark_66 : decode cX0_drawsSpark 66 = .ok (.iastore, 1) := dk_79 (dk_at dksX0_drawsSpark_2 20 rfl rfl)
theorem dX0_drawsSpark_67 : decode cX0_drawsSpark 67 = .ok (.return_, 1) := dk_177 (dk_at dksX0_drawsSpark_2 21 rfl rfl)
abbrev cX0_draws : ByteArray := prog_1_method_57_code
def yX0_draws : MethodName := ⟨RX0, "draws", "(I)I"⟩
def dkwX0_draws_1 : List UInt8 := [180, 1, 80, 19, 1, 89, 108, 27, 112, 172]
abbrev dktX0_draws_1 : List UInt8 := dkwX0_draws_1 ++ []
def dkwX0_draws_0 : List UInt8 := [42, 42, 180, 1, 80, 133, 20, 1, 83, 105, 20, 1, 85, 97, 20, 1, 87, 113, 136, 181, 1, 80, 42]
abbrev dktX0_draws_0 : List UInt8 := dkwX0_draws_0 ++ dktX0_draws_1
theorem dksX0_draws_0 : cX0_draws.data.toList.drop 0 = dktX0_draws_0 := by decide +kernel
theorem dksX0_draws_1 : cX0_draws.data.toList.drop 23 = dktX0_draws_1 := dk_seg dksX0_draws_0 23 rfl rfl
theorem dX0_draws_0 : decode cX0_draws 0 = .ok (.aload_n 0, 1) := dk_42 (dk_at dksX0_draws_0 0 rfl rfl)
theorem dX0_draws_1 : decode cX0_draws 1 = .ok (.aload_n 0, 1) := dk_42 (dk_at dksX0_draws_0 1 rfl rfl)
theorem dX0_draws_2 : decode cX0_draws 2 = .ok (.getfield 336, 3) := dk_180 1 80 (dk_at dksX0_draws_0 2 rfl rfl)
theorem dX0_draws_5 : decode cX0_draws 5 = .ok (.i2l, 1) := dk_133 (dk_at dksX0_draws_0 5 rfl rfl)
theorem dX0_draws_6 : decode cX0_draws 6 = .ok (.ldc2_w 339, 3) := dk_20 1 83 (dk_at dksX0_draws_0 6 rfl rfl)
theorem dX0_draws_9 : decode cX0_draws 9 = .ok (.lmul, 1) := dk_105 (dk_at dksX0_draws_0 9 rfl rfl)
theorem dX0_draws_10 : decode cX0_draws 10 = .ok (.ldc2_w 341, 3) := dk_20 1 85 (dk_at dksX0_draws_0 10 rfl rfl)
theorem dX0_draws_13 : decode cX0_draws 13 = .ok (.ladd, 1) := dk_97 (dk_at dksX0_draws_0 13 rfl rfl)
theorem dX0_draws_14 : decode cX0_draws 14 = .ok (.ldc2_w 343, 3) := dk_20 1 87 (dk_at dksX0_draws_0 14 rfl rfl)
theorem dX0_draws_17 : decode cX0_draws 17 = .ok (.lrem, 1) := dk_113 (dk_at dksX0_draws_0 17 rfl rfl)
theorem dX0_draws_18 : decode cX0_draws 18 = .ok (.l2i, 1) := dk_136 (dk_at dksX0_draws_0 18 rfl rfl)
theorem dX0_draws_19 : decode cX0_draws 19 = .ok (.putfield 336, 3) := dk_181 1 80 (dk_at dksX0_draws_0 19 rfl rfl)
theorem dX0_draws_22 : decode cX0_draws 22 = .ok (.aload_n 0, 1) := dk_42 (dk_at dksX0_draws_0 22 rfl rfl)
theorem dX0_draws_23 : decode cX0_draws 23 = .ok (.getfield 336, 3) := dk_180 1 80 (dk_at dksX0_draws_1 0 rfl rfl)
theorem dX0_draws_26 : decode cX0_draws 26 = .ok (.ldc_w 345, 3) := dk_19 1 89 (dk_at dksX0_draws_1 3 rfl rfl)
theorem dX0_draws_29 : decode cX0_draws 29 = .ok (.idiv, 1) := dk_108 (dk_at dksX0_draws_1 6 rfl rfl)
theorem dX0_draws_30 : decode cX0_draws 30 = .ok (.iload_n 1, 1) := dk_27 (dk_at dksX0_draws_1 7 rfl rfl)
theorem dX0_draws_31 : decode cX0_draws 31 = .ok (.irem, 1) := dk_112 (dk_at dksX0_draws_1 8 rfl rfl)
theorem dX0_draws_32 : decode cX0_draws 32 = .ok (.ireturn, 1) := dk_172 (dk_at dksX0_draws_1 9 rfl rfl)
abbrev cX0_count : ByteArray := prog_1_method_60_code
def yX0_count : MethodName := ⟨RX0, "count", "(I)I"⟩
def dkwX0_count_7 : List UInt8 := [172, 42, 180, 1, 80, 172, 42, 180, 0, 115, 172, 2, 172]
abbrev dktX0_count_7 : List UInt8 := dkwX0_count_7 ++ []
def dkwX0_count_6 : List UInt8 := [180, 0, 19, 182, 1, 35, 172, 42, 180, 0, 19, 182, 0, 189, 172, 42, 180, 0, 133, 172, 42, 180, 0, 136]
abbrev dktX0_count_6 : List UInt8 := dkwX0_count_6 ++ dktX0_count_7
def dkwX0_count_5 : List UInt8 := [167, 0, 4, 2, 172, 42, 180, 0, 19, 180, 1, 25, 172, 42, 180, 0, 19, 182, 0, 180, 172, 42]
abbrev dktX0_count_5 : List UInt8 := dkwX0_count_5 ++ dktX0_count_6
def dkwX0_count_4 : List UInt8 := [180, 0, 19, 180, 0, 177, 172, 42, 180, 0, 19, 182, 0, 225, 153, 0, 13, 42, 180, 0, 19, 180, 1, 99]
abbrev dktX0_count_4 : List UInt8 := dkwX0_count_4 ++ dktX0_count_5
def dkwX0_count_3 : List UInt8 := [42, 180, 0, 31, 182, 0, 139, 172, 42, 180, 0, 35, 172, 42, 180, 0, 19, 180, 0, 195, 172, 42]
abbrev dktX0_count_3 : List UInt8 := dkwX0_count_3 ++ dktX0_count_4
def dkwX0_count_2 : List UInt8 := [42, 180, 0, 10, 180, 1, 98, 172, 42, 180, 0, 10, 180, 0, 97, 172, 42, 180, 0, 10, 182, 0, 100, 172]
abbrev dktX0_count_2 : List UInt8 := dkwX0_count_2 ++ dktX0_count_3
def dkwX0_count_1 : List UInt8 := [170, 0, 0, 0, 0, 0, 206, 0, 0, 0, 0, 0, 0, 0, 15, 0, 0, 0, 79, 0, 0, 0, 87, 0, 0, 0, 95, 0, 0, 0, 103, 0, 0, 0, 111, 0, 0, 0, 116, 0, 0, 0, 124, 0, 0, 0, 132, 0, 0, 0, 154, 0, 0, 0, 162, 0, 0, 0, 170, 0, 0, 0, 178, 0, 0, 0, 186, 0, 0, 0, 191, 0, 0, 0, 196, 0, 0, 0, 201]
abbrev dktX0_count_1 : List UInt8 := dkwX0_count_1 ++ dktX0_count_2
def dkwX0_count_0 : List UInt8 := [27]
abbrev dktX0_count_0 : List UInt8 := dkwX0_count_0 ++ dktX0_count_1
theorem dksX0_count_0 : cX0_count.data.toList.drop 0 = dktX0_count_0 := by decide +kernel
theorem dksX0_count_1 : cX0_count.data.toList.drop 1 = dktX0_count_1 := dk_seg dksX0_count_0 1 rfl rfl
theorem dksX0_count_2 : cX0_count.data.toList.drop 80 = dktX0_count_2 := dk_seg dksX0_count_1 79 rfl rfl
theorem dksX0_count_3 : cX0_count.data.toList.drop 104 = dktX0_count_3 := dk_seg dksX0_count_2 24 rfl rfl
theorem dksX0_count_4 : cX0_count.data.toList.drop 126 = dktX0_count_4 := dk_seg dksX0_count_3 22 rfl rfl
theorem dksX0_count_5 : cX0_count.data.toList.drop 150 = dktX0_count_5 := dk_seg dksX0_count_4 24 rfl rfl
theorem dksX0_count_6 : cX0_count.data.toList.drop 172 = dktX0_count_6 := dk_seg dksX0_count_5 22 rfl rfl
theorem dksX0_count_7 : cX0_count.data.toList.drop 196 = dktX0_count_7 := dk_seg dksX0_count_6 24 rfl rfl
theorem dX0_count_0 : decode cX0_count 0 = .ok (.iload_n 1, 1) := dk_27 (dk_at dksX0_count_0 0 rfl rfl)
theorem dX0_count_1 : decode cX0_count 1 = .ok (.tableswitch 206 0 15 #[79, 87, 95, 103, 111, 116, 124, 132, 154, 162, 170, 178, 186, 191, 196, 201], 79) := by decide +kernel
theorem dX0_count_80 : decode cX0_count 80 = .ok (.aload_n 0, 1) := dk_42 (dk_at dksX0_count_2 0 rfl rfl)
theorem dX0_count_81 : decode cX0_count 81 = .ok (.getfield 10, 3) := dk_180 0 10 (dk_at dksX0_count_2 1 rfl rfl)
theorem dX0_count_84 : decode cX0_count 84 = .ok (.getfield 354, 3) := dk_180 1 98 (dk_at dksX0_count_2 4 rfl rfl)
theorem dX0_count_87 : decode cX0_count 87 = .ok (.ireturn, 1) := dk_172 (dk_at dksX0_count_2 7 rfl rfl)
theorem dX0_count_88 : decode cX0_count 88 = .ok (.aload_n 0, 1) := dk_42 (dk_at dksX0_count_2 8 rfl rfl)
theorem dX0_count_89 : decode cX0_count 89 = .ok (.getfield 10, 3) := dk_180 0 10 (dk_at dksX0_count_2 9 rfl rfl)
theorem dX0_count_92 : decode cX0_count 92 = .ok (.getfield 97, 3) := dk_180 0 97 (dk_at dksX0_count_2 12 rfl rfl)
theorem dX0_count_95 : decode cX0_count 95 = .ok (.ireturn, 1) := dk_172 (dk_at dksX0_count_2 15 rfl rfl)
theorem dX0_count_96 : decode cX0_count 96 = .ok (.aload_n 0, 1) := dk_42 (dk_at dksX0_count_2 16 rfl rfl)
theorem dX0_count_97 : decode cX0_count 97 = .ok (.getfield 10, 3) := dk_180 0 10 (dk_at dksX0_count_2 17 rfl rfl)
theorem dX0_count_100 : decode cX0_count 100 = .ok (.invokevirtual 100, 3) := dk_182 0 100 (dk_at dksX0_count_2 20 rfl rfl)
theorem dX0_count_103 : decode cX0_count 103 = .ok (.ireturn, 1) := dk_172 (dk_at dksX0_count_2 23 rfl rfl)
theorem dX0_count_104 : decode cX0_count 104 = .ok (.aload_n 0, 1) := dk_42 (dk_at dksX0_count_3 0 rfl rfl)
theorem dX0_count_105 : decode cX0_count 105 = .ok (.getfield 31, 3) := dk_180 0 31 (dk_at dksX0_count_3 1 rfl rfl)
theorem dX0_count_108 : decode cX0_count 108 = .ok (.invokevirtual 139, 3) := dk_182 0 139 (dk_at dksX0_count_3 4 rfl rfl)
theorem dX0_count_111 : decode cX0_count 111 = .ok (.ireturn, 1) := dk_172 (dk_at dksX0_count_3 7 rfl rfl)
theorem dX0_count_112 : decode cX0_count 112 = .ok (.aload_n 0, 1) := dk_42 (dk_at dksX0_count_3 8 rfl rfl)
theorem dX0_count_113 : decode cX0_count 113 = .ok (.getfield 35, 3) := dk_180 0 35 (dk_at dksX0_count_3 9 rfl rfl)
theorem dX0_count_116 : decode cX0_count 116 = .ok (.ireturn, 1) := dk_172 (dk_at dksX0_count_3 12 rfl rfl)
theorem dX0_count_117 : decode cX0_count 117 = .ok (.aload_n 0, 1) := dk_42 (dk_at dksX0_count_3 13 rfl rfl)
theorem dX0_count_118 : decode cX0_count 118 = .ok (.getfield 19, 3) := dk_180 0 19 (dk_at dksX0_count_3 14 rfl rfl)
theorem dX0_count_121 : decode cX0_count 121 = .ok (.getfield 195, 3) := dk_180 0 195 (dk_at dksX0_count_3 17 rfl rfl)
theorem dX0_count_124 : decode cX0_count 124 = .ok (.ireturn, 1) := dk_172 (dk_at dksX0_count_3 20 rfl rfl)
theorem dX0_count_125 : decode cX0_count 125 = .ok (.aload_n 0, 1) := dk_42 (dk_at dksX0_count_3 21 rfl rfl)
theorem dX0_count_126 : decode cX0_count 126 = .ok (.getfield 19, 3) := dk_180 0 19 (dk_at dksX0_count_4 0 rfl rfl)
theorem dX0_count_129 : decode cX0_count 129 = .ok (.getfield 177, 3) := dk_180 0 177 (dk_at dksX0_count_4 3 rfl rfl)
theorem dX0_count_132 : decode cX0_count 132 = .ok (.ireturn, 1) := dk_172 (dk_at dksX0_count_4 6 rfl rfl)
theorem dX0_count_133 : decode cX0_count 133 = .ok (.aload_n 0, 1) := dk_42 (dk_at dksX0_count_4 7 rfl rfl)
theorem dX0_count_134 : decode cX0_count 134 = .ok (.getfield 19, 3) := dk_180 0 19 (dk_at dksX0_count_4 8 rfl rfl)
theorem dX0_count_137 : decode cX0_count 137 = .ok (.invokevirtual 225, 3) := dk_182 0 225 (dk_at dksX0_count_4 11 rfl rfl)
theorem dX0_count_140 : decode cX0_count 140 = .ok (.ifCond .eq 13, 3) := dk_153 0 13 (dk_at dksX0_count_4 14 rfl rfl)
theorem dX0_count_143 : decode cX0_count 143 = .ok (.aload_n 0, 1) := dk_42 (dk_at dksX0_count_4 17 rfl rfl)
theorem dX0_count_144 : decode cX0_count 144 = .ok (.getfield 19, 3) := dk_180 0 19 (dk_at dksX0_count_4 18 rfl rfl)
theorem dX0_count_147 : decode cX0_count 147 = .ok (.getfield 355, 3) := dk_180 1 99 (dk_at dksX0_count_4 21 rfl rfl)
theorem dX0_count_150 : decode cX0_count 150 = .ok (.goto 4, 3) := dk_167 0 4 (dk_at dksX0_count_5 0 rfl rfl)
theorem dX0_count_153 : decode cX0_count 153 = .ok (.iconst (-1), 1) := dk_2 (dk_at dksX0_count_5 3 rfl rfl)
theorem dX0_count_154 : decode cX0_count 154 = .ok (.ireturn, 1) := dk_172 (dk_at dksX0_count_5 4 rfl rfl)
theorem dX0_count_155 : decode cX0_count 155 = .ok (.aload_n 0, 1) := dk_42 (dk_at dksX0_count_5 5 rfl rfl)
theorem dX0_count_156 : decode cX0_count 156 = .ok (.getfield 19, 3) := dk_180 0 19 (dk_at dksX0_count_5 6 rfl rfl)
theorem dX0_count_159 : decode cX0_count 159 = .ok (.getfield 281, 3) := dk_180 1 25 (dk_at dksX0_count_5 9 rfl rfl)
theorem dX0_count_162 : decode cX0_count 162 = .ok (.ireturn, 1) := dk_172 (dk_at dksX0_count_5 12 rfl rfl)
theorem dX0_count_163 : decode cX0_count 163 = .ok (.aload_n 0, 1) := dk_42 (dk_at dksX0_count_5 13 rfl rfl)
theorem dX0_count_164 : decode cX0_count 164 = .ok (.getfield 19, 3) := dk_180 0 19 (dk_at dksX0_count_5 14 rfl rfl)
theorem dX0_count_167 : decode cX0_count 167 = .ok (.invokevirtual 180, 3) := dk_182 0 180 (dk_at dksX0_count_5 17 rfl rfl)
theorem dX0_count_170 : decode cX0_count 170 = .ok (.ireturn, 1) := dk_172 (dk_at dksX0_count_5 20 rfl rfl)
theorem dX0_count_171 : decode cX0_count 171 = .ok (.aload_n 0, 1) := dk_42 (dk_at dksX0_count_5 21 rfl rfl)
theorem dX0_count_172 : decode cX0_count 172 = .ok (.getfield 19, 3) := dk_180 0 19 (dk_at dksX0_count_6 0 rfl rfl)
theorem dX0_count_175 : decode cX0_count 175 = .ok (.invokevirtual 291, 3) := dk_182 1 35 (dk_at dksX0_count_6 3 rfl rfl)
theorem dX0_count_178 : decode cX0_count 178 = .ok (.ireturn, 1) := dk_172 (dk_at dksX0_count_6 6 rfl rfl)
theorem dX0_count_179 : decode cX0_count 179 = .ok (.aload_n 0, 1) := dk_42 (dk_at dksX0_count_6 7 rfl rfl)
theorem dX0_count_180 : decode cX0_count 180 = .ok (.getfield 19, 3) := dk_180 0 19 (dk_at dksX0_count_6 8 rfl rfl)
theorem dX0_count_183 : decode cX0_count 183 = .ok (.invokevirtual 189, 3) := dk_182 0 189 (dk_at dksX0_count_6 11 rfl rfl)
theorem dX0_count_186 : decode cX0_count 186 = .ok (.ireturn, 1) := dk_172 (dk_at dksX0_count_6 14 rfl rfl)
theorem dX0_count_187 : decode cX0_count 187 = .ok (.aload_n 0, 1) := dk_42 (dk_at dksX0_count_6 15 rfl rfl)
theorem dX0_count_188 : decode cX0_count 188 = .ok (.getfield 133, 3) := dk_180 0 133 (dk_at dksX0_count_6 16 rfl rfl)
theorem dX0_count_191 : decode cX0_count 191 = .ok (.ireturn, 1) := dk_172 (dk_at dksX0_count_6 19 rfl rfl)
theorem dX0_count_192 : decode cX0_count 192 = .ok (.aload_n 0, 1) := dk_42 (dk_at dksX0_count_6 20 rfl rfl)
theorem dX0_count_193 : decode cX0_count 193 = .ok (.getfield 136, 3) := dk_180 0 136 (dk_at dksX0_count_6 21 rfl rfl)
theorem dX0_count_196 : decode cX0_count 196 = .ok (.ireturn, 1) := dk_172 (dk_at dksX0_count_7 0 rfl rfl)
theorem dX0_count_197 : decode cX0_count 197 = .ok (.aload_n 0, 1) := dk_42 (dk_at dksX0_count_7 1 rfl rfl)
theorem dX0_count_198 : decode cX0_count 198 = .ok (.getfield 336, 3) := dk_180 1 80 (dk_at dksX0_count_7 2 rfl rfl)
theorem dX0_count_201 : decode cX0_count 201 = .ok (.ireturn, 1) := dk_172 (dk_at dksX0_count_7 5 rfl rfl)
theorem dX0_count_202 : decode cX0_count 202 = .ok (.aload_n 0, 1) := dk_42 (dk_at dksX0_count_7 6 rfl rfl)
theorem dX0_count_203 : decode cX0_count 203 = .ok (.getfield 115, 3) := dk_180 0 115 (dk_at dksX0_count_7 7 rfl rfl)
theorem dX0_count_206 : decode cX0_count 206 = .ok (.ireturn, 1) := dk_172 (dk_at dksX0_count_7 10 rfl rfl)
theorem dX0_count_207 : decode cX0_count 207 = .ok (.iconst (-1), 1) := dk_2 (dk_at dksX0_count_7 11 rfl rfl)
theorem dX0_count_208 : decode cX0_count 208 = .ok (.ireturn, 1) := dk_172 (dk_at dksX0_count_7 12 rfl rfl)
abbrev cX0_image : ByteArray := prog_1_method_61_code
def yX0_image : MethodName := ⟨RX0, "image", "(I)I"⟩
def dkwX0_image_2 : List UInt8 := [180, 0, 19, 180, 0, 195, 172]
abbrev dktX0_image_2 : List UInt8 := dkwX0_image_2 ++ []
def dkwX0_image_1 : List UInt8 := [180, 0, 93, 27, 187, 0, 91, 89, 42, 183, 1, 104, 83, 42, 180, 0, 93, 27, 50, 182, 1, 107, 42]
abbrev dktX0_image_1 : List UInt8 := dkwX0_image_1 ++ dktX0_image_2
def dkwX0_image_0 : List UInt8 := [27, 133, 9, 20, 1, 102, 184, 0, 104, 154, 0, 5, 2, 172, 42, 180, 0, 93, 27, 50, 199, 0, 17, 42]
abbrev dktX0_image_0 : List UInt8 := dkwX0_image_0 ++ dktX0_image_1
theorem dksX0_image_0 : cX0_image.data.toList.drop 0 = dktX0_image_0 := by decide +kernel
theorem dksX0_image_1 : cX0_image.data.toList.drop 24 = dktX0_image_1 := dk_seg dksX0_image_0 24 rfl rfl
theorem dksX0_image_2 : cX0_image.data.toList.drop 47 = dktX0_image_2 := dk_seg dksX0_image_1 23 rfl rfl
theorem dX0_image_0 : decode cX0_image 0 = .ok (.iload_n 1, 1) := dk_27 (dk_at dksX0_image_0 0 rfl rfl)
theorem dX0_image_1 : decode cX0_image 1 = .ok (.i2l, 1) := dk_133 (dk_at dksX0_image_0 1 rfl rfl)
theorem dX0_image_2 : decode cX0_image 2 = .ok (.lconst 0, 1) := dk_9 (dk_at dksX0_image_0 2 rfl rfl)
theorem dX0_image_3 : decode cX0_image 3 = .ok (.ldc2_w 358, 3) := dk_20 1 102 (dk_at dksX0_image_0 3 rfl rfl)
theorem dX0_image_6 : decode cX0_image 6 = .ok (.invokestatic 104, 3) := dk_184 0 104 (dk_at dksX0_image_0 6 rfl rfl)
theorem dX0_image_9 : decode cX0_image 9 = .ok (.ifCond .ne 5, 3) := dk_154 0 5 (dk_at dksX0_image_0 9 rfl rfl)
theorem dX0_image_12 : decode cX0_image 12 = .ok (.iconst (-1), 1) := dk_2 (dk_at dksX0_image_0 12 rfl rfl)
theorem dX0_image_13 : decode cX0_image 13 = .ok (.ireturn, 1) := dk_172 (dk_at dksX0_image_0 13 rfl rfl)
theorem dX0_image_14 : decode cX0_image 14 = .ok (.aload_n 0, 1) := dk_42 (dk_at dksX0_image_0 14 rfl rfl)
theorem dX0_image_15 : decode cX0_image 15 = .ok (.getfield 93, 3) := dk_180 0 93 (dk_at dksX0_image_0 15 rfl rfl)
theorem dX0_image_18 : decode cX0_image 18 = .ok (.iload_n 1, 1) := dk_27 (dk_at dksX0_image_0 18 rfl rfl)
theorem dX0_image_19 : decode cX0_image 19 = .ok (.aaload, 1) := dk_50 (dk_at dksX0_image_0 19 rfl rfl)
theorem dX0_image_20 : decode cX0_image 20 = .ok (.ifnonnull 17, 3) := dk_199 0 17 (dk_at dksX0_image_0 20 rfl rfl)
theorem dX0_image_23 : decode cX0_image 23 = .ok (.aload_n 0, 1) := dk_42 (dk_at dksX0_image_0 23 rfl rfl)
theorem dX0_image_24 : decode cX0_image 24 = .ok (.getfield 93, 3) := dk_180 0 93 (dk_at dksX0_image_1 0 rfl rfl)
theorem dX0_image_27 : decode cX0_image 27 = .ok (.iload_n 1, 1) := dk_27 (dk_at dksX0_image_1 3 rfl rfl)
theorem dX0_image_28 : decode cX0_image 28 = .ok (.new 91, 3) := dk_187 0 91 (dk_at dksX0_image_1 4 rfl rfl)
theorem dX0_image_31 : decode cX0_image 31 = .ok (.dup, 1) := dk_89 (dk_at dksX0_image_1 7 rfl rfl)
theorem dX0_image_32 : decode cX0_image 32 = .ok (.aload_n 0, 1) := dk_42 (dk_at dksX0_image_1 8 rfl rfl)
theorem dX0_image_33 : decode cX0_image 33 = .ok (.invokespecial 360, 3) := dk_183 1 104 (dk_at dksX0_image_1 9 rfl rfl)
theorem dX0_image_36 : decode cX0_image 36 = .ok (.aastore, 1) := dk_83 (dk_at dksX0_image_1 12 rfl rfl)
theorem dX0_image_37 : decode cX0_image 37 = .ok (.aload_n 0, 1) := dk_42 (dk_at dksX0_image_1 13 rfl rfl)
theorem dX0_image_38 : decode cX0_image 38 = .ok (.getfield 93, 3) := dk_180 0 93 (dk_at dksX0_image_1 14 rfl rfl)
theorem dX0_image_41 : decode cX0_image 41 = .ok (.iload_n 1, 1) := dk_27 (dk_at dksX0_image_1 17 rfl rfl)
theorem dX0_image_42 : decode cX0_image 42 = .ok (.aaload, 1) := dk_50 (dk_at dksX0_image_1 18 rfl rfl)
theorem dX0_image_43 : decode cX0_image 43 = .ok (.invokevirtual 363, 3) := dk_182 1 107 (dk_at dksX0_image_1 19 rfl rfl)
theorem dX0_image_46 : decode cX0_image 46 = .ok (.aload_n 0, 1) := dk_42 (dk_at dksX0_image_1 22 rfl rfl)
theorem dX0_image_47 : decode cX0_image 47 = .ok (.getfield 19, 3) := dk_180 0 19 (dk_at dksX0_image_2 0 rfl rfl)
theorem dX0_image_50 : decode cX0_image 50 = .ok (.getfield 195, 3) := dk_180 0 195 (dk_at dksX0_image_2 3 rfl rfl)
theorem dX0_image_53 : decode cX0_image 53 = .ok (.ireturn, 1) := dk_172 (dk_at dksX0_image_2 6 rfl rfl)
abbrev cX0_back : ByteArray := prog_1_method_62_code
def yX0_back : MethodName := ⟨RX0, "back", "(I)I"⟩
def dkwX0_back_1 : List UInt8 := [180, 0, 93, 27, 50, 182, 1, 110, 42, 180, 0, 19, 180, 0, 195, 172]
abbrev dktX0_back_1 : List UInt8 := dkwX0_back_1 ++ []
def dkwX0_back_0 : List UInt8 := [27, 133, 9, 20, 1, 102, 184, 0, 104, 153, 0, 12, 42, 180, 0, 93, 27, 50, 199, 0, 5, 2, 172, 42]
abbrev dktX0_back_0 : List UInt8 := dkwX0_back_0 ++ dktX0_back_1
theorem dksX0_back_0 : cX0_back.data.toList.drop 0 = dktX0_back_0 := by decide +kernel
theorem dksX0_back_1 : cX0_back.data.toList.drop 24 = dktX0_back_1 := dk_seg dksX0_back_0 24 rfl rfl
theorem dX0_back_0 : decode cX0_back 0 = .ok (.iload_n 1, 1) := dk_27 (dk_at dksX0_back_0 0 rfl rfl)
theorem dX0_back_1 : decode cX0_back 1 = .ok (.i2l, 1) := dk_133 (dk_at dksX0_back_0 1 rfl rfl)
theorem dX0_back_2 : decode cX0_back 2 = .ok (.lconst 0, 1) := dk_9 (dk_at dksX0_back_0 2 rfl rfl)
theorem dX0_back_3 : decode cX0_back 3 = .ok (.ldc2_w 358, 3) := dk_20 1 102 (dk_at dksX0_back_0 3 rfl rfl)
theorem dX0_back_6 : decode cX0_back 6 = .ok (.invokestatic 104, 3) := dk_184 0 104 (dk_at dksX0_back_0 6 rfl rfl)
theorem dX0_back_9 : decode cX0_back 9 = .ok (.ifCond .eq 12, 3) := dk_153 0 12 (dk_at dksX0_back_0 9 rfl rfl)
theorem dX0_back_12 : decode cX0_back 12 = .ok (.aload_n 0, 1) := dk_42 (dk_at dksX0_back_0 12 rfl rfl)
theorem dX0_back_13 : decode cX0_back 13 = .ok (.getfield 93, 3) := dk_180 0 93 (dk_at dksX0_back_0 13 rfl rfl)
theorem dX0_back_16 : decode cX0_back 16 = .ok (.iload_n 1, 1) := dk_27 (dk_at dksX0_back_0 16 rfl rfl)
theorem dX0_back_17 : decode cX0_back 17 = .ok (.aaload, 1) := dk_50 (dk_at dksX0_back_0 17 rfl rfl)
theorem dX0_back_18 : decode cX0_back 18 = .ok (.ifnonnull 5, 3) := dk_199 0 5 (dk_at dksX0_back_0 18 rfl rfl)
theorem dX0_back_21 : decode cX0_back 21 = .ok (.iconst (-1), 1) := dk_2 (dk_at dksX0_back_0 21 rfl rfl)
theorem dX0_back_22 : decode cX0_back 22 = .ok (.ireturn, 1) := dk_172 (dk_at dksX0_back_0 22 rfl rfl)
theorem dX0_back_23 : decode cX0_back 23 = .ok (.aload_n 0, 1) := dk_42 (dk_at dksX0_back_0 23 rfl rfl)
theorem dX0_back_24 : decode cX0_back 24 = .ok (.getfield 93, 3) := dk_180 0 93 (dk_at dksX0_back_1 0 rfl rfl)
theorem dX0_back_27 : decode cX0_back 27 = .ok (.iload_n 1, 1) := dk_27 (dk_at dksX0_back_1 3 rfl rfl)
theorem dX0_back_28 : decode cX0_back 28 = .ok (.aaload, 1) := dk_50 (dk_at dksX0_back_1 4 rfl rfl)
theorem dX0_back_29 : decode cX0_back 29 = .ok (.invokevirtual 366, 3) := dk_182 1 110 (dk_at dksX0_back_1 5 rfl rfl)
theorem dX0_back_32 : decode cX0_back 32 = .ok (.aload_n 0, 1) := dk_42 (dk_at dksX0_back_1 8 rfl rfl)
theorem dX0_back_33 : decode cX0_back 33 = .ok (.getfield 19, 3) := dk_180 0 19 (dk_at dksX0_back_1 9 rfl rfl)
theorem dX0_back_36 : decode cX0_back 36 = .ok (.getfield 195, 3) := dk_180 0 195 (dk_at dksX0_back_1 12 rfl rfl)
theorem dX0_back_39 : decode cX0_back 39 = .ok (.ireturn, 1) := dk_172 (dk_at dksX0_back_1 15 rfl rfl)
theorem q128 : (Jvm.Cond.initialized "SmokeWord") ∈ lw_all := lw_g (lw_at lw_m1 1 rfl) rfl
theorem q163 : (Jvm.Cond.instantiable "SmokeWord" (28 : Nat)) ∈ lw_all := lw_g (lw_at lw_m1 36 rfl) rfl
theorem q165 : (Jvm.Cond.instanceMethod ({ cls := "SmokeWord", name := "<init>", desc := "()V" } : Jvm.MethodName)) ∈ lw_all := lw_g (lw_at lw_m1 38 rfl) rfl
theorem q166 : (Jvm.Cond.code ({ cls := "SmokeWord", name := "<init>", desc := "()V" } : Jvm.MethodName) prog_1_method_4_code (1 : Nat) (Option.none : Option Jvm.ClassFile.FieldType)) ∈ lw_all := lw_g (lw_at lw_m1 39 rfl) rfl
theorem q167 : (Jvm.Cond.methodLink "SmokeWord" (1 : Nat) ({ cls := "java/lang/Object", name := "<init>", desc := "()V" } : Jvm.MethodName)) ∈ lw_all := lw_g (lw_at lw_m1 40 rfl) rfl
theorem q170 : (Jvm.Cond.classLink "SmokeWord" (7 : Nat) "SmokeWord$Valley") ∈ lw_all := lw_g (lw_at lw_m1 43 rfl) rfl
theorem q172 : (Jvm.Cond.methodLink "SmokeWord" (9 : Nat) ({ cls := "SmokeWord$Valley", name := "<init>", desc := "()V" } : Jvm.MethodName)) ∈ lw_all := lw_g (lw_at lw_m1 45 rfl) rfl
theorem q211 : (Jvm.Cond.fieldLinkNest "SmokeWord" (160 : Nat) "SmokeWord$Valley" "beside" "[I" "SmokeWord") ∈ lw_tbl := lw_at lw_m1 84 rfl
theorem q215 : (Jvm.Cond.fieldLinkNest "SmokeWord" (354 : Nat) "SmokeWord$Valley" "water" "I" "SmokeWord") ∈ lw_tbl := lw_at lw_m1 88 rfl
theorem q216 : (Jvm.Cond.fieldLinkNest "SmokeWord" (97 : Nat) "SmokeWord$Valley" "leap" "I" "SmokeWord") ∈ lw_tbl := lw_at lw_m1 89 rfl
theorem q231 : (Jvm.Cond.classLink "SmokeWord" (16 : Nat) "SmokeWord$State") ∈ lw_all := lw_g (lw_at lw_m1 104 rfl) rfl
theorem q233 : (Jvm.Cond.methodLinkNest "SmokeWord" (18 : Nat) ({ cls := "SmokeWord$State", name := "<init>", desc := "()V" } : Jvm.MethodName) "SmokeWord") ∈ lw_tbl := lw_at lw_m1 106 rfl
theorem q238 : (Jvm.Cond.fieldLinkNest "SmokeWord" (151 : Nat) "SmokeWord$State" "worth" "[I" "SmokeWord") ∈ lw_tbl := lw_at lw_m1 111 rfl
theorem q240 : (Jvm.Cond.fieldLinkNest "SmokeWord" (154 : Nat) "SmokeWord$State" "heat" "[I" "SmokeWord") ∈ lw_tbl := lw_at lw_m1 113 rfl
theorem q242 : (Jvm.Cond.fieldLinkNest "SmokeWord" (157 : Nat) "SmokeWord$State" "says" "[I" "SmokeWord") ∈ lw_tbl := lw_at lw_m1 115 rfl
theorem q244 : (Jvm.Cond.fieldLinkNest "SmokeWord" (320 : Nat) "SmokeWord$State" "lost" "[I" "SmokeWord") ∈ lw_tbl := lw_at lw_m1 117 rfl
theorem q246 : (Jvm.Cond.fieldLinkNest "SmokeWord" (163 : Nat) "SmokeWord$State" "been" "[I" "SmokeWord") ∈ lw_tbl := lw_at lw_m1 119 rfl
theorem q248 : (Jvm.Cond.fieldLinkNest "SmokeWord" (192 : Nat) "SmokeWord$State" "water" "I" "SmokeWord") ∈ lw_tbl := lw_at lw_m1 121 rfl
theorem q250 : (Jvm.Cond.fieldLinkNest "SmokeWord" (177 : Nat) "SmokeWord$State" "place" "I" "SmokeWord") ∈ lw_tbl := lw_at lw_m1 123 rfl
theorem q252 : (Jvm.Cond.fieldLinkNest "SmokeWord" (355 : Nat) "SmokeWord$State" "to" "I" "SmokeWord") ∈ lw_tbl := lw_at lw_m1 125 rfl
theorem q254 : (Jvm.Cond.fieldLinkNest "SmokeWord" (281 : Nat) "SmokeWord$State" "togo" "I" "SmokeWord") ∈ lw_tbl := lw_at lw_m1 127 rfl
theorem q256 : (Jvm.Cond.fieldLinkNest "SmokeWord" (195 : Nat) "SmokeWord$State" "hour" "I" "SmokeWord") ∈ lw_tbl := lw_at lw_m1 129 rfl
theorem q278 : (Jvm.Cond.classLink "SmokeWord" (26 : Nat) "java/util/ArrayList") ∈ lw_all := lw_g (lw_at lw_m1 151 rfl) rfl
theorem q279 : (Jvm.Cond.methodLink "SmokeWord" (28 : Nat) ({ cls := "java/util/ArrayList", name := "<init>", desc := "(I)V" } : Jvm.MethodName)) ∈ lw_all := lw_g (lw_at lw_m1 152 rfl) rfl
theorem q280 : (Jvm.Cond.classLink "SmokeWord" (39 : Nat) "SmokeWord$Wrong") ∈ lw_all := lw_g (lw_at lw_m1 153 rfl) rfl
theorem q317 : (Jvm.Cond.methodLinkNest "SmokeWord" (41 : Nat) ({ cls := "SmokeWord$Wrong", name := "<init>", desc := "()V" } : Jvm.MethodName) "SmokeWord") ∈ lw_tbl := lw_at lw_m1 190 rfl
theorem q324 : (Jvm.Cond.fieldLinkNest "SmokeWord" (112 : Nat) "SmokeWord$Wrong" "number" "I" "SmokeWord") ∈ lw_tbl := lw_at lw_m1 197 rfl
theorem q339 : (Jvm.Cond.fieldLink "SmokeWord" (57 : Nat) "SmokeWord" "NAMES" "[Ljava/lang/String;") ∈ lw_all := lw_g (lw_at lw_m1 212 rfl) rfl
theorem q340 : (Jvm.Cond.laysStatic "SmokeWord" "NAMES" "[Ljava/lang/String;") ∈ lw_tbl := lw_at lw_m1 213 rfl
theorem q341 : (Jvm.Cond.methodLink "SmokeWord" (71 : Nat) ({ cls := "SmokeWord", name := "newStates", desc := "(I)[LSmokeWord$State;" } : Jvm.MethodName)) ∈ lw_all := lw_g (lw_at lw_m1 214 rfl) rfl
theorem q342 : (Jvm.Cond.static ({ cls := "SmokeWord", name := "newStates", desc := "(I)[LSmokeWord$State;" } : Jvm.MethodName)) ∈ lw_all := lw_g (lw_at lw_m1 215 rfl) rfl
theorem q343 : (Jvm.Cond.code ({ cls := "SmokeWord", name := "newStates", desc := "(I)[LSmokeWord$State;" } : Jvm.MethodName) prog_1_method_25_code (3 : Nat) (Option.some (Jvm.ClassFile.FieldType.array (Jvm.ClassFile.FieldType.object "SmokeWord$State")))) ∈ lw_all := lw_g (lw_at lw_m1 216 rfl) rfl
theorem q345 : (Jvm.Cond.classLink "SmokeWord" (91 : Nat) "SmokeWord$Image") ∈ lw_all := lw_g (lw_at lw_m1 218 rfl) rfl
theorem q348 : (Jvm.Cond.fieldLink "SmokeWord" (10 : Nat) "SmokeWord" "valley" "LSmokeWord$Valley;") ∈ lw_all := lw_g (lw_at lw_m1 221 rfl) rfl
theorem q350 : (Jvm.Cond.fieldLink "SmokeWord" (19 : Nat) "SmokeWord" "state" "LSmokeWord$State;") ∈ lw_all := lw_g (lw_at lw_m1 223 rfl) rfl
theorem q351 : (Jvm.Cond.fieldLink "SmokeWord" (23 : Nat) "SmokeWord" "kept" "LSmokeWord$State;") ∈ lw_all := lw_g (lw_at lw_m1 224 rfl) rfl
theorem q352 : (Jvm.Cond.fieldLink "SmokeWord" (31 : Nat) "SmokeWord" "rules" "Ljava/util/ArrayList;") ∈ lw_all := lw_g (lw_at lw_m1 225 rfl) rfl
theorem q355 : (Jvm.Cond.fieldLink "SmokeWord" (35 : Nat) "SmokeWord" "inForce" "I") ∈ lw_all := lw_g (lw_at lw_m1 228 rfl) rfl
theorem q356 : (Jvm.Cond.fieldLink "SmokeWord" (42 : Nat) "SmokeWord" "wrong" "LSmokeWord$Wrong;") ∈ lw_all := lw_g (lw_at lw_m1 229 rfl) rfl
theorem q358 : (Jvm.Cond.fieldLink "SmokeWord" (46 : Nat) "SmokeWord" "tape" "[B") ∈ lw_all := lw_g (lw_at lw_m1 231 rfl) rfl
theorem q360 : (Jvm.Cond.fieldLink "SmokeWord" (115 : Nat) "SmokeWord" "taped" "I") ∈ lw_all := lw_g (lw_at lw_m1 233 rfl) rfl
theorem q362 : (Jvm.Cond.fieldLink "SmokeWord" (50 : Nat) "SmokeWord" "noteWhen" "[I") ∈ lw_all := lw_g (lw_at lw_m1 235 rfl) rfl
theorem q364 : (Jvm.Cond.fieldLink "SmokeWord" (54 : Nat) "SmokeWord" "noteWhere" "[I") ∈ lw_all := lw_g (lw_at lw_m1 237 rfl) rfl
theorem q366 : (Jvm.Cond.fieldLink "SmokeWord" (133 : Nat) "SmokeWord" "notes" "I") ∈ lw_all := lw_g (lw_at lw_m1 239 rfl) rfl
theorem q368 : (Jvm.Cond.fieldLink "SmokeWord" (336 : Nat) "SmokeWord" "draw" "I") ∈ lw_all := lw_g (lw_at lw_m2 1 rfl) rfl
theorem q369 : (Jvm.Cond.fieldLink "SmokeWord" (61 : Nat) "SmokeWord" "words" "[J") ∈ lw_all := lw_g (lw_at lw_m2 2 rfl) rfl
theorem q370 : (Jvm.Cond.fieldLink "SmokeWord" (65 : Nat) "SmokeWord" "row" "[I") ∈ lw_all := lw_g (lw_at lw_m2 3 rfl) rfl
theorem q371 : (Jvm.Cond.fieldLink "SmokeWord" (68 : Nat) "SmokeWord" "bestRow" "[I") ∈ lw_all := lw_g (lw_at lw_m2 4 rfl) rfl
theorem q372 : (Jvm.Cond.fieldLink "SmokeWord" (222 : Nat) "SmokeWord" "rowMany" "I") ∈ lw_all := lw_g (lw_at lw_m2 5 rfl) rfl
theorem q373 : (Jvm.Cond.fieldLink "SmokeWord" (219 : Nat) "SmokeWord" "rowAt" "I") ∈ lw_all := lw_g (lw_at lw_m2 6 rfl) rfl
theorem q374 : (Jvm.Cond.fieldLink "SmokeWord" (231 : Nat) "SmokeWord" "byRow" "Z") ∈ lw_all := lw_g (lw_at lw_m2 7 rfl) rfl
theorem q375 : (Jvm.Cond.fieldLink "SmokeWord" (257 : Nat) "SmokeWord" "came" "I") ∈ lw_all := lw_g (lw_at lw_m2 8 rfl) rfl
theorem q376 : (Jvm.Cond.fieldLink "SmokeWord" (75 : Nat) "SmokeWord" "past" "[LSmokeWord$State;") ∈ lw_all := lw_g (lw_at lw_m2 9 rfl) rfl
theorem q378 : (Jvm.Cond.fieldLink "SmokeWord" (136 : Nat) "SmokeWord" "pastMany" "I") ∈ lw_all := lw_g (lw_at lw_m2 11 rfl) rfl
theorem q379 : (Jvm.Cond.fieldLink "SmokeWord" (266 : Nat) "SmokeWord" "pastAt" "I") ∈ lw_all := lw_g (lw_at lw_m2 12 rfl) rfl
theorem q380 : (Jvm.Cond.fieldLink "SmokeWord" (305 : Nat) "SmokeWord" "mostLeft" "I") ∈ lw_all := lw_g (lw_at lw_m2 13 rfl) rfl
theorem q381 : (Jvm.Cond.fieldLink "SmokeWord" (79 : Nat) "SmokeWord" "firstHas" "[I") ∈ lw_all := lw_g (lw_at lw_m2 14 rfl) rfl
theorem q382 : (Jvm.Cond.fieldLink "SmokeWord" (82 : Nat) "SmokeWord" "secondHas" "[I") ∈ lw_all := lw_g (lw_at lw_m2 15 rfl) rfl
theorem q383 : (Jvm.Cond.fieldLink "SmokeWord" (85 : Nat) "SmokeWord" "course" "[I") ∈ lw_all := lw_g (lw_at lw_m2 16 rfl) rfl
theorem q384 : (Jvm.Cond.fieldLink "SmokeWord" (88 : Nat) "SmokeWord" "shows" "[I") ∈ lw_all := lw_g (lw_at lw_m2 17 rfl) rfl
theorem q385 : (Jvm.Cond.fieldLink "SmokeWord" (93 : Nat) "SmokeWord" "images" "[LSmokeWord$Image;") ∈ lw_all := lw_g (lw_at lw_m2 18 rfl) rfl
theorem q386 : (Jvm.Cond.lays "SmokeWord" "SmokeWord" "valley" "LSmokeWord$Valley;") ∈ lw_all := lw_g (lw_at lw_m2 19 rfl) rfl
theorem q387 : (Jvm.Cond.soleField "SmokeWord" "valley") ∈ lw_all := lw_g (lw_at lw_m2 20 rfl) rfl
theorem q388 : (Jvm.Cond.laysFinal "SmokeWord" "SmokeWord" "state" "LSmokeWord$State;") ∈ lw_all := lw_g (lw_at lw_m2 21 rfl) rfl
theorem q389 : (Jvm.Cond.soleField "SmokeWord" "state") ∈ lw_all := lw_g (lw_at lw_m2 22 rfl) rfl
theorem q390 : (Jvm.Cond.laysFinal "SmokeWord" "SmokeWord" "kept" "LSmokeWord$State;") ∈ lw_all := lw_g (lw_at lw_m2 23 rfl) rfl
theorem q391 : (Jvm.Cond.soleField "SmokeWord" "kept") ∈ lw_all := lw_g (lw_at lw_m2 24 rfl) rfl
theorem q392 : (Jvm.Cond.laysFinal "SmokeWord" "SmokeWord" "rules" "Ljava/util/ArrayList;") ∈ lw_all := lw_g (lw_at lw_m2 25 rfl) rfl
theorem q393 : (Jvm.Cond.soleField "SmokeWord" "rules") ∈ lw_all := lw_g (lw_at lw_m2 26 rfl) rfl
theorem q394 : (Jvm.Cond.lays "SmokeWord" "SmokeWord" "inForce" "I") ∈ lw_all := lw_g (lw_at lw_m2 27 rfl) rfl
theorem q395 : (Jvm.Cond.soleField "SmokeWord" "inForce") ∈ lw_all := lw_g (lw_at lw_m2 28 rfl) rfl
theorem q396 : (Jvm.Cond.laysFinal "SmokeWord" "SmokeWord" "wrong" "LSmokeWord$Wrong;") ∈ lw_all := lw_g (lw_at lw_m2 29 rfl) rfl
theorem q397 : (Jvm.Cond.soleField "SmokeWord" "wrong") ∈ lw_all := lw_g (lw_at lw_m2 30 rfl) rfl
theorem q398 : (Jvm.Cond.laysFinal "SmokeWord" "SmokeWord" "tape" "[B") ∈ lw_all := lw_g (lw_at lw_m2 31 rfl) rfl
theorem q399 : (Jvm.Cond.soleField "SmokeWord" "tape") ∈ lw_all := lw_g (lw_at lw_m2 32 rfl) rfl
theorem q400 : (Jvm.Cond.lays "SmokeWord" "SmokeWord" "taped" "I") ∈ lw_all := lw_g (lw_at lw_m2 33 rfl) rfl
theorem q401 : (Jvm.Cond.soleField "SmokeWord" "taped") ∈ lw_all := lw_g (lw_at lw_m2 34 rfl) rfl
theorem q402 : (Jvm.Cond.laysFinal "SmokeWord" "SmokeWord" "noteWhen" "[I") ∈ lw_all := lw_g (lw_at lw_m2 35 rfl) rfl
theorem q403 : (Jvm.Cond.soleField "SmokeWord" "noteWhen") ∈ lw_all := lw_g (lw_at lw_m2 36 rfl) rfl
theorem q404 : (Jvm.Cond.laysFinal "SmokeWord" "SmokeWord" "noteWhere" "[I") ∈ lw_all := lw_g (lw_at lw_m2 37 rfl) rfl
theorem q405 : (Jvm.Cond.soleField "SmokeWord" "noteWhere") ∈ lw_all := lw_g (lw_at lw_m2 38 rfl) rfl
theorem q406 : (Jvm.Cond.lays "SmokeWord" "SmokeWord" "notes" "I") ∈ lw_all := lw_g (lw_at lw_m2 39 rfl) rfl
theorem q407 : (Jvm.Cond.soleField "SmokeWord" "notes") ∈ lw_all := lw_g (lw_at lw_m2 40 rfl) rfl
theorem q408 : (Jvm.Cond.lays "SmokeWord" "SmokeWord" "draw" "I") ∈ lw_all := lw_g (lw_at lw_m2 41 rfl) rfl
theorem q409 : (Jvm.Cond.soleField "SmokeWord" "draw") ∈ lw_all := lw_g (lw_at lw_m2 42 rfl) rfl
theorem q410 : (Jvm.Cond.laysFinal "SmokeWord" "SmokeWord" "words" "[J") ∈ lw_all := lw_g (lw_at lw_m2 43 rfl) rfl
theorem q411 : (Jvm.Cond.soleField "SmokeWord" "words") ∈ lw_all := lw_g (lw_at lw_m2 44 rfl) rfl
theorem q412 : (Jvm.Cond.laysFinal "SmokeWord" "SmokeWord" "row" "[I") ∈ lw_all := lw_g (lw_at lw_m2 45 rfl) rfl
theorem q413 : (Jvm.Cond.soleField "SmokeWord" "row") ∈ lw_all := lw_g (lw_at lw_m2 46 rfl) rfl
theorem q414 : (Jvm.Cond.laysFinal "SmokeWord" "SmokeWord" "bestRow" "[I") ∈ lw_all := lw_g (lw_at lw_m2 47 rfl) rfl
theorem q415 : (Jvm.Cond.soleField "SmokeWord" "bestRow") ∈ lw_all := lw_g (lw_at lw_m2 48 rfl) rfl
theorem q416 : (Jvm.Cond.lays "SmokeWord" "SmokeWord" "rowMany" "I") ∈ lw_all := lw_g (lw_at lw_m2 49 rfl) rfl
theorem q417 : (Jvm.Cond.soleField "SmokeWord" "rowMany") ∈ lw_all := lw_g (lw_at lw_m2 50 rfl) rfl
theorem q418 : (Jvm.Cond.lays "SmokeWord" "SmokeWord" "rowAt" "I") ∈ lw_all := lw_g (lw_at lw_m2 51 rfl) rfl
theorem q419 : (Jvm.Cond.soleField "SmokeWord" "rowAt") ∈ lw_all := lw_g (lw_at lw_m2 52 rfl) rfl
theorem q420 : (Jvm.Cond.lays "SmokeWord" "SmokeWord" "byRow" "Z") ∈ lw_all := lw_g (lw_at lw_m2 53 rfl) rfl
theorem q421 : (Jvm.Cond.soleField "SmokeWord" "byRow") ∈ lw_all := lw_g (lw_at lw_m2 54 rfl) rfl
theorem q422 : (Jvm.Cond.lays "SmokeWord" "SmokeWord" "came" "I") ∈ lw_all := lw_g (lw_at lw_m2 55 rfl) rfl
theorem q423 : (Jvm.Cond.soleField "SmokeWord" "came") ∈ lw_all := lw_g (lw_at lw_m2 56 rfl) rfl
theorem q424 : (Jvm.Cond.laysFinal "SmokeWord" "SmokeWord" "past" "[LSmokeWord$State;") ∈ lw_all := lw_g (lw_at lw_m2 57 rfl) rfl
theorem q425 : (Jvm.Cond.soleField "SmokeWord" "past") ∈ lw_all := lw_g (lw_at lw_m2 58 rfl) rfl
theorem q426 : (Jvm.Cond.lays "SmokeWord" "SmokeWord" "pastMany" "I") ∈ lw_all := lw_g (lw_at lw_m2 59 rfl) rfl
theorem q427 : (Jvm.Cond.soleField "SmokeWord" "pastMany") ∈ lw_all := lw_g (lw_at lw_m2 60 rfl) rfl
theorem q428 : (Jvm.Cond.lays "SmokeWord" "SmokeWord" "pastAt" "I") ∈ lw_all := lw_g (lw_at lw_m2 61 rfl) rfl
theorem q429 : (Jvm.Cond.soleField "SmokeWord" "pastAt") ∈ lw_all := lw_g (lw_at lw_m2 62 rfl) rfl
theorem q430 : (Jvm.Cond.lays "SmokeWord" "SmokeWord" "mostLeft" "I") ∈ lw_all := lw_g (lw_at lw_m2 63 rfl) rfl
theorem q431 : (Jvm.Cond.soleField "SmokeWord" "mostLeft") ∈ lw_all := lw_g (lw_at lw_m2 64 rfl) rfl
theorem q432 : (Jvm.Cond.laysFinal "SmokeWord" "SmokeWord" "firstHas" "[I") ∈ lw_all := lw_g (lw_at lw_m2 65 rfl) rfl
theorem q433 : (Jvm.Cond.soleField "SmokeWord" "firstHas") ∈ lw_all := lw_g (lw_at lw_m2 66 rfl) rfl
theorem q434 : (Jvm.Cond.laysFinal "SmokeWord" "SmokeWord" "secondHas" "[I") ∈ lw_all := lw_g (lw_at lw_m2 67 rfl) rfl
theorem q435 : (Jvm.Cond.soleField "SmokeWord" "secondHas") ∈ lw_all := lw_g (lw_at lw_m2 68 rfl) rfl
theorem q436 : (Jvm.Cond.laysFinal "SmokeWord" "SmokeWord" "course" "[I") ∈ lw_all := lw_g (lw_at lw_m2 69 rfl) rfl
theorem q437 : (Jvm.Cond.soleField "SmokeWord" "course") ∈ lw_all := lw_g (lw_at lw_m2 70 rfl) rfl
theorem q438 : (Jvm.Cond.laysFinal "SmokeWord" "SmokeWord" "shows" "[I") ∈ lw_all := lw_g (lw_at lw_m2 71 rfl) rfl
theorem q439 : (Jvm.Cond.soleField "SmokeWord" "shows") ∈ lw_all := lw_g (lw_at lw_m2 72 rfl) rfl
theorem q440 : (Jvm.Cond.laysFinal "SmokeWord" "SmokeWord" "images" "[LSmokeWord$Image;") ∈ lw_all := lw_g (lw_at lw_m2 73 rfl) rfl
theorem q441 : (Jvm.Cond.soleField "SmokeWord" "images") ∈ lw_all := lw_g (lw_at lw_m2 74 rfl) rfl
theorem q442 : (Jvm.Cond.superclass "SmokeWord" "java/lang/Object") ∈ lw_all := lw_g (lw_at lw_m2 75 rfl) rfl
theorem q446 : (Jvm.Cond.instanceMethod ({ cls := "SmokeWord", name := "feed", desc := "(IIIII)I" } : Jvm.MethodName)) ∈ lw_all := lw_g (lw_at lw_m2 79 rfl) rfl
theorem q447 : (Jvm.Cond.selects "SmokeWord" ({ cls := "SmokeWord", name := "feed", desc := "(IIIII)I" } : Jvm.MethodName) ({ cls := "SmokeWord", name := "feed", desc := "(IIIII)I" } : Jvm.MethodName)) ∈ lw_all := lw_g (lw_at lw_m2 80 rfl) rfl
theorem q448 : (Jvm.Cond.code ({ cls := "SmokeWord", name := "feed", desc := "(IIIII)I" } : Jvm.MethodName) prog_1_method_9_code (6 : Nat) (Option.some Jvm.ClassFile.FieldType.int)) ∈ lw_all := lw_g (lw_at lw_m2 81 rfl) rfl
theorem q449 : (Jvm.Cond.methodLink "SmokeWord" (118 : Nat) ({ cls := "SmokeWord", name := "put", desc := "(I)V" } : Jvm.MethodName)) ∈ lw_all := lw_g (lw_at lw_m2 82 rfl) rfl
theorem q450 : (Jvm.Cond.privateMethod ({ cls := "SmokeWord", name := "put", desc := "(I)V" } : Jvm.MethodName)) ∈ lw_tbl := lw_at lw_m2 83 rfl
theorem q451 : (Jvm.Cond.instanceMethod ({ cls := "SmokeWord", name := "put", desc := "(I)V" } : Jvm.MethodName)) ∈ lw_all := lw_g (lw_at lw_m2 84 rfl) rfl
theorem q452 : (Jvm.Cond.code ({ cls := "SmokeWord", name := "put", desc := "(I)V" } : Jvm.MethodName) prog_1_method_10_code (3 : Nat) (Option.none : Option Jvm.ClassFile.FieldType)) ∈ lw_all := lw_g (lw_at lw_m2 85 rfl) rfl
theorem q454 : (Jvm.Cond.instanceMethod ({ cls := "SmokeWord", name := "end", desc := "(I)I" } : Jvm.MethodName)) ∈ lw_all := lw_g (lw_at lw_m2 87 rfl) rfl
theorem q455 : (Jvm.Cond.selects "SmokeWord" ({ cls := "SmokeWord", name := "end", desc := "(I)I" } : Jvm.MethodName) ({ cls := "SmokeWord", name := "end", desc := "(I)I" } : Jvm.MethodName)) ∈ lw_all := lw_g (lw_at lw_m2 88 rfl) rfl
theorem q456 : (Jvm.Cond.code ({ cls := "SmokeWord", name := "end", desc := "(I)I" } : Jvm.MethodName) prog_1_method_11_code (2 : Nat) (Option.some Jvm.ClassFile.FieldType.int)) ∈ lw_all := lw_g (lw_at lw_m2 89 rfl) rfl
theorem q458 : (Jvm.Cond.instanceMethod ({ cls := "SmokeWord", name := "valley", desc := "()I" } : Jvm.MethodName)) ∈ lw_all := lw_g (lw_at lw_m2 91 rfl) rfl
theorem q459 : (Jvm.Cond.selects "SmokeWord" ({ cls := "SmokeWord", name := "valley", desc := "()I" } : Jvm.MethodName) ({ cls := "SmokeWord", name := "valley", desc := "()I" } : Jvm.MethodName)) ∈ lw_all := lw_g (lw_at lw_m2 92 rfl) rfl
theorem q460 : (Jvm.Cond.codeWith ({ cls := "SmokeWord", name := "valley", desc := "()I" } : Jvm.MethodName) prog_1_method_12_code (4 : Nat) (Option.some Jvm.ClassFile.FieldType.int) [((0 : Nat), (49 : Nat), (56 : Nat), (39 : Nat)), ((0 : Nat), (49 : Nat), (72 : Nat), (0 : Nat)), ((56 : Nat), (65 : Nat), (72 : Nat), (0 : Nat))]) ∈ lw_all := lw_g (lw_at lw_m2 93 rfl) rfl
theorem q461 : (Jvm.Cond.classLink "SmokeWord" (121 : Nat) "SmokeWord$Parser") ∈ lw_all := lw_g (lw_at lw_m2 94 rfl) rfl
theorem q463 : (Jvm.Cond.methodLink "SmokeWord" (123 : Nat) ({ cls := "SmokeWord$Parser", name := "<init>", desc := "(LSmokeWord;[Ljava/lang/String;I)V" } : Jvm.MethodName)) ∈ lw_all := lw_g (lw_at lw_m2 96 rfl) rfl
theorem q489 : (Jvm.Cond.methodLink "SmokeWord" (126 : Nat) ({ cls := "SmokeWord$Parser", name := "valley", desc := "()LSmokeWord$Valley;" } : Jvm.MethodName)) ∈ lw_all := lw_g (lw_at lw_m2 122 rfl) rfl
theorem q519 : (Jvm.Cond.static ({ cls := "SmokeWord", name := "in", desc := "(JJJ)Z" } : Jvm.MethodName)) ∈ lw_all := lw_g (lw_at lw_m2 152 rfl) rfl
theorem q520 : (Jvm.Cond.code ({ cls := "SmokeWord", name := "in", desc := "(JJJ)Z" } : Jvm.MethodName) prog_1_method_1_code (6 : Nat) (Option.some Jvm.ClassFile.FieldType.boolean)) ∈ lw_all := lw_g (lw_at lw_m2 153 rfl) rfl
theorem q570 : (Jvm.Cond.privateMethod ({ cls := "SmokeWord", name := "fails", desc := "(II)LSmokeWord$Wrong;" } : Jvm.MethodName)) ∈ lw_tbl := lw_at lw_m2 203 rfl
theorem q571 : (Jvm.Cond.instanceMethod ({ cls := "SmokeWord", name := "fails", desc := "(II)LSmokeWord$Wrong;" } : Jvm.MethodName)) ∈ lw_all := lw_g (lw_at lw_m2 204 rfl) rfl
theorem q572 : (Jvm.Cond.code ({ cls := "SmokeWord", name := "fails", desc := "(II)LSmokeWord$Wrong;" } : Jvm.MethodName) prog_1_method_8_code (3 : Nat) (Option.some (Jvm.ClassFile.FieldType.object "SmokeWord$Wrong"))) ∈ lw_all := lw_g (lw_at lw_m2 205 rfl) rfl
theorem q652 : (Jvm.Cond.selects "SmokeWord" ({ cls := "java/lang/Object", name := "getClass", desc := "()Ljava/lang/Class;" } : Jvm.MethodName) ({ cls := "java/lang/Object", name := "getClass", desc := "()Ljava/lang/Class;" } : Jvm.MethodName)) ∈ lw_all := lw_g (lw_at lw_m3 45 rfl) rfl
theorem q709 : (Jvm.Cond.methodLink "SmokeWord" (129 : Nat) ({ cls := "SmokeWord$State", name := "begin", desc := "(LSmokeWord$Valley;)V" } : Jvm.MethodName)) ∈ lw_all := lw_g (lw_at lw_m3 102 rfl) rfl
theorem q727 : (Jvm.Cond.methodLink "SmokeWord" (100 : Nat) ({ cls := "SmokeWord$Valley", name := "houses", desc := "()I" } : Jvm.MethodName)) ∈ lw_all := lw_g (lw_at lw_m3 120 rfl) rfl
theorem q729 : (Jvm.Cond.instanceMethod ({ cls := "SmokeWord", name := "rule", desc := "()I" } : Jvm.MethodName)) ∈ lw_all := lw_g (lw_at lw_m3 122 rfl) rfl
theorem q730 : (Jvm.Cond.selects "SmokeWord" ({ cls := "SmokeWord", name := "rule", desc := "()I" } : Jvm.MethodName) ({ cls := "SmokeWord", name := "rule", desc := "()I" } : Jvm.MethodName)) ∈ lw_all := lw_g (lw_at lw_m3 123 rfl) rfl
theorem q731 : (Jvm.Cond.codeWith ({ cls := "SmokeWord", name := "rule", desc := "()I" } : Jvm.MethodName) prog_1_method_13_code (4 : Nat) (Option.some Jvm.ClassFile.FieldType.int) [((14 : Nat), (31 : Nat), (38 : Nat), (39 : Nat)), ((14 : Nat), (31 : Nat), (54 : Nat), (0 : Nat)), ((38 : Nat), (47 : Nat), (54 : Nat), (0 : Nat))]) ∈ lw_all := lw_g (lw_at lw_m3 124 rfl) rfl
theorem q732 : (Jvm.Cond.methodLink "SmokeWord" (139 : Nat) ({ cls := "java/util/ArrayList", name := "size", desc := "()I" } : Jvm.MethodName)) ∈ lw_all := lw_g (lw_at lw_m3 125 rfl) rfl
theorem q733 : (Jvm.Cond.methodLink "SmokeWord" (142 : Nat) ({ cls := "SmokeWord$Parser", name := "rule", desc := "()I" } : Jvm.MethodName)) ∈ lw_all := lw_g (lw_at lw_m3 126 rfl) rfl
theorem q899 : (Jvm.Cond.instanceMethod ({ cls := "SmokeWord", name := "force", desc := "(I)I" } : Jvm.MethodName)) ∈ lw_all := lw_g (lw_at lw_m4 52 rfl) rfl
theorem q900 : (Jvm.Cond.selects "SmokeWord" ({ cls := "SmokeWord", name := "force", desc := "(I)I" } : Jvm.MethodName) ({ cls := "SmokeWord", name := "force", desc := "(I)I" } : Jvm.MethodName)) ∈ lw_all := lw_g (lw_at lw_m4 53 rfl) rfl
theorem q901 : (Jvm.Cond.code ({ cls := "SmokeWord", name := "force", desc := "(I)I" } : Jvm.MethodName) prog_1_method_14_code (3 : Nat) (Option.some Jvm.ClassFile.FieldType.int)) ∈ lw_all := lw_g (lw_at lw_m4 54 rfl) rfl
theorem q902 : (Jvm.Cond.constantLong "SmokeWord" (145 : Nat) (-1 : Int64)) ∈ lw_all := lw_g (lw_at lw_m4 55 rfl) rfl
theorem q903 : (Jvm.Cond.methodLink "SmokeWord" (104 : Nat) ({ cls := "SmokeWord", name := "in", desc := "(JJJ)Z" } : Jvm.MethodName)) ∈ lw_all := lw_g (lw_at lw_m4 56 rfl) rfl
theorem q905 : (Jvm.Cond.instanceMethod ({ cls := "SmokeWord", name := "house", desc := "(II)I" } : Jvm.MethodName)) ∈ lw_all := lw_g (lw_at lw_m4 58 rfl) rfl
theorem q906 : (Jvm.Cond.selects "SmokeWord" ({ cls := "SmokeWord", name := "house", desc := "(II)I" } : Jvm.MethodName) ({ cls := "SmokeWord", name := "house", desc := "(II)I" } : Jvm.MethodName)) ∈ lw_all := lw_g (lw_at lw_m4 59 rfl) rfl
theorem q907 : (Jvm.Cond.code ({ cls := "SmokeWord", name := "house", desc := "(II)I" } : Jvm.MethodName) prog_1_method_15_code (3 : Nat) (Option.some Jvm.ClassFile.FieldType.int)) ∈ lw_all := lw_g (lw_at lw_m4 60 rfl) rfl
theorem q908 : (Jvm.Cond.methodLink "SmokeWord" (147 : Nat) ({ cls := "SmokeWord", name := "isHouse", desc := "(I)Z" } : Jvm.MethodName)) ∈ lw_all := lw_g (lw_at lw_m4 61 rfl) rfl
theorem q909 : (Jvm.Cond.privateMethod ({ cls := "SmokeWord", name := "isHouse", desc := "(I)Z" } : Jvm.MethodName)) ∈ lw_tbl := lw_at lw_m4 62 rfl
theorem q910 : (Jvm.Cond.instanceMethod ({ cls := "SmokeWord", name := "isHouse", desc := "(I)Z" } : Jvm.MethodName)) ∈ lw_all := lw_g (lw_at lw_m4 63 rfl) rfl
theorem q911 : (Jvm.Cond.code ({ cls := "SmokeWord", name := "isHouse", desc := "(I)Z" } : Jvm.MethodName) prog_1_method_6_code (2 : Nat) (Option.some Jvm.ClassFile.FieldType.boolean)) ∈ lw_all := lw_g (lw_at lw_m4 64 rfl) rfl
theorem q913 : (Jvm.Cond.instanceMethod ({ cls := "SmokeWord", name := "far", desc := "(II)I" } : Jvm.MethodName)) ∈ lw_all := lw_g (lw_at lw_m4 66 rfl) rfl
theorem q914 : (Jvm.Cond.selects "SmokeWord" ({ cls := "SmokeWord", name := "far", desc := "(II)I" } : Jvm.MethodName) ({ cls := "SmokeWord", name := "far", desc := "(II)I" } : Jvm.MethodName)) ∈ lw_all := lw_g (lw_at lw_m4 67 rfl) rfl
theorem q915 : (Jvm.Cond.code ({ cls := "SmokeWord", name := "far", desc := "(II)I" } : Jvm.MethodName) prog_1_method_16_code (3 : Nat) (Option.some Jvm.ClassFile.FieldType.int)) ∈ lw_all := lw_g (lw_at lw_m4 68 rfl) rfl
theorem q916 : (Jvm.Cond.methodLink "SmokeWord" (166 : Nat) ({ cls := "SmokeWord", name := "isPlace", desc := "(I)Z" } : Jvm.MethodName)) ∈ lw_all := lw_g (lw_at lw_m4 69 rfl) rfl
theorem q917 : (Jvm.Cond.privateMethod ({ cls := "SmokeWord", name := "isPlace", desc := "(I)Z" } : Jvm.MethodName)) ∈ lw_tbl := lw_at lw_m4 70 rfl
theorem q918 : (Jvm.Cond.instanceMethod ({ cls := "SmokeWord", name := "isPlace", desc := "(I)Z" } : Jvm.MethodName)) ∈ lw_all := lw_g (lw_at lw_m4 71 rfl) rfl
theorem q919 : (Jvm.Cond.code ({ cls := "SmokeWord", name := "isPlace", desc := "(I)Z" } : Jvm.MethodName) prog_1_method_7_code (2 : Nat) (Option.some Jvm.ClassFile.FieldType.boolean)) ∈ lw_all := lw_g (lw_at lw_m4 72 rfl) rfl
theorem q920 : (Jvm.Cond.methodLink "SmokeWord" (108 : Nat) ({ cls := "SmokeWord", name := "isValley", desc := "()Z" } : Jvm.MethodName)) ∈ lw_all := lw_g (lw_at lw_m4 73 rfl) rfl
theorem q921 : (Jvm.Cond.privateMethod ({ cls := "SmokeWord", name := "isValley", desc := "()Z" } : Jvm.MethodName)) ∈ lw_tbl := lw_at lw_m4 74 rfl
theorem q922 : (Jvm.Cond.instanceMethod ({ cls := "SmokeWord", name := "isValley", desc := "()Z" } : Jvm.MethodName)) ∈ lw_all := lw_g (lw_at lw_m4 75 rfl) rfl
theorem q923 : (Jvm.Cond.code ({ cls := "SmokeWord", name := "isValley", desc := "()Z" } : Jvm.MethodName) prog_1_method_5_code (1 : Nat) (Option.some Jvm.ClassFile.FieldType.boolean)) ∈ lw_all := lw_g (lw_at lw_m4 76 rfl) rfl
theorem q924 : (Jvm.Cond.methodLink "SmokeWord" (169 : Nat) ({ cls := "SmokeWord$Valley", name := "far", desc := "(II)I" } : Jvm.MethodName)) ∈ lw_all := lw_g (lw_at lw_m4 77 rfl) rfl
theorem q926 : (Jvm.Cond.instanceMethod ({ cls := "SmokeWord", name := "undo", desc := "()I" } : Jvm.MethodName)) ∈ lw_all := lw_g (lw_at lw_m4 79 rfl) rfl
theorem q927 : (Jvm.Cond.selects "SmokeWord" ({ cls := "SmokeWord", name := "undo", desc := "()I" } : Jvm.MethodName) ({ cls := "SmokeWord", name := "undo", desc := "()I" } : Jvm.MethodName)) ∈ lw_all := lw_g (lw_at lw_m4 80 rfl) rfl
theorem q928 : (Jvm.Cond.code ({ cls := "SmokeWord", name := "undo", desc := "()I" } : Jvm.MethodName) prog_1_method_27_code (1 : Nat) (Option.some Jvm.ClassFile.FieldType.int)) ∈ lw_all := lw_g (lw_at lw_m4 81 rfl) rfl
theorem q929 : (Jvm.Cond.methodLink "SmokeWord" (269 : Nat) ({ cls := "SmokeWord$State", name := "copyFrom", desc := "(LSmokeWord$State;)V" } : Jvm.MethodName)) ∈ lw_all := lw_g (lw_at lw_m4 82 rfl) rfl
theorem q934 : (Jvm.Cond.instanceMethod ({ cls := "SmokeWord", name := "hour", desc := "()I" } : Jvm.MethodName)) ∈ lw_all := lw_g (lw_at lw_m4 87 rfl) rfl
theorem q935 : (Jvm.Cond.selects "SmokeWord" ({ cls := "SmokeWord", name := "hour", desc := "()I" } : Jvm.MethodName) ({ cls := "SmokeWord", name := "hour", desc := "()I" } : Jvm.MethodName)) ∈ lw_all := lw_g (lw_at lw_m4 88 rfl) rfl
theorem q936 : (Jvm.Cond.code ({ cls := "SmokeWord", name := "hour", desc := "()I" } : Jvm.MethodName) prog_1_method_28_code (1 : Nat) (Option.some Jvm.ClassFile.FieldType.int)) ∈ lw_all := lw_g (lw_at lw_m4 89 rfl) rfl
theorem q937 : (Jvm.Cond.methodLink "SmokeWord" (276 : Nat) ({ cls := "SmokeWord", name := "keeps", desc := "()V" } : Jvm.MethodName)) ∈ lw_all := lw_g (lw_at lw_m4 90 rfl) rfl
theorem q938 : (Jvm.Cond.privateMethod ({ cls := "SmokeWord", name := "keeps", desc := "()V" } : Jvm.MethodName)) ∈ lw_tbl := lw_at lw_m4 91 rfl
theorem q939 : (Jvm.Cond.instanceMethod ({ cls := "SmokeWord", name := "keeps", desc := "()V" } : Jvm.MethodName)) ∈ lw_all := lw_g (lw_at lw_m4 92 rfl) rfl
theorem q940 : (Jvm.Cond.code ({ cls := "SmokeWord", name := "keeps", desc := "()V" } : Jvm.MethodName) prog_1_method_26_code (1 : Nat) (Option.none : Option Jvm.ClassFile.FieldType)) ∈ lw_all := lw_g (lw_at lw_m4 93 rfl) rfl
theorem q941 : (Jvm.Cond.methodLink "SmokeWord" (273 : Nat) ({ cls := "java/lang/Math", name := "min", desc := "(II)I" } : Jvm.MethodName)) ∈ lw_all := lw_g (lw_at lw_m4 94 rfl) rfl
theorem q942 : (Jvm.Cond.methodLink "SmokeWord" (264 : Nat) ({ cls := "SmokeWord", name := "goesOn", desc := "(LSmokeWord$State;)I" } : Jvm.MethodName)) ∈ lw_all := lw_g (lw_at lw_m4 95 rfl) rfl
theorem q943 : (Jvm.Cond.privateMethod ({ cls := "SmokeWord", name := "goesOn", desc := "(LSmokeWord$State;)I" } : Jvm.MethodName)) ∈ lw_tbl := lw_at lw_m4 96 rfl
theorem q944 : (Jvm.Cond.instanceMethod ({ cls := "SmokeWord", name := "goesOn", desc := "(LSmokeWord$State;)I" } : Jvm.MethodName)) ∈ lw_all := lw_g (lw_at lw_m4 97 rfl) rfl
theorem q945 : (Jvm.Cond.code ({ cls := "SmokeWord", name := "goesOn", desc := "(LSmokeWord$State;)I" } : Jvm.MethodName) prog_1_method_23_code (3 : Nat) (Option.some Jvm.ClassFile.FieldType.int)) ∈ lw_all := lw_g (lw_at lw_m4 98 rfl) rfl
theorem q946 : (Jvm.Cond.methodLink "SmokeWord" (254 : Nat) ({ cls := "SmokeWord", name := "brigade", desc := "(LSmokeWord$State;)I" } : Jvm.MethodName)) ∈ lw_all := lw_g (lw_at lw_m4 99 rfl) rfl
theorem q947 : (Jvm.Cond.privateMethod ({ cls := "SmokeWord", name := "brigade", desc := "(LSmokeWord$State;)I" } : Jvm.MethodName)) ∈ lw_tbl := lw_at lw_m4 100 rfl
theorem q948 : (Jvm.Cond.instanceMethod ({ cls := "SmokeWord", name := "brigade", desc := "(LSmokeWord$State;)I" } : Jvm.MethodName)) ∈ lw_all := lw_g (lw_at lw_m4 101 rfl) rfl
theorem q949 : (Jvm.Cond.code ({ cls := "SmokeWord", name := "brigade", desc := "(LSmokeWord$State;)I" } : Jvm.MethodName) prog_1_method_22_code (4 : Nat) (Option.some Jvm.ClassFile.FieldType.int)) ∈ lw_all := lw_g (lw_at lw_m4 102 rfl) rfl
theorem q950 : (Jvm.Cond.methodLink "SmokeWord" (225 : Nat) ({ cls := "SmokeWord$State", name := "isAway", desc := "()Z" } : Jvm.MethodName)) ∈ lw_all := lw_g (lw_at lw_m4 103 rfl) rfl
theorem q954 : (Jvm.Cond.methodLink "SmokeWord" (228 : Nat) ({ cls := "SmokeWord$State", name := "isAtFire", desc := "()Z" } : Jvm.MethodName)) ∈ lw_all := lw_g (lw_at lw_m4 107 rfl) rfl
theorem q959 : (Jvm.Cond.methodLink "SmokeWord" (235 : Nat) ({ cls := "SmokeWord", name := "nextOf", desc := "(LSmokeWord$State;)I" } : Jvm.MethodName)) ∈ lw_all := lw_g (lw_at lw_m4 112 rfl) rfl
theorem q960 : (Jvm.Cond.privateMethod ({ cls := "SmokeWord", name := "nextOf", desc := "(LSmokeWord$State;)I" } : Jvm.MethodName)) ∈ lw_tbl := lw_at lw_m4 113 rfl
theorem q961 : (Jvm.Cond.instanceMethod ({ cls := "SmokeWord", name := "nextOf", desc := "(LSmokeWord$State;)I" } : Jvm.MethodName)) ∈ lw_all := lw_g (lw_at lw_m4 114 rfl) rfl
theorem q962 : (Jvm.Cond.code ({ cls := "SmokeWord", name := "nextOf", desc := "(LSmokeWord$State;)I" } : Jvm.MethodName) prog_1_method_21_code (2 : Nat) (Option.some Jvm.ClassFile.FieldType.int)) ∈ lw_all := lw_g (lw_at lw_m4 115 rfl) rfl
theorem q963 : (Jvm.Cond.methodLink "SmokeWord" (212 : Nat) ({ cls := "SmokeWord", name := "isReached", desc := "(LSmokeWord$State;I)Z" } : Jvm.MethodName)) ∈ lw_all := lw_g (lw_at lw_m4 116 rfl) rfl
theorem q964 : (Jvm.Cond.privateMethod ({ cls := "SmokeWord", name := "isReached", desc := "(LSmokeWord$State;I)Z" } : Jvm.MethodName)) ∈ lw_tbl := lw_at lw_m4 117 rfl
theorem q965 : (Jvm.Cond.instanceMethod ({ cls := "SmokeWord", name := "isReached", desc := "(LSmokeWord$State;I)Z" } : Jvm.MethodName)) ∈ lw_all := lw_g (lw_at lw_m4 118 rfl) rfl
theorem q966 : (Jvm.Cond.code ({ cls := "SmokeWord", name := "isReached", desc := "(LSmokeWord$State;I)Z" } : Jvm.MethodName) prog_1_method_19_code (3 : Nat) (Option.some Jvm.ClassFile.FieldType.boolean)) ∈ lw_all := lw_g (lw_at lw_m4 119 rfl) rfl
theorem q967 : (Jvm.Cond.methodLink "SmokeWord" (239 : Nat) ({ cls := "SmokeWord", name := "choiceOf", desc := "(LSmokeWord$State;)I" } : Jvm.MethodName)) ∈ lw_all := lw_g (lw_at lw_m4 120 rfl) rfl
theorem q968 : (Jvm.Cond.privateMethod ({ cls := "SmokeWord", name := "choiceOf", desc := "(LSmokeWord$State;)I" } : Jvm.MethodName)) ∈ lw_tbl := lw_at lw_m4 121 rfl
theorem q969 : (Jvm.Cond.instanceMethod ({ cls := "SmokeWord", name := "choiceOf", desc := "(LSmokeWord$State;)I" } : Jvm.MethodName)) ∈ lw_all := lw_g (lw_at lw_m4 122 rfl) rfl
theorem q970 : (Jvm.Cond.code ({ cls := "SmokeWord", name := "choiceOf", desc := "(LSmokeWord$State;)I" } : Jvm.MethodName) prog_1_method_20_code (8 : Nat) (Option.some Jvm.ClassFile.FieldType.int)) ∈ lw_all := lw_g (lw_at lw_m4 123 rfl) rfl
theorem q971 : (Jvm.Cond.methodLink "SmokeWord" (216 : Nat) ({ cls := "SmokeWord", name := "wants", desc := "(LSmokeWord$State;I)J" } : Jvm.MethodName)) ∈ lw_all := lw_g (lw_at lw_m4 124 rfl) rfl
theorem q972 : (Jvm.Cond.privateMethod ({ cls := "SmokeWord", name := "wants", desc := "(LSmokeWord$State;I)J" } : Jvm.MethodName)) ∈ lw_tbl := lw_at lw_m4 125 rfl
theorem q973 : (Jvm.Cond.instanceMethod ({ cls := "SmokeWord", name := "wants", desc := "(LSmokeWord$State;I)J" } : Jvm.MethodName)) ∈ lw_all := lw_g (lw_at lw_m4 126 rfl) rfl
theorem q974 : (Jvm.Cond.code ({ cls := "SmokeWord", name := "wants", desc := "(LSmokeWord$State;I)J" } : Jvm.MethodName) prog_1_method_18_code (3 : Nat) (Option.some Jvm.ClassFile.FieldType.long)) ∈ lw_all := lw_g (lw_at lw_m4 127 rfl) rfl
theorem q975 : (Jvm.Cond.methodLink "SmokeWord" (198 : Nat) ({ cls := "SmokeWord", name := "asks", desc := "(LSmokeWord$State;I)V" } : Jvm.MethodName)) ∈ lw_all := lw_g (lw_at lw_m4 128 rfl) rfl
theorem q976 : (Jvm.Cond.privateMethod ({ cls := "SmokeWord", name := "asks", desc := "(LSmokeWord$State;I)V" } : Jvm.MethodName)) ∈ lw_tbl := lw_at lw_m4 129 rfl
theorem q977 : (Jvm.Cond.instanceMethod ({ cls := "SmokeWord", name := "asks", desc := "(LSmokeWord$State;I)V" } : Jvm.MethodName)) ∈ lw_all := lw_g (lw_at lw_m4 130 rfl) rfl
theorem q978 : (Jvm.Cond.code ({ cls := "SmokeWord", name := "asks", desc := "(LSmokeWord$State;I)V" } : Jvm.MethodName) prog_1_method_17_code (3 : Nat) (Option.none : Option Jvm.ClassFile.FieldType)) ∈ lw_all := lw_g (lw_at lw_m4 131 rfl) rfl
theorem q979 : (Jvm.Cond.methodLink "SmokeWord" (173 : Nat) ({ cls := "SmokeWord", name := "bit", desc := "(Z)I" } : Jvm.MethodName)) ∈ lw_all := lw_g (lw_at lw_m4 132 rfl) rfl
theorem q980 : (Jvm.Cond.static ({ cls := "SmokeWord", name := "bit", desc := "(Z)I" } : Jvm.MethodName)) ∈ lw_all := lw_g (lw_at lw_m4 133 rfl) rfl
theorem q981 : (Jvm.Cond.code ({ cls := "SmokeWord", name := "bit", desc := "(Z)I" } : Jvm.MethodName) prog_1_method_3_code (1 : Nat) (Option.some Jvm.ClassFile.FieldType.int)) ∈ lw_all := lw_g (lw_at lw_m4 134 rfl) rfl
theorem q982 : (Jvm.Cond.methodLink "SmokeWord" (180 : Nat) ({ cls := "SmokeWord$State", name := "fires", desc := "()I" } : Jvm.MethodName)) ∈ lw_all := lw_g (lw_at lw_m4 135 rfl) rfl
theorem q986 : (Jvm.Cond.methodLink "SmokeWord" (183 : Nat) ({ cls := "java/lang/Integer", name := "bitCount", desc := "(I)I" } : Jvm.MethodName)) ∈ lw_all := lw_g (lw_at lw_m4 139 rfl) rfl
theorem q992 : (Jvm.Cond.methodLink "SmokeWord" (189 : Nat) ({ cls := "SmokeWord$State", name := "gone", desc := "()I" } : Jvm.MethodName)) ∈ lw_all := lw_g (lw_at lw_m4 145 rfl) rfl
theorem q996 : (Jvm.Cond.methodLink "SmokeWord" (202 : Nat) ({ cls := "java/util/ArrayList", name := "get", desc := "(I)Ljava/lang/Object;" } : Jvm.MethodName)) ∈ lw_all := lw_g (lw_at lw_m4 149 rfl) rfl
theorem q997 : (Jvm.Cond.classLink "SmokeWord" (206 : Nat) "SmokeWord$Rule") ∈ lw_all := lw_g (lw_at lw_m4 150 rfl) rfl
theorem q998 : (Jvm.Cond.methodLink "SmokeWord" (208 : Nat) ({ cls := "SmokeWord$Rule", name := "wants", desc := "([J)J" } : Jvm.MethodName)) ∈ lw_all := lw_g (lw_at lw_m4 151 rfl) rfl
theorem q1037 : (Jvm.Cond.methodLink "SmokeWord" (242 : Nat) ({ cls := "SmokeWord$State", name := "sends", desc := "(LSmokeWord$Valley;I)V" } : Jvm.MethodName)) ∈ lw_all := lw_g (lw_at lw_m4 190 rfl) rfl
theorem q1042 : (Jvm.Cond.methodLink "SmokeWord" (246 : Nat) ({ cls := "SmokeWord$State", name := "goesOn", desc := "()V" } : Jvm.MethodName)) ∈ lw_all := lw_g (lw_at lw_m4 195 rfl) rfl
theorem q1046 : (Jvm.Cond.methodLink "SmokeWord" (249 : Nat) ({ cls := "java/lang/Math", name := "max", desc := "(II)I" } : Jvm.MethodName)) ∈ lw_all := lw_g (lw_at lw_m4 199 rfl) rfl
theorem q1047 : (Jvm.Cond.methodLink "SmokeWord" (260 : Nat) ({ cls := "SmokeWord$State", name := "burn", desc := "(LSmokeWord$Valley;)I" } : Jvm.MethodName)) ∈ lw_all := lw_g (lw_at lw_m4 200 rfl) rfl
theorem q1055 : (Jvm.Cond.instanceMethod ({ cls := "SmokeWord", name := "light", desc := "(I)I" } : Jvm.MethodName)) ∈ lw_all := lw_g (lw_at lw_m4 208 rfl) rfl
theorem q1056 : (Jvm.Cond.selects "SmokeWord" ({ cls := "SmokeWord", name := "light", desc := "(I)I" } : Jvm.MethodName) ({ cls := "SmokeWord", name := "light", desc := "(I)I" } : Jvm.MethodName)) ∈ lw_all := lw_g (lw_at lw_m4 209 rfl) rfl
theorem q1057 : (Jvm.Cond.code ({ cls := "SmokeWord", name := "light", desc := "(I)I" } : Jvm.MethodName) prog_1_method_29_code (2 : Nat) (Option.some Jvm.ClassFile.FieldType.int)) ∈ lw_all := lw_g (lw_at lw_m4 210 rfl) rfl
theorem q1059 : (Jvm.Cond.instanceMethod ({ cls := "SmokeWord", name := "douse", desc := "(I)I" } : Jvm.MethodName)) ∈ lw_all := lw_g (lw_at lw_m4 212 rfl) rfl
theorem q1060 : (Jvm.Cond.selects "SmokeWord" ({ cls := "SmokeWord", name := "douse", desc := "(I)I" } : Jvm.MethodName) ({ cls := "SmokeWord", name := "douse", desc := "(I)I" } : Jvm.MethodName)) ∈ lw_all := lw_g (lw_at lw_m4 213 rfl) rfl
theorem q1061 : (Jvm.Cond.code ({ cls := "SmokeWord", name := "douse", desc := "(I)I" } : Jvm.MethodName) prog_1_method_30_code (3 : Nat) (Option.some Jvm.ClassFile.FieldType.int)) ∈ lw_all := lw_g (lw_at lw_m4 214 rfl) rfl
theorem q1063 : (Jvm.Cond.instanceMethod ({ cls := "SmokeWord", name := "say", desc := "(II)I" } : Jvm.MethodName)) ∈ lw_all := lw_g (lw_at lw_m4 216 rfl) rfl
theorem q1064 : (Jvm.Cond.selects "SmokeWord" ({ cls := "SmokeWord", name := "say", desc := "(II)I" } : Jvm.MethodName) ({ cls := "SmokeWord", name := "say", desc := "(II)I" } : Jvm.MethodName)) ∈ lw_all := lw_g (lw_at lw_m4 217 rfl) rfl
theorem q1065 : (Jvm.Cond.code ({ cls := "SmokeWord", name := "say", desc := "(II)I" } : Jvm.MethodName) prog_1_method_31_code (4 : Nat) (Option.some Jvm.ClassFile.FieldType.int)) ∈ lw_all := lw_g (lw_at lw_m4 218 rfl) rfl
theorem q1066 : (Jvm.Cond.constantLong "SmokeWord" (279 : Nat) (20 : Int64)) ∈ lw_all := lw_g (lw_at lw_m4 219 rfl) rfl
theorem q1068 : (Jvm.Cond.instanceMethod ({ cls := "SmokeWord", name := "send", desc := "(I)I" } : Jvm.MethodName)) ∈ lw_all := lw_g (lw_at lw_m4 221 rfl) rfl
theorem q1069 : (Jvm.Cond.selects "SmokeWord" ({ cls := "SmokeWord", name := "send", desc := "(I)I" } : Jvm.MethodName) ({ cls := "SmokeWord", name := "send", desc := "(I)I" } : Jvm.MethodName)) ∈ lw_all := lw_g (lw_at lw_m4 222 rfl) rfl
theorem q1070 : (Jvm.Cond.code ({ cls := "SmokeWord", name := "send", desc := "(I)I" } : Jvm.MethodName) prog_1_method_32_code (2 : Nat) (Option.some Jvm.ClassFile.FieldType.int)) ∈ lw_all := lw_g (lw_at lw_m4 223 rfl) rfl
theorem q1072 : (Jvm.Cond.instanceMethod ({ cls := "SmokeWord", name := "ahead", desc := "(III)I" } : Jvm.MethodName)) ∈ lw_all := lw_g (lw_at lw_m4 225 rfl) rfl
theorem q1073 : (Jvm.Cond.selects "SmokeWord" ({ cls := "SmokeWord", name := "ahead", desc := "(III)I" } : Jvm.MethodName) ({ cls := "SmokeWord", name := "ahead", desc := "(III)I" } : Jvm.MethodName)) ∈ lw_all := lw_g (lw_at lw_m4 226 rfl) rfl
theorem q1074 : (Jvm.Cond.code ({ cls := "SmokeWord", name := "ahead", desc := "(III)I" } : Jvm.MethodName) prog_1_method_33_code (4 : Nat) (Option.some Jvm.ClassFile.FieldType.int)) ∈ lw_all := lw_g (lw_at lw_m4 227 rfl) rfl
theorem q1075 : (Jvm.Cond.constantLong "SmokeWord" (284 : Nat) (2 : Int64)) ∈ lw_all := lw_g (lw_at lw_m4 228 rfl) rfl
theorem q1076 : (Jvm.Cond.constantLong "SmokeWord" (286 : Nat) (100 : Int64)) ∈ lw_all := lw_g (lw_at lw_m4 229 rfl) rfl
theorem q1077 : (Jvm.Cond.methodLink "SmokeWord" (288 : Nat) ({ cls := "SmokeWord", name := "goesTill", desc := "(I)V" } : Jvm.MethodName)) ∈ lw_all := lw_g (lw_at lw_m4 230 rfl) rfl
theorem q1078 : (Jvm.Cond.privateMethod ({ cls := "SmokeWord", name := "goesTill", desc := "(I)V" } : Jvm.MethodName)) ∈ lw_tbl := lw_at lw_m4 231 rfl
theorem q1079 : (Jvm.Cond.instanceMethod ({ cls := "SmokeWord", name := "goesTill", desc := "(I)V" } : Jvm.MethodName)) ∈ lw_all := lw_g (lw_at lw_m4 232 rfl) rfl
theorem q1080 : (Jvm.Cond.code ({ cls := "SmokeWord", name := "goesTill", desc := "(I)V" } : Jvm.MethodName) prog_1_method_24_code (3 : Nat) (Option.none : Option Jvm.ClassFile.FieldType)) ∈ lw_all := lw_g (lw_at lw_m4 233 rfl) rfl
theorem q1082 : (Jvm.Cond.instanceMethod ({ cls := "SmokeWord", name := "left", desc := "(I)I" } : Jvm.MethodName)) ∈ lw_all := lw_g (lw_at lw_m4 235 rfl) rfl
theorem q1083 : (Jvm.Cond.selects "SmokeWord" ({ cls := "SmokeWord", name := "left", desc := "(I)I" } : Jvm.MethodName) ({ cls := "SmokeWord", name := "left", desc := "(I)I" } : Jvm.MethodName)) ∈ lw_all := lw_g (lw_at lw_m4 236 rfl) rfl
theorem q1084 : (Jvm.Cond.code ({ cls := "SmokeWord", name := "left", desc := "(I)I" } : Jvm.MethodName) prog_1_method_34_code (2 : Nat) (Option.some Jvm.ClassFile.FieldType.int)) ∈ lw_all := lw_g (lw_at lw_m4 237 rfl) rfl
theorem q1085 : (Jvm.Cond.methodLink "SmokeWord" (291 : Nat) ({ cls := "SmokeWord$State", name := "left", desc := "()I" } : Jvm.MethodName)) ∈ lw_all := lw_g (lw_at lw_m4 238 rfl) rfl
theorem q1090 : (Jvm.Cond.instanceMethod ({ cls := "SmokeWord", name := "out", desc := "()I" } : Jvm.MethodName)) ∈ lw_all := lw_g (lw_at lw_m5 3 rfl) rfl
theorem q1091 : (Jvm.Cond.selects "SmokeWord" ({ cls := "SmokeWord", name := "out", desc := "()I" } : Jvm.MethodName) ({ cls := "SmokeWord", name := "out", desc := "()I" } : Jvm.MethodName)) ∈ lw_all := lw_g (lw_at lw_m5 4 rfl) rfl
theorem q1092 : (Jvm.Cond.code ({ cls := "SmokeWord", name := "out", desc := "()I" } : Jvm.MethodName) prog_1_method_35_code (2 : Nat) (Option.some Jvm.ClassFile.FieldType.int)) ∈ lw_all := lw_g (lw_at lw_m5 5 rfl) rfl
theorem q1094 : (Jvm.Cond.instanceMethod ({ cls := "SmokeWord", name := "canBurn", desc := "()I" } : Jvm.MethodName)) ∈ lw_all := lw_g (lw_at lw_m5 7 rfl) rfl
theorem q1095 : (Jvm.Cond.selects "SmokeWord" ({ cls := "SmokeWord", name := "canBurn", desc := "()I" } : Jvm.MethodName) ({ cls := "SmokeWord", name := "canBurn", desc := "()I" } : Jvm.MethodName)) ∈ lw_all := lw_g (lw_at lw_m5 8 rfl) rfl
theorem q1096 : (Jvm.Cond.code ({ cls := "SmokeWord", name := "canBurn", desc := "()I" } : Jvm.MethodName) prog_1_method_36_code (4 : Nat) (Option.some Jvm.ClassFile.FieldType.int)) ∈ lw_all := lw_g (lw_at lw_m5 9 rfl) rfl
theorem q1098 : (Jvm.Cond.instanceMethod ({ cls := "SmokeWord", name := "order", desc := "(II)I" } : Jvm.MethodName)) ∈ lw_all := lw_g (lw_at lw_m5 11 rfl) rfl
theorem q1099 : (Jvm.Cond.selects "SmokeWord" ({ cls := "SmokeWord", name := "order", desc := "(II)I" } : Jvm.MethodName) ({ cls := "SmokeWord", name := "order", desc := "(II)I" } : Jvm.MethodName)) ∈ lw_all := lw_g (lw_at lw_m5 12 rfl) rfl
theorem q1100 : (Jvm.Cond.code ({ cls := "SmokeWord", name := "order", desc := "(II)I" } : Jvm.MethodName) prog_1_method_39_code (3 : Nat) (Option.some Jvm.ClassFile.FieldType.int)) ∈ lw_all := lw_g (lw_at lw_m5 13 rfl) rfl
theorem q1101 : (Jvm.Cond.constantLong "SmokeWord" (308 : Nat) (60 : Int64)) ∈ lw_all := lw_g (lw_at lw_m5 14 rfl) rfl
theorem q1102 : (Jvm.Cond.constantLong "SmokeWord" (310 : Nat) (5 : Int64)) ∈ lw_all := lw_g (lw_at lw_m5 15 rfl) rfl
theorem q1103 : (Jvm.Cond.methodLink "SmokeWord" (301 : Nat) ({ cls := "SmokeWord", name := "rowsFrom", desc := "(LSmokeWord;III)V" } : Jvm.MethodName)) ∈ lw_all := lw_g (lw_at lw_m5 16 rfl) rfl
theorem q1104 : (Jvm.Cond.static ({ cls := "SmokeWord", name := "rowsFrom", desc := "(LSmokeWord;III)V" } : Jvm.MethodName)) ∈ lw_all := lw_g (lw_at lw_m5 17 rfl) rfl
theorem q1105 : (Jvm.Cond.code ({ cls := "SmokeWord", name := "rowsFrom", desc := "(LSmokeWord;III)V" } : Jvm.MethodName) prog_1_method_37_code (5 : Nat) (Option.none : Option Jvm.ClassFile.FieldType)) ∈ lw_all := lw_g (lw_at lw_m5 18 rfl) rfl
theorem q1106 : (Jvm.Cond.methodLink "SmokeWord" (294 : Nat) ({ cls := "SmokeWord", name := "triesRow", desc := "(I)V" } : Jvm.MethodName)) ∈ lw_all := lw_g (lw_at lw_m5 19 rfl) rfl
theorem q1107 : (Jvm.Cond.privateMethod ({ cls := "SmokeWord", name := "triesRow", desc := "(I)V" } : Jvm.MethodName)) ∈ lw_tbl := lw_at lw_m5 20 rfl
theorem q1108 : (Jvm.Cond.instanceMethod ({ cls := "SmokeWord", name := "triesRow", desc := "(I)V" } : Jvm.MethodName)) ∈ lw_all := lw_g (lw_at lw_m5 21 rfl) rfl
theorem q1109 : (Jvm.Cond.code ({ cls := "SmokeWord", name := "triesRow", desc := "(I)V" } : Jvm.MethodName) prog_1_method_38_code (3 : Nat) (Option.none : Option Jvm.ClassFile.FieldType)) ∈ lw_all := lw_g (lw_at lw_m5 22 rfl) rfl
theorem q1110 : (Jvm.Cond.methodLink "SmokeWord" (297 : Nat) ({ cls := "SmokeWord", name := "has", desc := "(II)Z" } : Jvm.MethodName)) ∈ lw_all := lw_g (lw_at lw_m5 23 rfl) rfl
theorem q1111 : (Jvm.Cond.static ({ cls := "SmokeWord", name := "has", desc := "(II)Z" } : Jvm.MethodName)) ∈ lw_all := lw_g (lw_at lw_m5 24 rfl) rfl
theorem q1112 : (Jvm.Cond.code ({ cls := "SmokeWord", name := "has", desc := "(II)Z" } : Jvm.MethodName) prog_1_method_2_code (2 : Nat) (Option.some Jvm.ClassFile.FieldType.boolean)) ∈ lw_all := lw_g (lw_at lw_m5 25 rfl) rfl
theorem q1114 : (Jvm.Cond.instanceMethod ({ cls := "SmokeWord", name := "heard", desc := "(I)I" } : Jvm.MethodName)) ∈ lw_all := lw_g (lw_at lw_m5 27 rfl) rfl
theorem q1115 : (Jvm.Cond.selects "SmokeWord" ({ cls := "SmokeWord", name := "heard", desc := "(I)I" } : Jvm.MethodName) ({ cls := "SmokeWord", name := "heard", desc := "(I)I" } : Jvm.MethodName)) ∈ lw_all := lw_g (lw_at lw_m5 28 rfl) rfl
theorem q1116 : (Jvm.Cond.code ({ cls := "SmokeWord", name := "heard", desc := "(I)I" } : Jvm.MethodName) prog_1_method_41_code (3 : Nat) (Option.some Jvm.ClassFile.FieldType.int)) ∈ lw_all := lw_g (lw_at lw_m5 29 rfl) rfl
theorem q1117 : (Jvm.Cond.methodLink "SmokeWord" (312 : Nat) ({ cls := "SmokeWord", name := "isComeTo", desc := "(II)Z" } : Jvm.MethodName)) ∈ lw_all := lw_g (lw_at lw_m5 30 rfl) rfl
theorem q1118 : (Jvm.Cond.privateMethod ({ cls := "SmokeWord", name := "isComeTo", desc := "(II)Z" } : Jvm.MethodName)) ∈ lw_tbl := lw_at lw_m5 31 rfl
theorem q1119 : (Jvm.Cond.instanceMethod ({ cls := "SmokeWord", name := "isComeTo", desc := "(II)Z" } : Jvm.MethodName)) ∈ lw_all := lw_g (lw_at lw_m5 32 rfl) rfl
theorem q1120 : (Jvm.Cond.code ({ cls := "SmokeWord", name := "isComeTo", desc := "(II)Z" } : Jvm.MethodName) prog_1_method_40_code (5 : Nat) (Option.some Jvm.ClassFile.FieldType.boolean)) ∈ lw_all := lw_g (lw_at lw_m5 33 rfl) rfl
theorem q1122 : (Jvm.Cond.instanceMethod ({ cls := "SmokeWord", name := "water", desc := "(I)I" } : Jvm.MethodName)) ∈ lw_all := lw_g (lw_at lw_m5 35 rfl) rfl
theorem q1123 : (Jvm.Cond.selects "SmokeWord" ({ cls := "SmokeWord", name := "water", desc := "(I)I" } : Jvm.MethodName) ({ cls := "SmokeWord", name := "water", desc := "(I)I" } : Jvm.MethodName)) ∈ lw_all := lw_g (lw_at lw_m5 36 rfl) rfl
theorem q1124 : (Jvm.Cond.code ({ cls := "SmokeWord", name := "water", desc := "(I)I" } : Jvm.MethodName) prog_1_method_43_code (3 : Nat) (Option.some Jvm.ClassFile.FieldType.int)) ∈ lw_all := lw_g (lw_at lw_m5 37 rfl) rfl
theorem q1125 : (Jvm.Cond.methodLink "SmokeWord" (315 : Nat) ({ cls := "SmokeWord", name := "doesNobodyLoseAll", desc := "()Z" } : Jvm.MethodName)) ∈ lw_all := lw_g (lw_at lw_m5 38 rfl) rfl
theorem q1126 : (Jvm.Cond.privateMethod ({ cls := "SmokeWord", name := "doesNobodyLoseAll", desc := "()Z" } : Jvm.MethodName)) ∈ lw_tbl := lw_at lw_m5 39 rfl
theorem q1127 : (Jvm.Cond.instanceMethod ({ cls := "SmokeWord", name := "doesNobodyLoseAll", desc := "()Z" } : Jvm.MethodName)) ∈ lw_all := lw_g (lw_at lw_m5 40 rfl) rfl
theorem q1128 : (Jvm.Cond.code ({ cls := "SmokeWord", name := "doesNobodyLoseAll", desc := "()Z" } : Jvm.MethodName) prog_1_method_42_code (2 : Nat) (Option.some Jvm.ClassFile.FieldType.boolean)) ∈ lw_all := lw_g (lw_at lw_m5 41 rfl) rfl
theorem q1130 : (Jvm.Cond.instanceMethod ({ cls := "SmokeWord", name := "clear", desc := "(II)I" } : Jvm.MethodName)) ∈ lw_all := lw_g (lw_at lw_m5 43 rfl) rfl
theorem q1131 : (Jvm.Cond.selects "SmokeWord" ({ cls := "SmokeWord", name := "clear", desc := "(II)I" } : Jvm.MethodName) ({ cls := "SmokeWord", name := "clear", desc := "(II)I" } : Jvm.MethodName)) ∈ lw_all := lw_g (lw_at lw_m5 44 rfl) rfl
theorem q1132 : (Jvm.Cond.code ({ cls := "SmokeWord", name := "clear", desc := "(II)I" } : Jvm.MethodName) prog_1_method_44_code (7 : Nat) (Option.some Jvm.ClassFile.FieldType.int)) ∈ lw_all := lw_g (lw_at lw_m5 45 rfl) rfl
theorem q1134 : (Jvm.Cond.instanceMethod ({ cls := "SmokeWord", name := "silent", desc := "(II)I" } : Jvm.MethodName)) ∈ lw_all := lw_g (lw_at lw_m5 47 rfl) rfl
theorem q1135 : (Jvm.Cond.selects "SmokeWord" ({ cls := "SmokeWord", name := "silent", desc := "(II)I" } : Jvm.MethodName) ({ cls := "SmokeWord", name := "silent", desc := "(II)I" } : Jvm.MethodName)) ∈ lw_all := lw_g (lw_at lw_m5 48 rfl) rfl
theorem q1136 : (Jvm.Cond.code ({ cls := "SmokeWord", name := "silent", desc := "(II)I" } : Jvm.MethodName) prog_1_method_45_code (7 : Nat) (Option.some Jvm.ClassFile.FieldType.int)) ∈ lw_all := lw_g (lw_at lw_m5 49 rfl) rfl
theorem q1138 : (Jvm.Cond.instanceMethod ({ cls := "SmokeWord", name := "pence", desc := "(II)I" } : Jvm.MethodName)) ∈ lw_all := lw_g (lw_at lw_m5 51 rfl) rfl
theorem q1139 : (Jvm.Cond.selects "SmokeWord" ({ cls := "SmokeWord", name := "pence", desc := "(II)I" } : Jvm.MethodName) ({ cls := "SmokeWord", name := "pence", desc := "(II)I" } : Jvm.MethodName)) ∈ lw_all := lw_g (lw_at lw_m5 52 rfl) rfl
theorem q1140 : (Jvm.Cond.code ({ cls := "SmokeWord", name := "pence", desc := "(II)I" } : Jvm.MethodName) prog_1_method_46_code (9 : Nat) (Option.some Jvm.ClassFile.FieldType.int)) ∈ lw_all := lw_g (lw_at lw_m5 53 rfl) rfl
theorem q1141 : (Jvm.Cond.constantLong "SmokeWord" (318 : Nat) (9999 : Int64)) ∈ lw_all := lw_g (lw_at lw_m5 54 rfl) rfl
theorem q1143 : (Jvm.Cond.instanceMethod ({ cls := "SmokeWord", name := "rests", desc := "(IIII)I" } : Jvm.MethodName)) ∈ lw_all := lw_g (lw_at lw_m5 56 rfl) rfl
theorem q1144 : (Jvm.Cond.selects "SmokeWord" ({ cls := "SmokeWord", name := "rests", desc := "(IIII)I" } : Jvm.MethodName) ({ cls := "SmokeWord", name := "rests", desc := "(IIII)I" } : Jvm.MethodName)) ∈ lw_all := lw_g (lw_at lw_m5 57 rfl) rfl
theorem q1145 : (Jvm.Cond.code ({ cls := "SmokeWord", name := "rests", desc := "(IIII)I" } : Jvm.MethodName) prog_1_method_49_code (8 : Nat) (Option.some Jvm.ClassFile.FieldType.int)) ∈ lw_all := lw_g (lw_at lw_m5 58 rfl) rfl
theorem q1146 : (Jvm.Cond.methodLink "SmokeWord" (323 : Nat) ({ cls := "SmokeWord", name := "laysWords", desc := "(III)V" } : Jvm.MethodName)) ∈ lw_all := lw_g (lw_at lw_m5 59 rfl) rfl
theorem q1147 : (Jvm.Cond.privateMethod ({ cls := "SmokeWord", name := "laysWords", desc := "(III)V" } : Jvm.MethodName)) ∈ lw_tbl := lw_at lw_m5 60 rfl
theorem q1148 : (Jvm.Cond.instanceMethod ({ cls := "SmokeWord", name := "laysWords", desc := "(III)V" } : Jvm.MethodName)) ∈ lw_all := lw_g (lw_at lw_m5 61 rfl) rfl
theorem q1149 : (Jvm.Cond.code ({ cls := "SmokeWord", name := "laysWords", desc := "(III)V" } : Jvm.MethodName) prog_1_method_47_code (5 : Nat) (Option.none : Option Jvm.ClassFile.FieldType)) ∈ lw_all := lw_g (lw_at lw_m5 62 rfl) rfl
theorem q1150 : (Jvm.Cond.methodLink "SmokeWord" (327 : Nat) ({ cls := "SmokeWord", name := "isRest", desc := "(I)Z" } : Jvm.MethodName)) ∈ lw_all := lw_g (lw_at lw_m5 63 rfl) rfl
theorem q1151 : (Jvm.Cond.privateMethod ({ cls := "SmokeWord", name := "isRest", desc := "(I)Z" } : Jvm.MethodName)) ∈ lw_tbl := lw_at lw_m5 64 rfl
theorem q1152 : (Jvm.Cond.instanceMethod ({ cls := "SmokeWord", name := "isRest", desc := "(I)Z" } : Jvm.MethodName)) ∈ lw_all := lw_g (lw_at lw_m5 65 rfl) rfl
theorem q1153 : (Jvm.Cond.code ({ cls := "SmokeWord", name := "isRest", desc := "(I)Z" } : Jvm.MethodName) prog_1_method_48_code (3 : Nat) (Option.some Jvm.ClassFile.FieldType.boolean)) ∈ lw_all := lw_g (lw_at lw_m5 66 rfl) rfl
theorem q1155 : (Jvm.Cond.instanceMethod ({ cls := "SmokeWord", name := "first", desc := "(I)I" } : Jvm.MethodName)) ∈ lw_all := lw_g (lw_at lw_m5 68 rfl) rfl
theorem q1156 : (Jvm.Cond.selects "SmokeWord" ({ cls := "SmokeWord", name := "first", desc := "(I)I" } : Jvm.MethodName) ({ cls := "SmokeWord", name := "first", desc := "(I)I" } : Jvm.MethodName)) ∈ lw_all := lw_g (lw_at lw_m5 69 rfl) rfl
theorem q1157 : (Jvm.Cond.code ({ cls := "SmokeWord", name := "first", desc := "(I)I" } : Jvm.MethodName) prog_1_method_50_code (3 : Nat) (Option.some Jvm.ClassFile.FieldType.int)) ∈ lw_all := lw_g (lw_at lw_m5 70 rfl) rfl
theorem q1159 : (Jvm.Cond.instanceMethod ({ cls := "SmokeWord", name := "note", desc := "(II)I" } : Jvm.MethodName)) ∈ lw_all := lw_g (lw_at lw_m5 72 rfl) rfl
theorem q1160 : (Jvm.Cond.selects "SmokeWord" ({ cls := "SmokeWord", name := "note", desc := "(II)I" } : Jvm.MethodName) ({ cls := "SmokeWord", name := "note", desc := "(II)I" } : Jvm.MethodName)) ∈ lw_all := lw_g (lw_at lw_m5 73 rfl) rfl
theorem q1161 : (Jvm.Cond.code ({ cls := "SmokeWord", name := "note", desc := "(II)I" } : Jvm.MethodName) prog_1_method_51_code (3 : Nat) (Option.some Jvm.ClassFile.FieldType.int)) ∈ lw_all := lw_g (lw_at lw_m5 74 rfl) rfl
theorem q1163 : (Jvm.Cond.instanceMethod ({ cls := "SmokeWord", name := "ruled", desc := "(I)I" } : Jvm.MethodName)) ∈ lw_all := lw_g (lw_at lw_m5 76 rfl) rfl
theorem q1164 : (Jvm.Cond.selects "SmokeWord" ({ cls := "SmokeWord", name := "ruled", desc := "(I)I" } : Jvm.MethodName) ({ cls := "SmokeWord", name := "ruled", desc := "(I)I" } : Jvm.MethodName)) ∈ lw_all := lw_g (lw_at lw_m5 77 rfl) rfl
theorem q1165 : (Jvm.Cond.code ({ cls := "SmokeWord", name := "ruled", desc := "(I)I" } : Jvm.MethodName) prog_1_method_53_code (5 : Nat) (Option.some Jvm.ClassFile.FieldType.int)) ∈ lw_all := lw_g (lw_at lw_m5 78 rfl) rfl
theorem q1166 : (Jvm.Cond.methodLink "SmokeWord" (330 : Nat) ({ cls := "SmokeWord", name := "couldRule", desc := "(I)Z" } : Jvm.MethodName)) ∈ lw_all := lw_g (lw_at lw_m5 79 rfl) rfl
theorem q1167 : (Jvm.Cond.privateMethod ({ cls := "SmokeWord", name := "couldRule", desc := "(I)Z" } : Jvm.MethodName)) ∈ lw_tbl := lw_at lw_m5 80 rfl
theorem q1168 : (Jvm.Cond.instanceMethod ({ cls := "SmokeWord", name := "couldRule", desc := "(I)Z" } : Jvm.MethodName)) ∈ lw_all := lw_g (lw_at lw_m5 81 rfl) rfl
theorem q1169 : (Jvm.Cond.code ({ cls := "SmokeWord", name := "couldRule", desc := "(I)Z" } : Jvm.MethodName) prog_1_method_52_code (4 : Nat) (Option.some Jvm.ClassFile.FieldType.boolean)) ∈ lw_all := lw_g (lw_at lw_m5 82 rfl) rfl
theorem q1171 : (Jvm.Cond.instanceMethod ({ cls := "SmokeWord", name := "look", desc := "(I)I" } : Jvm.MethodName)) ∈ lw_all := lw_g (lw_at lw_m5 84 rfl) rfl
theorem q1172 : (Jvm.Cond.selects "SmokeWord" ({ cls := "SmokeWord", name := "look", desc := "(I)I" } : Jvm.MethodName) ({ cls := "SmokeWord", name := "look", desc := "(I)I" } : Jvm.MethodName)) ∈ lw_all := lw_g (lw_at lw_m5 85 rfl) rfl
theorem q1173 : (Jvm.Cond.code ({ cls := "SmokeWord", name := "look", desc := "(I)I" } : Jvm.MethodName) prog_1_method_55_code (5 : Nat) (Option.some Jvm.ClassFile.FieldType.int)) ∈ lw_all := lw_g (lw_at lw_m5 86 rfl) rfl
theorem q1174 : (Jvm.Cond.methodLink "SmokeWord" (333 : Nat) ({ cls := "SmokeWord", name := "mostAlike", desc := "(II)I" } : Jvm.MethodName)) ∈ lw_all := lw_g (lw_at lw_m5 87 rfl) rfl
theorem q1175 : (Jvm.Cond.privateMethod ({ cls := "SmokeWord", name := "mostAlike", desc := "(II)I" } : Jvm.MethodName)) ∈ lw_tbl := lw_at lw_m5 88 rfl
theorem q1176 : (Jvm.Cond.instanceMethod ({ cls := "SmokeWord", name := "mostAlike", desc := "(II)I" } : Jvm.MethodName)) ∈ lw_all := lw_g (lw_at lw_m5 89 rfl) rfl
theorem q1177 : (Jvm.Cond.code ({ cls := "SmokeWord", name := "mostAlike", desc := "(II)I" } : Jvm.MethodName) prog_1_method_54_code (7 : Nat) (Option.some Jvm.ClassFile.FieldType.int)) ∈ lw_all := lw_g (lw_at lw_m5 90 rfl) rfl
theorem q1179 : (Jvm.Cond.instanceMethod ({ cls := "SmokeWord", name := "seed", desc := "(I)I" } : Jvm.MethodName)) ∈ lw_all := lw_g (lw_at lw_m5 92 rfl) rfl
theorem q1180 : (Jvm.Cond.selects "SmokeWord" ({ cls := "SmokeWord", name := "seed", desc := "(I)I" } : Jvm.MethodName) ({ cls := "SmokeWord", name := "seed", desc := "(I)I" } : Jvm.MethodName)) ∈ lw_all := lw_g (lw_at lw_m5 93 rfl) rfl
theorem q1181 : (Jvm.Cond.code ({ cls := "SmokeWord", name := "seed", desc := "(I)I" } : Jvm.MethodName) prog_1_method_56_code (3 : Nat) (Option.some Jvm.ClassFile.FieldType.int)) ∈ lw_all := lw_g (lw_at lw_m5 94 rfl) rfl
theorem q1183 : (Jvm.Cond.instanceMethod ({ cls := "SmokeWord", name := "sparks", desc := "(IIII)I" } : Jvm.MethodName)) ∈ lw_all := lw_g (lw_at lw_m5 96 rfl) rfl
theorem q1184 : (Jvm.Cond.selects "SmokeWord" ({ cls := "SmokeWord", name := "sparks", desc := "(IIII)I" } : Jvm.MethodName) ({ cls := "SmokeWord", name := "sparks", desc := "(IIII)I" } : Jvm.MethodName)) ∈ lw_all := lw_g (lw_at lw_m5 97 rfl) rfl
theorem q1185 : (Jvm.Cond.code ({ cls := "SmokeWord", name := "sparks", desc := "(IIII)I" } : Jvm.MethodName) prog_1_method_59_code (10 : Nat) (Option.some Jvm.ClassFile.FieldType.int)) ∈ lw_all := lw_g (lw_at lw_m5 98 rfl) rfl
theorem q1186 : (Jvm.Cond.constantLong "SmokeWord" (349 : Nat) (10 : Int64)) ∈ lw_all := lw_g (lw_at lw_m5 99 rfl) rfl
theorem q1187 : (Jvm.Cond.methodLink "SmokeWord" (351 : Nat) ({ cls := "SmokeWord", name := "drawsSpark", desc := "(I)V" } : Jvm.MethodName)) ∈ lw_all := lw_g (lw_at lw_m5 100 rfl) rfl
theorem q1188 : (Jvm.Cond.privateMethod ({ cls := "SmokeWord", name := "drawsSpark", desc := "(I)V" } : Jvm.MethodName)) ∈ lw_tbl := lw_at lw_m5 101 rfl
theorem q1189 : (Jvm.Cond.instanceMethod ({ cls := "SmokeWord", name := "drawsSpark", desc := "(I)V" } : Jvm.MethodName)) ∈ lw_all := lw_g (lw_at lw_m5 102 rfl) rfl
theorem q1190 : (Jvm.Cond.code ({ cls := "SmokeWord", name := "drawsSpark", desc := "(I)V" } : Jvm.MethodName) prog_1_method_58_code (3 : Nat) (Option.none : Option Jvm.ClassFile.FieldType)) ∈ lw_all := lw_g (lw_at lw_m5 103 rfl) rfl
theorem q1191 : (Jvm.Cond.methodLink "SmokeWord" (346 : Nat) ({ cls := "SmokeWord", name := "draws", desc := "(I)I" } : Jvm.MethodName)) ∈ lw_all := lw_g (lw_at lw_m5 104 rfl) rfl
theorem q1192 : (Jvm.Cond.privateMethod ({ cls := "SmokeWord", name := "draws", desc := "(I)I" } : Jvm.MethodName)) ∈ lw_tbl := lw_at lw_m5 105 rfl
theorem q1193 : (Jvm.Cond.instanceMethod ({ cls := "SmokeWord", name := "draws", desc := "(I)I" } : Jvm.MethodName)) ∈ lw_all := lw_g (lw_at lw_m5 106 rfl) rfl
theorem q1194 : (Jvm.Cond.code ({ cls := "SmokeWord", name := "draws", desc := "(I)I" } : Jvm.MethodName) prog_1_method_57_code (2 : Nat) (Option.some Jvm.ClassFile.FieldType.int)) ∈ lw_all := lw_g (lw_at lw_m5 107 rfl) rfl
theorem q1195 : (Jvm.Cond.constantLong "SmokeWord" (339 : Nat) (1103515245 : Int64)) ∈ lw_all := lw_g (lw_at lw_m5 108 rfl) rfl
theorem q1196 : (Jvm.Cond.constantLong "SmokeWord" (341 : Nat) (12345 : Int64)) ∈ lw_all := lw_g (lw_at lw_m5 109 rfl) rfl
theorem q1197 : (Jvm.Cond.constantLong "SmokeWord" (343 : Nat) (2147483648 : Int64)) ∈ lw_all := lw_g (lw_at lw_m5 110 rfl) rfl
theorem q1198 : (Jvm.Cond.constant "SmokeWord" (345 : Nat) (65536 : Int32)) ∈ lw_all := lw_g (lw_at lw_m5 111 rfl) rfl
theorem q1200 : (Jvm.Cond.instanceMethod ({ cls := "SmokeWord", name := "count", desc := "(I)I" } : Jvm.MethodName)) ∈ lw_all := lw_g (lw_at lw_m5 113 rfl) rfl
theorem q1201 : (Jvm.Cond.selects "SmokeWord" ({ cls := "SmokeWord", name := "count", desc := "(I)I" } : Jvm.MethodName) ({ cls := "SmokeWord", name := "count", desc := "(I)I" } : Jvm.MethodName)) ∈ lw_all := lw_g (lw_at lw_m5 114 rfl) rfl
theorem q1202 : (Jvm.Cond.code ({ cls := "SmokeWord", name := "count", desc := "(I)I" } : Jvm.MethodName) prog_1_method_60_code (2 : Nat) (Option.some Jvm.ClassFile.FieldType.int)) ∈ lw_all := lw_g (lw_at lw_m5 115 rfl) rfl
theorem q1204 : (Jvm.Cond.instanceMethod ({ cls := "SmokeWord", name := "image", desc := "(I)I" } : Jvm.MethodName)) ∈ lw_all := lw_g (lw_at lw_m5 117 rfl) rfl
theorem q1205 : (Jvm.Cond.selects "SmokeWord" ({ cls := "SmokeWord", name := "image", desc := "(I)I" } : Jvm.MethodName) ({ cls := "SmokeWord", name := "image", desc := "(I)I" } : Jvm.MethodName)) ∈ lw_all := lw_g (lw_at lw_m5 118 rfl) rfl
theorem q1206 : (Jvm.Cond.code ({ cls := "SmokeWord", name := "image", desc := "(I)I" } : Jvm.MethodName) prog_1_method_61_code (2 : Nat) (Option.some Jvm.ClassFile.FieldType.int)) ∈ lw_all := lw_g (lw_at lw_m5 119 rfl) rfl
theorem q1207 : (Jvm.Cond.constantLong "SmokeWord" (358 : Nat) (3 : Int64)) ∈ lw_all := lw_g (lw_at lw_m5 120 rfl) rfl
theorem q1209 : (Jvm.Cond.methodLinkNest "SmokeWord" (360 : Nat) ({ cls := "SmokeWord$Image", name := "<init>", desc := "(LSmokeWord;)V" } : Jvm.MethodName) "SmokeWord") ∈ lw_tbl := lw_at lw_m5 122 rfl
theorem q1240 : (Jvm.Cond.methodLink "SmokeWord" (363 : Nat) ({ cls := "SmokeWord$Image", name := "keep", desc := "()V" } : Jvm.MethodName)) ∈ lw_all := lw_g (lw_at lw_m5 153 rfl) rfl
theorem q1246 : (Jvm.Cond.instanceMethod ({ cls := "SmokeWord", name := "back", desc := "(I)I" } : Jvm.MethodName)) ∈ lw_all := lw_g (lw_at lw_m5 159 rfl) rfl
theorem q1247 : (Jvm.Cond.selects "SmokeWord" ({ cls := "SmokeWord", name := "back", desc := "(I)I" } : Jvm.MethodName) ({ cls := "SmokeWord", name := "back", desc := "(I)I" } : Jvm.MethodName)) ∈ lw_all := lw_g (lw_at lw_m5 160 rfl) rfl
theorem q1248 : (Jvm.Cond.code ({ cls := "SmokeWord", name := "back", desc := "(I)I" } : Jvm.MethodName) prog_1_method_62_code (2 : Nat) (Option.some Jvm.ClassFile.FieldType.int)) ∈ lw_all := lw_g (lw_at lw_m5 161 rfl) rfl
theorem q1249 : (Jvm.Cond.methodLink "SmokeWord" (366 : Nat) ({ cls := "SmokeWord$Image", name := "back", desc := "()V" } : Jvm.MethodName)) ∈ lw_all := lw_g (lw_at lw_m5 162 rfl) rfl
theorem q1890 : (Jvm.Cond.castable "SmokeWord" "java/lang/Object") ∈ lw_tbl := lw_at lw_m8 83 rfl
theorem q1919 : (Jvm.Cond.stringRef "SmokeWord" (371 : Nat) "house") ∈ lw_tbl := lw_at lw_m8 112 rfl
theorem q1920 : (Jvm.Cond.stringRef "SmokeWord" (373 : Nat) "says") ∈ lw_tbl := lw_at lw_m8 113 rfl
theorem q1921 : (Jvm.Cond.stringRef "SmokeWord" (374 : Nat) "worth") ∈ lw_tbl := lw_at lw_m8 114 rfl
theorem q1922 : (Jvm.Cond.stringRef "SmokeWord" (375 : Nat) "smoke") ∈ lw_tbl := lw_at lw_m8 115 rfl
theorem q1923 : (Jvm.Cond.stringRef "SmokeWord" (377 : Nat) "far") ∈ lw_tbl := lw_at lw_m8 116 rfl
theorem q1924 : (Jvm.Cond.stringRef "SmokeWord" (378 : Nat) "near") ∈ lw_tbl := lw_at lw_m8 117 rfl
theorem q1925 : (Jvm.Cond.stringRef "SmokeWord" (380 : Nat) "fires") ∈ lw_tbl := lw_at lw_m8 118 rfl
theorem q1926 : (Jvm.Cond.stringRef "SmokeWord" (381 : Nat) "lost") ∈ lw_tbl := lw_at lw_m8 119 rfl
theorem q1927 : (Jvm.Cond.stringRef "SmokeWord" (382 : Nat) "been") ∈ lw_tbl := lw_at lw_m8 120 rfl
theorem q1928 : (Jvm.Cond.stringRef "SmokeWord" (383 : Nat) "water") ∈ lw_tbl := lw_at lw_m8 121 rfl
theorem q1929 : (Jvm.Cond.stringRef "SmokeWord" (384 : Nat) "hour") ∈ lw_tbl := lw_at lw_m8 122 rfl
theorem in_X0 : ∀ w ∈ wsX00, w ∈ lw_all := lw_in wsX00 [386, 388, 390, 392, 394, 396, 398, 400, 402, 404, 406, 408, 410, 412, 414, 416, 418, 420, 422, 424, 426, 428, 430, 432, 434, 436, 438, 440] (by decide +kernel) (by decide +kernel)
