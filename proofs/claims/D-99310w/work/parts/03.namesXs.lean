/-! SmokeWord$Valley -/
set_option maxRecDepth 100000
def RX1 : String := "SmokeWord$Valley"
def TX1 : u_T := fun k => match k with
  | 0 => ("SmokeWord$Valley", "houses", "Ljava/util/ArrayList;", true)
  | 1 => ("SmokeWord$Valley", "far", "[I", true)
  | 2 => ("SmokeWord$Valley", "beside", "[I", true)
  | 3 => ("SmokeWord$Valley", "water", "I", false)
  | _ => ("SmokeWord$Valley", "leap", "I", false)
def tyX1 : Nat → FieldType := fun k => match k with
  | 0 => .object "java/util/ArrayList"
  | 1 => .array .int
  | 2 => .array .int
  | 3 => .int
  | _ => .int
abbrev wsX10 : List Cond := u_ws RX1 TX1 5
theorem nmX1 : ∀ a, a < 5 → ∀ b, b < 5 → a ≠ b → (TX1 a).2.1 ≠ (TX1 b).2.1 := by decide +kernel
theorem tyX1_ok : ∀ k, k < 5 → parseFieldDescriptor (TX1 k).2.2.1 = some (tyX1 k) := by decide +kernel
abbrev cX1_init : ByteArray := prog_15_method_1_code
def yX1_init : MethodName := ⟨RX1, "<init>", "()V"⟩
def dkwX1_init_3 : List UInt8 := [132, 2, 1, 167, 255, 224, 132, 1, 1, 167, 255, 210, 177]
abbrev dktX1_init_3 : List UInt8 := dkwX1_init_3 ++ []
def dkwX1_init_2 : List UInt8 := [42, 180, 0, 20, 16, 7, 27, 104, 28, 96, 27, 28, 160, 0, 7, 3, 167, 0, 6, 17, 39, 16, 79]
abbrev dktX1_init_2 : List UInt8 := dkwX1_init_2 ++ dktX1_init_3
def dkwX1_init_1 : List UInt8 := [42, 16, 6, 188, 10, 181, 0, 24, 3, 60, 27, 16, 7, 162, 0, 46, 3, 61, 28, 16, 7, 162, 0, 32]
abbrev dktX1_init_1 : List UInt8 := dkwX1_init_1 ++ dktX1_init_2
def dkwX1_init_0 : List UInt8 := [42, 183, 0, 3, 42, 187, 0, 9, 89, 5, 183, 0, 11, 181, 0, 14, 42, 16, 49, 188, 10, 181, 0, 20]
abbrev dktX1_init_0 : List UInt8 := dkwX1_init_0 ++ dktX1_init_1
theorem dksX1_init_0 : cX1_init.data.toList.drop 0 = dktX1_init_0 := by decide +kernel
theorem dksX1_init_1 : cX1_init.data.toList.drop 24 = dktX1_init_1 := dk_seg dksX1_init_0 24 rfl rfl
theorem dksX1_init_2 : cX1_init.data.toList.drop 48 = dktX1_init_2 := dk_seg dksX1_init_1 24 rfl rfl
theorem dksX1_init_3 : cX1_init.data.toList.drop 71 = dktX1_init_3 := dk_seg dksX1_init_2 23 rfl rfl
theorem dX1_init_0 : decode cX1_init 0 = .ok (.aload_n 0, 1) := dk_42 (dk_at dksX1_init_0 0 rfl rfl)
theorem dX1_init_1 : decode cX1_init 1 = .ok (.invokespecial 3, 3) := dk_183 0 3 (dk_at dksX1_init_0 1 rfl rfl)
theorem dX1_init_4 : decode cX1_init 4 = .ok (.aload_n 0, 1) := dk_42 (dk_at dksX1_init_0 4 rfl rfl)
theorem dX1_init_5 : decode cX1_init 5 = .ok (.new 9, 3) := dk_187 0 9 (dk_at dksX1_init_0 5 rfl rfl)
theorem dX1_init_8 : decode cX1_init 8 = .ok (.dup, 1) := dk_89 (dk_at dksX1_init_0 8 rfl rfl)
theorem dX1_init_9 : decode cX1_init 9 = .ok (.iconst 2, 1) := dk_5 (dk_at dksX1_init_0 9 rfl rfl)
theorem dX1_init_10 : decode cX1_init 10 = .ok (.invokespecial 11, 3) := dk_183 0 11 (dk_at dksX1_init_0 10 rfl rfl)
theorem dX1_init_13 : decode cX1_init 13 = .ok (.putfield 14, 3) := dk_181 0 14 (dk_at dksX1_init_0 13 rfl rfl)
theorem dX1_init_16 : decode cX1_init 16 = .ok (.aload_n 0, 1) := dk_42 (dk_at dksX1_init_0 16 rfl rfl)
theorem dX1_init_17 : decode cX1_init 17 = .ok (.bipush 49, 2) := dk_16 49 (dk_at dksX1_init_0 17 rfl rfl)
theorem dX1_init_19 : decode cX1_init 19 = .ok (.newarray .int, 2) := dk_188_10 (dk_at dksX1_init_0 19 rfl rfl)
theorem dX1_init_21 : decode cX1_init 21 = .ok (.putfield 20, 3) := dk_181 0 20 (dk_at dksX1_init_0 21 rfl rfl)
theorem dX1_init_24 : decode cX1_init 24 = .ok (.aload_n 0, 1) := dk_42 (dk_at dksX1_init_1 0 rfl rfl)
theorem dX1_init_25 : decode cX1_init 25 = .ok (.bipush 6, 2) := dk_16 6 (dk_at dksX1_init_1 1 rfl rfl)
theorem dX1_init_27 : decode cX1_init 27 = .ok (.newarray .int, 2) := dk_188_10 (dk_at dksX1_init_1 3 rfl rfl)
theorem dX1_init_29 : decode cX1_init 29 = .ok (.putfield 24, 3) := dk_181 0 24 (dk_at dksX1_init_1 5 rfl rfl)
theorem dX1_init_32 : decode cX1_init 32 = .ok (.iconst 0, 1) := dk_3 (dk_at dksX1_init_1 8 rfl rfl)
theorem dX1_init_33 : decode cX1_init 33 = .ok (.istore_n 1, 1) := dk_60 (dk_at dksX1_init_1 9 rfl rfl)
theorem dX1_init_34 : decode cX1_init 34 = .ok (.iload_n 1, 1) := dk_27 (dk_at dksX1_init_1 10 rfl rfl)
theorem dX1_init_35 : decode cX1_init 35 = .ok (.bipush 7, 2) := dk_16 7 (dk_at dksX1_init_1 11 rfl rfl)
theorem dX1_init_37 : decode cX1_init 37 = .ok (.if_icmp .ge 46, 3) := dk_162 0 46 (dk_at dksX1_init_1 13 rfl rfl)
theorem dX1_init_40 : decode cX1_init 40 = .ok (.iconst 0, 1) := dk_3 (dk_at dksX1_init_1 16 rfl rfl)
theorem dX1_init_41 : decode cX1_init 41 = .ok (.istore_n 2, 1) := dk_61 (dk_at dksX1_init_1 17 rfl rfl)
theorem dX1_init_42 : decode cX1_init 42 = .ok (.iload_n 2, 1) := dk_28 (dk_at dksX1_init_1 18 rfl rfl)
theorem dX1_init_43 : decode cX1_init 43 = .ok (.bipush 7, 2) := dk_16 7 (dk_at dksX1_init_1 19 rfl rfl)
theorem dX1_init_45 : decode cX1_init 45 = .ok (.if_icmp .ge 32, 3) := dk_162 0 32 (dk_at dksX1_init_1 21 rfl rfl)
theorem dX1_init_48 : decode cX1_init 48 = .ok (.aload_n 0, 1) := dk_42 (dk_at dksX1_init_2 0 rfl rfl)
theorem dX1_init_49 : decode cX1_init 49 = .ok (.getfield 20, 3) := dk_180 0 20 (dk_at dksX1_init_2 1 rfl rfl)
theorem dX1_init_52 : decode cX1_init 52 = .ok (.bipush 7, 2) := dk_16 7 (dk_at dksX1_init_2 4 rfl rfl)
theorem dX1_init_54 : decode cX1_init 54 = .ok (.iload_n 1, 1) := dk_27 (dk_at dksX1_init_2 6 rfl rfl)
theorem dX1_init_55 : decode cX1_init 55 = .ok (.imul, 1) := dk_104 (dk_at dksX1_init_2 7 rfl rfl)
theorem dX1_init_56 : decode cX1_init 56 = .ok (.iload_n 2, 1) := dk_28 (dk_at dksX1_init_2 8 rfl rfl)
theorem dX1_init_57 : decode cX1_init 57 = .ok (.iadd, 1) := dk_96 (dk_at dksX1_init_2 9 rfl rfl)
theorem dX1_init_58 : decode cX1_init 58 = .ok (.iload_n 1, 1) := dk_27 (dk_at dksX1_init_2 10 rfl rfl)
theorem dX1_init_59 : decode cX1_init 59 = .ok (.iload_n 2, 1) := dk_28 (dk_at dksX1_init_2 11 rfl rfl)
theorem dX1_init_60 : decode cX1_init 60 = .ok (.if_icmp .ne 7, 3) := dk_160 0 7 (dk_at dksX1_init_2 12 rfl rfl)
theorem dX1_init_63 : decode cX1_init 63 = .ok (.iconst 0, 1) := dk_3 (dk_at dksX1_init_2 15 rfl rfl)
theorem dX1_init_64 : decode cX1_init 64 = .ok (.goto 6, 3) := dk_167 0 6 (dk_at dksX1_init_2 16 rfl rfl)
theorem dX1_init_67 : decode cX1_init 67 = .ok (.sipush 10000, 3) := dk_17 39 16 (dk_at dksX1_init_2 19 rfl rfl)
theorem dX1_init_70 : decode cX1_init 70 = .ok (.iastore, 1) := dk_79 (dk_at dksX1_init_2 22 rfl rfl)
theorem dX1_init_71 : decode cX1_init 71 = .ok (.iinc 2 1, 3) := dk_132 2 1 (dk_at dksX1_init_3 0 rfl rfl)
theorem dX1_init_74 : decode cX1_init 74 = .ok (.goto (-32), 3) := dk_167 255 224 (dk_at dksX1_init_3 3 rfl rfl)
theorem dX1_init_77 : decode cX1_init 77 = .ok (.iinc 1 1, 3) := dk_132 1 1 (dk_at dksX1_init_3 6 rfl rfl)
theorem dX1_init_80 : decode cX1_init 80 = .ok (.goto (-46), 3) := dk_167 255 210 (dk_at dksX1_init_3 9 rfl rfl)
theorem dX1_init_83 : decode cX1_init 83 = .ok (.return_, 1) := dk_177 (dk_at dksX1_init_3 12 rfl rfl)
abbrev cX1_houses : ByteArray := prog_15_method_2_code
def yX1_houses : MethodName := ⟨RX1, "houses", "()I"⟩
def dkwX1_houses_0 : List UInt8 := [42, 180, 0, 14, 182, 0, 27, 172]
abbrev dktX1_houses_0 : List UInt8 := dkwX1_houses_0 ++ []
theorem dksX1_houses_0 : cX1_houses.data.toList.drop 0 = dktX1_houses_0 := by decide +kernel
theorem dX1_houses_0 : decode cX1_houses 0 = .ok (.aload_n 0, 1) := dk_42 (dk_at dksX1_houses_0 0 rfl rfl)
theorem dX1_houses_1 : decode cX1_houses 1 = .ok (.getfield 14, 3) := dk_180 0 14 (dk_at dksX1_houses_0 1 rfl rfl)
theorem dX1_houses_4 : decode cX1_houses 4 = .ok (.invokevirtual 27, 3) := dk_182 0 27 (dk_at dksX1_houses_0 4 rfl rfl)
theorem dX1_houses_7 : decode cX1_houses 7 = .ok (.ireturn, 1) := dk_172 (dk_at dksX1_houses_0 7 rfl rfl)
abbrev cX1_ends : ByteArray := prog_15_method_4_code
def yX1_ends : MethodName := ⟨RX1, "ends", "()V"⟩
def dkwX1_ends_3 : List UInt8 := [167, 255, 186, 177]
abbrev dktX1_ends_3 : List UInt8 := dkwX1_ends_3 ++ []
def dkwX1_ends_2 : List UInt8 := [29, 182, 0, 31, 96, 184, 0, 34, 79, 132, 3, 1, 167, 255, 214, 132, 2, 1, 167, 255, 200, 132, 1, 1]
abbrev dktX1_ends_2 : List UInt8 := dkwX1_ends_2 ++ dktX1_ends_3
def dkwX1_ends_1 : List UInt8 := [42, 180, 0, 20, 16, 7, 28, 104, 29, 96, 42, 28, 29, 182, 0, 31, 42, 28, 27, 182, 0, 31, 42, 27]
abbrev dktX1_ends_1 : List UInt8 := dkwX1_ends_1 ++ dktX1_ends_2
def dkwX1_ends_0 : List UInt8 := [3, 60, 27, 16, 7, 162, 0, 70, 3, 61, 28, 16, 7, 162, 0, 56, 3, 62, 29, 16, 7, 162, 0, 42]
abbrev dktX1_ends_0 : List UInt8 := dkwX1_ends_0 ++ dktX1_ends_1
theorem dksX1_ends_0 : cX1_ends.data.toList.drop 0 = dktX1_ends_0 := by decide +kernel
theorem dksX1_ends_1 : cX1_ends.data.toList.drop 24 = dktX1_ends_1 := dk_seg dksX1_ends_0 24 rfl rfl
theorem dksX1_ends_2 : cX1_ends.data.toList.drop 48 = dktX1_ends_2 := dk_seg dksX1_ends_1 24 rfl rfl
theorem dksX1_ends_3 : cX1_ends.data.toList.drop 72 = dktX1_ends_3 := dk_seg dksX1_ends_2 24 rfl rfl
theorem dX1_ends_0 : decode cX1_ends 0 = .ok (.iconst 0, 1) := dk_3 (dk_at dksX1_ends_0 0 rfl rfl)
theorem dX1_ends_1 : decode cX1_ends 1 = .ok (.istore_n 1, 1) := dk_60 (dk_at dksX1_ends_0 1 rfl rfl)
theorem dX1_ends_2 : decode cX1_ends 2 = .ok (.iload_n 1, 1) := dk_27 (dk_at dksX1_ends_0 2 rfl rfl)
theorem dX1_ends_3 : decode cX1_ends 3 = .ok (.bipush 7, 2) := dk_16 7 (dk_at dksX1_ends_0 3 rfl rfl)
theorem dX1_ends_5 : decode cX1_ends 5 = .ok (.if_icmp .ge 70, 3) := dk_162 0 70 (dk_at dksX1_ends_0 5 rfl rfl)
theorem dX1_ends_8 : decode cX1_ends 8 = .ok (.iconst 0, 1) := dk_3 (dk_at dksX1_ends_0 8 rfl rfl)
theorem dX1_ends_9 : decode cX1_ends 9 = .ok (.istore_n 2, 1) := dk_61 (dk_at dksX1_ends_0 9 rfl rfl)
theorem dX1_ends_10 : decode cX1_ends 10 = .ok (.iload_n 2, 1) := dk_28 (dk_at dksX1_ends_0 10 rfl rfl)
theorem dX1_ends_11 : decode cX1_ends 11 = .ok (.bipush 7, 2) := dk_16 7 (dk_at dksX1_ends_0 11 rfl rfl)
theorem dX1_ends_13 : decode cX1_ends 13 = .ok (.if_icmp .ge 56, 3) := dk_162 0 56 (dk_at dksX1_ends_0 13 rfl rfl)
theorem dX1_ends_16 : decode cX1_ends 16 = .ok (.iconst 0, 1) := dk_3 (dk_at dksX1_ends_0 16 rfl rfl)
theorem dX1_ends_17 : decode cX1_ends 17 = .ok (.istore_n 3, 1) := dk_62 (dk_at dksX1_ends_0 17 rfl rfl)
theorem dX1_ends_18 : decode cX1_ends 18 = .ok (.iload_n 3, 1) := dk_29 (dk_at dksX1_ends_0 18 rfl rfl)
theorem dX1_ends_19 : decode cX1_ends 19 = .ok (.bipush 7, 2) := dk_16 7 (dk_at dksX1_ends_0 19 rfl rfl)
theorem dX1_ends_21 : decode cX1_ends 21 = .ok (.if_icmp .ge 42, 3) := dk_162 0 42 (dk_at dksX1_ends_0 21 rfl rfl)
theorem dX1_ends_24 : decode cX1_ends 24 = .ok (.aload_n 0, 1) := dk_42 (dk_at dksX1_ends_1 0 rfl rfl)
theorem dX1_ends_25 : decode cX1_ends 25 = .ok (.getfield 20, 3) := dk_180 0 20 (dk_at dksX1_ends_1 1 rfl rfl)
theorem dX1_ends_28 : decode cX1_ends 28 = .ok (.bipush 7, 2) := dk_16 7 (dk_at dksX1_ends_1 4 rfl rfl)
theorem dX1_ends_30 : decode cX1_ends 30 = .ok (.iload_n 2, 1) := dk_28 (dk_at dksX1_ends_1 6 rfl rfl)
theorem dX1_ends_31 : decode cX1_ends 31 = .ok (.imul, 1) := dk_104 (dk_at dksX1_ends_1 7 rfl rfl)
theorem dX1_ends_32 : decode cX1_ends 32 = .ok (.iload_n 3, 1) := dk_29 (dk_at dksX1_ends_1 8 rfl rfl)
theorem dX1_ends_33 : decode cX1_ends 33 = .ok (.iadd, 1) := dk_96 (dk_at dksX1_ends_1 9 rfl rfl)
theorem dX1_ends_34 : decode cX1_ends 34 = .ok (.aload_n 0, 1) := dk_42 (dk_at dksX1_ends_1 10 rfl rfl)
theorem dX1_ends_35 : decode cX1_ends 35 = .ok (.iload_n 2, 1) := dk_28 (dk_at dksX1_ends_1 11 rfl rfl)
theorem dX1_ends_36 : decode cX1_ends 36 = .ok (.iload_n 3, 1) := dk_29 (dk_at dksX1_ends_1 12 rfl rfl)
theorem dX1_ends_37 : decode cX1_ends 37 = .ok (.invokevirtual 31, 3) := dk_182 0 31 (dk_at dksX1_ends_1 13 rfl rfl)
theorem dX1_ends_40 : decode cX1_ends 40 = .ok (.aload_n 0, 1) := dk_42 (dk_at dksX1_ends_1 16 rfl rfl)
theorem dX1_ends_41 : decode cX1_ends 41 = .ok (.iload_n 2, 1) := dk_28 (dk_at dksX1_ends_1 17 rfl rfl)
theorem dX1_ends_42 : decode cX1_ends 42 = .ok (.iload_n 1, 1) := dk_27 (dk_at dksX1_ends_1 18 rfl rfl)
theorem dX1_ends_43 : decode cX1_ends 43 = .ok (.invokevirtual 31, 3) := dk_182 0 31 (dk_at dksX1_ends_1 19 rfl rfl)
theorem dX1_ends_46 : decode cX1_ends 46 = .ok (.aload_n 0, 1) := dk_42 (dk_at dksX1_ends_1 22 rfl rfl)
theorem dX1_ends_47 : decode cX1_ends 47 = .ok (.iload_n 1, 1) := dk_27 (dk_at dksX1_ends_1 23 rfl rfl)
theorem dX1_ends_48 : decode cX1_ends 48 = .ok (.iload_n 3, 1) := dk_29 (dk_at dksX1_ends_2 0 rfl rfl)
theorem dX1_ends_49 : decode cX1_ends 49 = .ok (.invokevirtual 31, 3) := dk_182 0 31 (dk_at dksX1_ends_2 1 rfl rfl)
theorem dX1_ends_52 : decode cX1_ends 52 = .ok (.iadd, 1) := dk_96 (dk_at dksX1_ends_2 4 rfl rfl)
theorem dX1_ends_53 : decode cX1_ends 53 = .ok (.invokestatic 34, 3) := dk_184 0 34 (dk_at dksX1_ends_2 5 rfl rfl)
theorem dX1_ends_56 : decode cX1_ends 56 = .ok (.iastore, 1) := dk_79 (dk_at dksX1_ends_2 8 rfl rfl)
theorem dX1_ends_57 : decode cX1_ends 57 = .ok (.iinc 3 1, 3) := dk_132 3 1 (dk_at dksX1_ends_2 9 rfl rfl)
theorem dX1_ends_60 : decode cX1_ends 60 = .ok (.goto (-42), 3) := dk_167 255 214 (dk_at dksX1_ends_2 12 rfl rfl)
theorem dX1_ends_63 : decode cX1_ends 63 = .ok (.iinc 2 1, 3) := dk_132 2 1 (dk_at dksX1_ends_2 15 rfl rfl)
theorem dX1_ends_66 : decode cX1_ends 66 = .ok (.goto (-56), 3) := dk_167 255 200 (dk_at dksX1_ends_2 18 rfl rfl)
theorem dX1_ends_69 : decode cX1_ends 69 = .ok (.iinc 1 1, 3) := dk_132 1 1 (dk_at dksX1_ends_2 21 rfl rfl)
theorem dX1_ends_72 : decode cX1_ends 72 = .ok (.goto (-70), 3) := dk_167 255 186 (dk_at dksX1_ends_3 0 rfl rfl)
theorem dX1_ends_75 : decode cX1_ends 75 = .ok (.return_, 1) := dk_177 (dk_at dksX1_ends_3 3 rfl rfl)
abbrev cX1_far : ByteArray := prog_15_method_3_code
def yX1_far : MethodName := ⟨RX1, "far", "(II)I"⟩
def dkwX1_far_0 : List UInt8 := [42, 180, 0, 20, 16, 7, 27, 104, 28, 96, 46, 172]
abbrev dktX1_far_0 : List UInt8 := dkwX1_far_0 ++ []
theorem dksX1_far_0 : cX1_far.data.toList.drop 0 = dktX1_far_0 := by decide +kernel
theorem dX1_far_0 : decode cX1_far 0 = .ok (.aload_n 0, 1) := dk_42 (dk_at dksX1_far_0 0 rfl rfl)
theorem dX1_far_1 : decode cX1_far 1 = .ok (.getfield 20, 3) := dk_180 0 20 (dk_at dksX1_far_0 1 rfl rfl)
theorem dX1_far_4 : decode cX1_far 4 = .ok (.bipush 7, 2) := dk_16 7 (dk_at dksX1_far_0 4 rfl rfl)
theorem dX1_far_6 : decode cX1_far 6 = .ok (.iload_n 1, 1) := dk_27 (dk_at dksX1_far_0 6 rfl rfl)
theorem dX1_far_7 : decode cX1_far 7 = .ok (.imul, 1) := dk_104 (dk_at dksX1_far_0 7 rfl rfl)
theorem dX1_far_8 : decode cX1_far 8 = .ok (.iload_n 2, 1) := dk_28 (dk_at dksX1_far_0 8 rfl rfl)
theorem dX1_far_9 : decode cX1_far 9 = .ok (.iadd, 1) := dk_96 (dk_at dksX1_far_0 9 rfl rfl)
theorem dX1_far_10 : decode cX1_far 10 = .ok (.iaload, 1) := dk_46 (dk_at dksX1_far_0 10 rfl rfl)
theorem dX1_far_11 : decode cX1_far 11 = .ok (.ireturn, 1) := dk_172 (dk_at dksX1_far_0 11 rfl rfl)
theorem q129 : (Jvm.Cond.initialized "SmokeWord$Valley") ∈ lw_all := lw_g (lw_at lw_m1 2 rfl) rfl
theorem q171 : (Jvm.Cond.instantiable "SmokeWord$Valley" (5 : Nat)) ∈ lw_all := lw_g (lw_at lw_m1 44 rfl) rfl
theorem q173 : (Jvm.Cond.instanceMethod ({ cls := "SmokeWord$Valley", name := "<init>", desc := "()V" } : Jvm.MethodName)) ∈ lw_all := lw_g (lw_at lw_m1 46 rfl) rfl
theorem q174 : (Jvm.Cond.code ({ cls := "SmokeWord$Valley", name := "<init>", desc := "()V" } : Jvm.MethodName) prog_15_method_1_code (3 : Nat) (Option.none : Option Jvm.ClassFile.FieldType)) ∈ lw_all := lw_g (lw_at lw_m1 47 rfl) rfl
theorem q175 : (Jvm.Cond.methodLink "SmokeWord$Valley" (3 : Nat) ({ cls := "java/lang/Object", name := "<init>", desc := "()V" } : Jvm.MethodName)) ∈ lw_all := lw_g (lw_at lw_m1 48 rfl) rfl
theorem q176 : (Jvm.Cond.classLink "SmokeWord$Valley" (9 : Nat) "java/util/ArrayList") ∈ lw_all := lw_g (lw_at lw_m1 49 rfl) rfl
theorem q178 : (Jvm.Cond.methodLink "SmokeWord$Valley" (11 : Nat) ({ cls := "java/util/ArrayList", name := "<init>", desc := "(I)V" } : Jvm.MethodName)) ∈ lw_all := lw_g (lw_at lw_m1 51 rfl) rfl
theorem q204 : (Jvm.Cond.fieldLink "SmokeWord$Valley" (14 : Nat) "SmokeWord$Valley" "houses" "Ljava/util/ArrayList;") ∈ lw_all := lw_g (lw_at lw_m1 77 rfl) rfl
theorem q207 : (Jvm.Cond.fieldLink "SmokeWord$Valley" (20 : Nat) "SmokeWord$Valley" "far" "[I") ∈ lw_all := lw_g (lw_at lw_m1 80 rfl) rfl
theorem q209 : (Jvm.Cond.fieldLink "SmokeWord$Valley" (24 : Nat) "SmokeWord$Valley" "beside" "[I") ∈ lw_all := lw_g (lw_at lw_m1 82 rfl) rfl
theorem q219 : (Jvm.Cond.laysFinal "SmokeWord$Valley" "SmokeWord$Valley" "houses" "Ljava/util/ArrayList;") ∈ lw_all := lw_g (lw_at lw_m1 92 rfl) rfl
theorem q220 : (Jvm.Cond.soleField "SmokeWord$Valley" "houses") ∈ lw_all := lw_g (lw_at lw_m1 93 rfl) rfl
theorem q221 : (Jvm.Cond.laysFinal "SmokeWord$Valley" "SmokeWord$Valley" "far" "[I") ∈ lw_all := lw_g (lw_at lw_m1 94 rfl) rfl
theorem q222 : (Jvm.Cond.soleField "SmokeWord$Valley" "far") ∈ lw_all := lw_g (lw_at lw_m1 95 rfl) rfl
theorem q223 : (Jvm.Cond.laysFinal "SmokeWord$Valley" "SmokeWord$Valley" "beside" "[I") ∈ lw_all := lw_g (lw_at lw_m1 96 rfl) rfl
theorem q224 : (Jvm.Cond.soleField "SmokeWord$Valley" "beside") ∈ lw_all := lw_g (lw_at lw_m1 97 rfl) rfl
theorem q225 : (Jvm.Cond.lays "SmokeWord$Valley" "SmokeWord$Valley" "water" "I") ∈ lw_all := lw_g (lw_at lw_m1 98 rfl) rfl
theorem q226 : (Jvm.Cond.soleField "SmokeWord$Valley" "water") ∈ lw_all := lw_g (lw_at lw_m1 99 rfl) rfl
theorem q227 : (Jvm.Cond.lays "SmokeWord$Valley" "SmokeWord$Valley" "leap" "I") ∈ lw_all := lw_g (lw_at lw_m1 100 rfl) rfl
theorem q228 : (Jvm.Cond.soleField "SmokeWord$Valley" "leap") ∈ lw_all := lw_g (lw_at lw_m1 101 rfl) rfl
theorem q229 : (Jvm.Cond.superclass "SmokeWord$Valley" "java/lang/Object") ∈ lw_all := lw_g (lw_at lw_m1 102 rfl) rfl
theorem q585 : (Jvm.Cond.instanceMethod ({ cls := "SmokeWord$Valley", name := "houses", desc := "()I" } : Jvm.MethodName)) ∈ lw_all := lw_g (lw_at lw_m2 218 rfl) rfl
theorem q586 : (Jvm.Cond.selects "SmokeWord$Valley" ({ cls := "SmokeWord$Valley", name := "houses", desc := "()I" } : Jvm.MethodName) ({ cls := "SmokeWord$Valley", name := "houses", desc := "()I" } : Jvm.MethodName)) ∈ lw_all := lw_g (lw_at lw_m2 219 rfl) rfl
theorem q587 : (Jvm.Cond.code ({ cls := "SmokeWord$Valley", name := "houses", desc := "()I" } : Jvm.MethodName) prog_15_method_2_code (1 : Nat) (Option.some Jvm.ClassFile.FieldType.int)) ∈ lw_all := lw_g (lw_at lw_m2 220 rfl) rfl
theorem q588 : (Jvm.Cond.methodLink "SmokeWord$Valley" (27 : Nat) ({ cls := "java/util/ArrayList", name := "size", desc := "()I" } : Jvm.MethodName)) ∈ lw_all := lw_g (lw_at lw_m2 221 rfl) rfl
theorem q665 : (Jvm.Cond.selects "SmokeWord$Valley" ({ cls := "java/lang/Object", name := "getClass", desc := "()Ljava/lang/Class;" } : Jvm.MethodName) ({ cls := "java/lang/Object", name := "getClass", desc := "()Ljava/lang/Class;" } : Jvm.MethodName)) ∈ lw_all := lw_g (lw_at lw_m3 58 rfl) rfl
theorem q701 : (Jvm.Cond.instanceMethod ({ cls := "SmokeWord$Valley", name := "ends", desc := "()V" } : Jvm.MethodName)) ∈ lw_all := lw_g (lw_at lw_m3 94 rfl) rfl
theorem q702 : (Jvm.Cond.selects "SmokeWord$Valley" ({ cls := "SmokeWord$Valley", name := "ends", desc := "()V" } : Jvm.MethodName) ({ cls := "SmokeWord$Valley", name := "ends", desc := "()V" } : Jvm.MethodName)) ∈ lw_all := lw_g (lw_at lw_m3 95 rfl) rfl
theorem q703 : (Jvm.Cond.code ({ cls := "SmokeWord$Valley", name := "ends", desc := "()V" } : Jvm.MethodName) prog_15_method_4_code (4 : Nat) (Option.none : Option Jvm.ClassFile.FieldType)) ∈ lw_all := lw_g (lw_at lw_m3 96 rfl) rfl
theorem q704 : (Jvm.Cond.methodLink "SmokeWord$Valley" (31 : Nat) ({ cls := "SmokeWord$Valley", name := "far", desc := "(II)I" } : Jvm.MethodName)) ∈ lw_all := lw_g (lw_at lw_m3 97 rfl) rfl
theorem q705 : (Jvm.Cond.instanceMethod ({ cls := "SmokeWord$Valley", name := "far", desc := "(II)I" } : Jvm.MethodName)) ∈ lw_all := lw_g (lw_at lw_m3 98 rfl) rfl
theorem q706 : (Jvm.Cond.selects "SmokeWord$Valley" ({ cls := "SmokeWord$Valley", name := "far", desc := "(II)I" } : Jvm.MethodName) ({ cls := "SmokeWord$Valley", name := "far", desc := "(II)I" } : Jvm.MethodName)) ∈ lw_all := lw_g (lw_at lw_m3 99 rfl) rfl
theorem q707 : (Jvm.Cond.code ({ cls := "SmokeWord$Valley", name := "far", desc := "(II)I" } : Jvm.MethodName) prog_15_method_3_code (3 : Nat) (Option.some Jvm.ClassFile.FieldType.int)) ∈ lw_all := lw_g (lw_at lw_m3 100 rfl) rfl
theorem q708 : (Jvm.Cond.methodLink "SmokeWord$Valley" (34 : Nat) ({ cls := "java/lang/Math", name := "min", desc := "(II)I" } : Jvm.MethodName)) ∈ lw_all := lw_g (lw_at lw_m3 101 rfl) rfl
theorem q1891 : (Jvm.Cond.castable "SmokeWord$Valley" "java/lang/Object") ∈ lw_tbl := lw_at lw_m8 84 rfl
theorem in_X1 : ∀ w ∈ wsX10, w ∈ lw_all := lw_in wsX10 [219, 221, 223, 225, 227] (by decide +kernel) (by decide +kernel)
/-! SmokeWord$State -/
set_option maxRecDepth 100000
def RX2 : String := "SmokeWord$State"
def TX2 : u_T := fun k => match k with
  | 0 => ("SmokeWord$State", "worth", "[I", true)
  | 1 => ("SmokeWord$State", "heat", "[I", true)
  | 2 => ("SmokeWord$State", "says", "[I", true)
  | 3 => ("SmokeWord$State", "lost", "[I", true)
  | 4 => ("SmokeWord$State", "been", "[I", true)
  | 5 => ("SmokeWord$State", "water", "I", false)
  | 6 => ("SmokeWord$State", "place", "I", false)
  | 7 => ("SmokeWord$State", "to", "I", false)
  | 8 => ("SmokeWord$State", "togo", "I", false)
  | _ => ("SmokeWord$State", "hour", "I", false)
def tyX2 : Nat → FieldType := fun k => match k with
  | 0 => .array .int
  | 1 => .array .int
  | 2 => .array .int
  | 3 => .array .int
  | 4 => .array .int
  | 5 => .int
  | 6 => .int
  | 7 => .int
  | 8 => .int
  | _ => .int
abbrev wsX20 : List Cond := u_ws RX2 TX2 10
theorem nmX2 : ∀ a, a < 10 → ∀ b, b < 10 → a ≠ b → (TX2 a).2.1 ≠ (TX2 b).2.1 := by decide +kernel
theorem tyX2_ok : ∀ k, k < 10 → parseFieldDescriptor (TX2 k).2.2.1 = some (tyX2 k) := by decide +kernel
abbrev cX2_init : ByteArray := prog_13_method_1_code
def yX2_init : MethodName := ⟨RX2, "<init>", "()V"⟩
def dkwX2_init_1 : List UInt8 := [188, 10, 181, 0, 18, 42, 16, 6, 188, 10, 181, 0, 21, 42, 16, 6, 188, 10, 181, 0, 24, 177]
abbrev dktX2_init_1 : List UInt8 := dkwX2_init_1 ++ []
def dkwX2_init_0 : List UInt8 := [42, 183, 0, 3, 42, 16, 6, 188, 10, 181, 0, 9, 42, 16, 6, 188, 10, 181, 0, 15, 42, 16, 6]
abbrev dktX2_init_0 : List UInt8 := dkwX2_init_0 ++ dktX2_init_1
theorem dksX2_init_0 : cX2_init.data.toList.drop 0 = dktX2_init_0 := by decide +kernel
theorem dksX2_init_1 : cX2_init.data.toList.drop 23 = dktX2_init_1 := dk_seg dksX2_init_0 23 rfl rfl
theorem dX2_init_0 : decode cX2_init 0 = .ok (.aload_n 0, 1) := dk_42 (dk_at dksX2_init_0 0 rfl rfl)
theorem dX2_init_1 : decode cX2_init 1 = .ok (.invokespecial 3, 3) := dk_183 0 3 (dk_at dksX2_init_0 1 rfl rfl)
theorem dX2_init_4 : decode cX2_init 4 = .ok (.aload_n 0, 1) := dk_42 (dk_at dksX2_init_0 4 rfl rfl)
theorem dX2_init_5 : decode cX2_init 5 = .ok (.bipush 6, 2) := dk_16 6 (dk_at dksX2_init_0 5 rfl rfl)
theorem dX2_init_7 : decode cX2_init 7 = .ok (.newarray .int, 2) := dk_188_10 (dk_at dksX2_init_0 7 rfl rfl)
theorem dX2_init_9 : decode cX2_init 9 = .ok (.putfield 9, 3) := dk_181 0 9 (dk_at dksX2_init_0 9 rfl rfl)
theorem dX2_init_12 : decode cX2_init 12 = .ok (.aload_n 0, 1) := dk_42 (dk_at dksX2_init_0 12 rfl rfl)
theorem dX2_init_13 : decode cX2_init 13 = .ok (.bipush 6, 2) := dk_16 6 (dk_at dksX2_init_0 13 rfl rfl)
theorem dX2_init_15 : decode cX2_init 15 = .ok (.newarray .int, 2) := dk_188_10 (dk_at dksX2_init_0 15 rfl rfl)
theorem dX2_init_17 : decode cX2_init 17 = .ok (.putfield 15, 3) := dk_181 0 15 (dk_at dksX2_init_0 17 rfl rfl)
theorem dX2_init_20 : decode cX2_init 20 = .ok (.aload_n 0, 1) := dk_42 (dk_at dksX2_init_0 20 rfl rfl)
theorem dX2_init_21 : decode cX2_init 21 = .ok (.bipush 6, 2) := dk_16 6 (dk_at dksX2_init_0 21 rfl rfl)
theorem dX2_init_23 : decode cX2_init 23 = .ok (.newarray .int, 2) := dk_188_10 (dk_at dksX2_init_1 0 rfl rfl)
theorem dX2_init_25 : decode cX2_init 25 = .ok (.putfield 18, 3) := dk_181 0 18 (dk_at dksX2_init_1 2 rfl rfl)
theorem dX2_init_28 : decode cX2_init 28 = .ok (.aload_n 0, 1) := dk_42 (dk_at dksX2_init_1 5 rfl rfl)
theorem dX2_init_29 : decode cX2_init 29 = .ok (.bipush 6, 2) := dk_16 6 (dk_at dksX2_init_1 6 rfl rfl)
theorem dX2_init_31 : decode cX2_init 31 = .ok (.newarray .int, 2) := dk_188_10 (dk_at dksX2_init_1 8 rfl rfl)
theorem dX2_init_33 : decode cX2_init 33 = .ok (.putfield 21, 3) := dk_181 0 21 (dk_at dksX2_init_1 10 rfl rfl)
theorem dX2_init_36 : decode cX2_init 36 = .ok (.aload_n 0, 1) := dk_42 (dk_at dksX2_init_1 13 rfl rfl)
theorem dX2_init_37 : decode cX2_init 37 = .ok (.bipush 6, 2) := dk_16 6 (dk_at dksX2_init_1 14 rfl rfl)
theorem dX2_init_39 : decode cX2_init 39 = .ok (.newarray .int, 2) := dk_188_10 (dk_at dksX2_init_1 16 rfl rfl)
theorem dX2_init_41 : decode cX2_init 41 = .ok (.putfield 24, 3) := dk_181 0 24 (dk_at dksX2_init_1 18 rfl rfl)
theorem dX2_init_44 : decode cX2_init 44 = .ok (.return_, 1) := dk_177 (dk_at dksX2_init_1 21 rfl rfl)
abbrev cX2_begin : ByteArray := prog_13_method_3_code
def yX2_begin : MethodName := ⟨RX2, "begin", "(LSmokeWord$Valley;)V"⟩
def dkwX2_begin_6 : List UInt8 := [181, 0, 27, 42, 3, 181, 0, 31, 42, 2, 181, 0, 34, 42, 3, 181, 0, 37, 42, 3, 181, 0, 40, 177]
abbrev dktX2_begin_6 : List UInt8 := dkwX2_begin_6 ++ []
def dkwX2_begin_5 : List UInt8 := [180, 0, 21, 28, 3, 79, 42, 180, 0, 24, 28, 3, 79, 132, 2, 1, 167, 255, 126, 42, 43, 180, 0, 66]
abbrev dktX2_begin_5 : List UInt8 := dkwX2_begin_5 ++ dktX2_begin_6
def dkwX2_begin_4 : List UInt8 := [153, 0, 20, 43, 180, 0, 49, 28, 182, 0, 52, 192, 0, 58, 180, 0, 64, 167, 0, 4, 3, 79, 42]
abbrev dktX2_begin_4 : List UInt8 := dkwX2_begin_4 ++ dktX2_begin_5
def dkwX2_begin_3 : List UInt8 := [180, 0, 49, 28, 182, 0, 52, 192, 0, 58, 180, 0, 62, 167, 0, 4, 3, 79, 42, 180, 0, 18, 28, 29]
abbrev dktX2_begin_3 : List UInt8 := dkwX2_begin_3 ++ dktX2_begin_4
def dkwX2_begin_2 : List UInt8 := [167, 0, 4, 3, 79, 42, 180, 0, 15, 28, 29, 153, 0, 29, 42, 180, 0, 9, 28, 46, 158, 0, 20, 43]
abbrev dktX2_begin_2 : List UInt8 := dkwX2_begin_2 ++ dktX2_begin_3
def dkwX2_begin_1 : List UInt8 := [180, 0, 9, 28, 29, 153, 0, 20, 43, 180, 0, 49, 28, 182, 0, 52, 192, 0, 58, 180, 0, 60]
abbrev dktX2_begin_1 : List UInt8 := dkwX2_begin_1 ++ dktX2_begin_2
def dkwX2_begin_0 : List UInt8 := [3, 61, 28, 16, 6, 162, 0, 130, 28, 43, 182, 0, 43, 162, 0, 7, 4, 167, 0, 4, 3, 62, 42]
abbrev dktX2_begin_0 : List UInt8 := dkwX2_begin_0 ++ dktX2_begin_1
theorem dksX2_begin_0 : cX2_begin.data.toList.drop 0 = dktX2_begin_0 := by decide +kernel
theorem dksX2_begin_1 : cX2_begin.data.toList.drop 23 = dktX2_begin_1 := dk_seg dksX2_begin_0 23 rfl rfl
theorem dksX2_begin_2 : cX2_begin.data.toList.drop 45 = dktX2_begin_2 := dk_seg dksX2_begin_1 22 rfl rfl
theorem dksX2_begin_3 : cX2_begin.data.toList.drop 69 = dktX2_begin_3 := dk_seg dksX2_begin_2 24 rfl rfl
theorem dksX2_begin_4 : cX2_begin.data.toList.drop 93 = dktX2_begin_4 := dk_seg dksX2_begin_3 24 rfl rfl
theorem dksX2_begin_5 : cX2_begin.data.toList.drop 116 = dktX2_begin_5 := dk_seg dksX2_begin_4 23 rfl rfl
theorem dksX2_begin_6 : cX2_begin.data.toList.drop 140 = dktX2_begin_6 := dk_seg dksX2_begin_5 24 rfl rfl
theorem dX2_begin_0 : decode cX2_begin 0 = .ok (.iconst 0, 1) := dk_3 (dk_at dksX2_begin_0 0 rfl rfl)
theorem dX2_begin_1 : decode cX2_begin 1 = .ok (.istore_n 2, 1) := dk_61 (dk_at dksX2_begin_0 1 rfl rfl)
theorem dX2_begin_2 : decode cX2_begin 2 = .ok (.iload_n 2, 1) := dk_28 (dk_at dksX2_begin_0 2 rfl rfl)
theorem dX2_begin_3 : decode cX2_begin 3 = .ok (.bipush 6, 2) := dk_16 6 (dk_at dksX2_begin_0 3 rfl rfl)
theorem dX2_begin_5 : decode cX2_begin 5 = .ok (.if_icmp .ge 130, 3) := dk_162 0 130 (dk_at dksX2_begin_0 5 rfl rfl)
theorem dX2_begin_8 : decode cX2_begin 8 = .ok (.iload_n 2, 1) := dk_28 (dk_at dksX2_begin_0 8 rfl rfl)
theorem dX2_begin_9 : decode cX2_begin 9 = .ok (.aload_n 1, 1) := dk_43 (dk_at dksX2_begin_0 9 rfl rfl)
theorem dX2_begin_10 : decode cX2_begin 10 = .ok (.invokevirtual 43, 3) := dk_182 0 43 (dk_at dksX2_begin_0 10 rfl rfl)
theorem dX2_begin_13 : decode cX2_begin 13 = .ok (.if_icmp .ge 7, 3) := dk_162 0 7 (dk_at dksX2_begin_0 13 rfl rfl)
theorem dX2_begin_16 : decode cX2_begin 16 = .ok (.iconst 1, 1) := dk_4 (dk_at dksX2_begin_0 16 rfl rfl)
theorem dX2_begin_17 : decode cX2_begin 17 = .ok (.goto 4, 3) := dk_167 0 4 (dk_at dksX2_begin_0 17 rfl rfl)
theorem dX2_begin_20 : decode cX2_begin 20 = .ok (.iconst 0, 1) := dk_3 (dk_at dksX2_begin_0 20 rfl rfl)
theorem dX2_begin_21 : decode cX2_begin 21 = .ok (.istore_n 3, 1) := dk_62 (dk_at dksX2_begin_0 21 rfl rfl)
theorem dX2_begin_22 : decode cX2_begin 22 = .ok (.aload_n 0, 1) := dk_42 (dk_at dksX2_begin_0 22 rfl rfl)
theorem dX2_begin_23 : decode cX2_begin 23 = .ok (.getfield 9, 3) := dk_180 0 9 (dk_at dksX2_begin_1 0 rfl rfl)
theorem dX2_begin_26 : decode cX2_begin 26 = .ok (.iload_n 2, 1) := dk_28 (dk_at dksX2_begin_1 3 rfl rfl)
theorem dX2_begin_27 : decode cX2_begin 27 = .ok (.iload_n 3, 1) := dk_29 (dk_at dksX2_begin_1 4 rfl rfl)
theorem dX2_begin_28 : decode cX2_begin 28 = .ok (.ifCond .eq 20, 3) := dk_153 0 20 (dk_at dksX2_begin_1 5 rfl rfl)
theorem dX2_begin_31 : decode cX2_begin 31 = .ok (.aload_n 1, 1) := dk_43 (dk_at dksX2_begin_1 8 rfl rfl)
theorem dX2_begin_32 : decode cX2_begin 32 = .ok (.getfield 49, 3) := dk_180 0 49 (dk_at dksX2_begin_1 9 rfl rfl)
theorem dX2_begin_35 : decode cX2_begin 35 = .ok (.iload_n 2, 1) := dk_28 (dk_at dksX2_begin_1 12 rfl rfl)
theorem dX2_begin_36 : decode cX2_begin 36 = .ok (.invokevirtual 52, 3) := dk_182 0 52 (dk_at dksX2_begin_1 13 rfl rfl)
theorem dX2_begin_39 : decode cX2_begin 39 = .ok (.checkcast 58, 3) := dk_192 0 58 (dk_at dksX2_begin_1 16 rfl rfl)
theorem dX2_begin_42 : decode cX2_begin 42 = .ok (.getfield 60, 3) := dk_180 0 60 (dk_at dksX2_begin_1 19 rfl rfl)
theorem dX2_begin_45 : decode cX2_begin 45 = .ok (.goto 4, 3) := dk_167 0 4 (dk_at dksX2_begin_2 0 rfl rfl)
theorem dX2_begin_48 : decode cX2_begin 48 = .ok (.iconst 0, 1) := dk_3 (dk_at dksX2_begin_2 3 rfl rfl)
theorem dX2_begin_49 : decode cX2_begin 49 = .ok (.iastore, 1) := dk_79 (dk_at dksX2_begin_2 4 rfl rfl)
theorem dX2_begin_50 : decode cX2_begin 50 = .ok (.aload_n 0, 1) := dk_42 (dk_at dksX2_begin_2 5 rfl rfl)
theorem dX2_begin_51 : decode cX2_begin 51 = .ok (.getfield 15, 3) := dk_180 0 15 (dk_at dksX2_begin_2 6 rfl rfl)
theorem dX2_begin_54 : decode cX2_begin 54 = .ok (.iload_n 2, 1) := dk_28 (dk_at dksX2_begin_2 9 rfl rfl)
theorem dX2_begin_55 : decode cX2_begin 55 = .ok (.iload_n 3, 1) := dk_29 (dk_at dksX2_begin_2 10 rfl rfl)
theorem dX2_begin_56 : decode cX2_begin 56 = .ok (.ifCond .eq 29, 3) := dk_153 0 29 (dk_at dksX2_begin_2 11 rfl rfl)
theorem dX2_begin_59 : decode cX2_begin 59 = .ok (.aload_n 0, 1) := dk_42 (dk_at dksX2_begin_2 14 rfl rfl)
theorem dX2_begin_60 : decode cX2_begin 60 = .ok (.getfield 9, 3) := dk_180 0 9 (dk_at dksX2_begin_2 15 rfl rfl)
theorem dX2_begin_63 : decode cX2_begin 63 = .ok (.iload_n 2, 1) := dk_28 (dk_at dksX2_begin_2 18 rfl rfl)
theorem dX2_begin_64 : decode cX2_begin 64 = .ok (.iaload, 1) := dk_46 (dk_at dksX2_begin_2 19 rfl rfl)
theorem dX2_begin_65 : decode cX2_begin 65 = .ok (.ifCond .le 20, 3) := dk_158 0 20 (dk_at dksX2_begin_2 20 rfl rfl)
theorem dX2_begin_68 : decode cX2_begin 68 = .ok (.aload_n 1, 1) := dk_43 (dk_at dksX2_begin_2 23 rfl rfl)
theorem dX2_begin_69 : decode cX2_begin 69 = .ok (.getfield 49, 3) := dk_180 0 49 (dk_at dksX2_begin_3 0 rfl rfl)
theorem dX2_begin_72 : decode cX2_begin 72 = .ok (.iload_n 2, 1) := dk_28 (dk_at dksX2_begin_3 3 rfl rfl)
theorem dX2_begin_73 : decode cX2_begin 73 = .ok (.invokevirtual 52, 3) := dk_182 0 52 (dk_at dksX2_begin_3 4 rfl rfl)
theorem dX2_begin_76 : decode cX2_begin 76 = .ok (.checkcast 58, 3) := dk_192 0 58 (dk_at dksX2_begin_3 7 rfl rfl)
theorem dX2_begin_79 : decode cX2_begin 79 = .ok (.getfield 62, 3) := dk_180 0 62 (dk_at dksX2_begin_3 10 rfl rfl)
theorem dX2_begin_82 : decode cX2_begin 82 = .ok (.goto 4, 3) := dk_167 0 4 (dk_at dksX2_begin_3 13 rfl rfl)
theorem dX2_begin_85 : decode cX2_begin 85 = .ok (.iconst 0, 1) := dk_3 (dk_at dksX2_begin_3 16 rfl rfl)
theorem dX2_begin_86 : decode cX2_begin 86 = .ok (.iastore, 1) := dk_79 (dk_at dksX2_begin_3 17 rfl rfl)
theorem dX2_begin_87 : decode cX2_begin 87 = .ok (.aload_n 0, 1) := dk_42 (dk_at dksX2_begin_3 18 rfl rfl)
theorem dX2_begin_88 : decode cX2_begin 88 = .ok (.getfield 18, 3) := dk_180 0 18 (dk_at dksX2_begin_3 19 rfl rfl)
theorem dX2_begin_91 : decode cX2_begin 91 = .ok (.iload_n 2, 1) := dk_28 (dk_at dksX2_begin_3 22 rfl rfl)
theorem dX2_begin_92 : decode cX2_begin 92 = .ok (.iload_n 3, 1) := dk_29 (dk_at dksX2_begin_3 23 rfl rfl)
theorem dX2_begin_93 : decode cX2_begin 93 = .ok (.ifCond .eq 20, 3) := dk_153 0 20 (dk_at dksX2_begin_4 0 rfl rfl)
theorem dX2_begin_96 : decode cX2_begin 96 = .ok (.aload_n 1, 1) := dk_43 (dk_at dksX2_begin_4 3 rfl rfl)
theorem dX2_begin_97 : decode cX2_begin 97 = .ok (.getfield 49, 3) := dk_180 0 49 (dk_at dksX2_begin_4 4 rfl rfl)
theorem dX2_begin_100 : decode cX2_begin 100 = .ok (.iload_n 2, 1) := dk_28 (dk_at dksX2_begin_4 7 rfl rfl)
theorem dX2_begin_101 : decode cX2_begin 101 = .ok (.invokevirtual 52, 3) := dk_182 0 52 (dk_at dksX2_begin_4 8 rfl rfl)
theorem dX2_begin_104 : decode cX2_begin 104 = .ok (.checkcast 58, 3) := dk_192 0 58 (dk_at dksX2_begin_4 11 rfl rfl)
theorem dX2_begin_107 : decode cX2_begin 107 = .ok (.getfield 64, 3) := dk_180 0 64 (dk_at dksX2_begin_4 14 rfl rfl)
theorem dX2_begin_110 : decode cX2_begin 110 = .ok (.goto 4, 3) := dk_167 0 4 (dk_at dksX2_begin_4 17 rfl rfl)
theorem dX2_begin_113 : decode cX2_begin 113 = .ok (.iconst 0, 1) := dk_3 (dk_at dksX2_begin_4 20 rfl rfl)
theorem dX2_begin_114 : decode cX2_begin 114 = .ok (.iastore, 1) := dk_79 (dk_at dksX2_begin_4 21 rfl rfl)
theorem dX2_begin_115 : decode cX2_begin 115 = .ok (.aload_n 0, 1) := dk_42 (dk_at dksX2_begin_4 22 rfl rfl)
theorem dX2_begin_116 : decode cX2_begin 116 = .ok (.getfield 21, 3) := dk_180 0 21 (dk_at dksX2_begin_5 0 rfl rfl)
theorem dX2_begin_119 : decode cX2_begin 119 = .ok (.iload_n 2, 1) := dk_28 (dk_at dksX2_begin_5 3 rfl rfl)
theorem dX2_begin_120 : decode cX2_begin 120 = .ok (.iconst 0, 1) := dk_3 (dk_at dksX2_begin_5 4 rfl rfl)
theorem dX2_begin_121 : decode cX2_begin 121 = .ok (.iastore, 1) := dk_79 (dk_at dksX2_begin_5 5 rfl rfl)
theorem dX2_begin_122 : decode cX2_begin 122 = .ok (.aload_n 0, 1) := dk_42 (dk_at dksX2_begin_5 6 rfl rfl)
theorem dX2_begin_123 : decode cX2_begin 123 = .ok (.getfield 24, 3) := dk_180 0 24 (dk_at dksX2_begin_5 7 rfl rfl)
theorem dX2_begin_126 : decode cX2_begin 126 = .ok (.iload_n 2, 1) := dk_28 (dk_at dksX2_begin_5 10 rfl rfl)
theorem dX2_begin_127 : decode cX2_begin 127 = .ok (.iconst 0, 1) := dk_3 (dk_at dksX2_begin_5 11 rfl rfl)
theorem dX2_begin_128 : decode cX2_begin 128 = .ok (.iastore, 1) := dk_79 (dk_at dksX2_begin_5 12 rfl rfl)
theorem dX2_begin_129 : decode cX2_begin 129 = .ok (.iinc 2 1, 3) := dk_132 2 1 (dk_at dksX2_begin_5 13 rfl rfl)
theorem dX2_begin_132 : decode cX2_begin 132 = .ok (.goto (-130), 3) := dk_167 255 126 (dk_at dksX2_begin_5 16 rfl rfl)
theorem dX2_begin_135 : decode cX2_begin 135 = .ok (.aload_n 0, 1) := dk_42 (dk_at dksX2_begin_5 19 rfl rfl)
theorem dX2_begin_136 : decode cX2_begin 136 = .ok (.aload_n 1, 1) := dk_43 (dk_at dksX2_begin_5 20 rfl rfl)
theorem dX2_begin_137 : decode cX2_begin 137 = .ok (.getfield 66, 3) := dk_180 0 66 (dk_at dksX2_begin_5 21 rfl rfl)
theorem dX2_begin_140 : decode cX2_begin 140 = .ok (.putfield 27, 3) := dk_181 0 27 (dk_at dksX2_begin_6 0 rfl rfl)
theorem dX2_begin_143 : decode cX2_begin 143 = .ok (.aload_n 0, 1) := dk_42 (dk_at dksX2_begin_6 3 rfl rfl)
theorem dX2_begin_144 : decode cX2_begin 144 = .ok (.iconst 0, 1) := dk_3 (dk_at dksX2_begin_6 4 rfl rfl)
theorem dX2_begin_145 : decode cX2_begin 145 = .ok (.putfield 31, 3) := dk_181 0 31 (dk_at dksX2_begin_6 5 rfl rfl)
theorem dX2_begin_148 : decode cX2_begin 148 = .ok (.aload_n 0, 1) := dk_42 (dk_at dksX2_begin_6 8 rfl rfl)
theorem dX2_begin_149 : decode cX2_begin 149 = .ok (.iconst (-1), 1) := dk_2 (dk_at dksX2_begin_6 9 rfl rfl)
theorem dX2_begin_150 : decode cX2_begin 150 = .ok (.putfield 34, 3) := dk_181 0 34 (dk_at dksX2_begin_6 10 rfl rfl)
theorem dX2_begin_153 : decode cX2_begin 153 = .ok (.aload_n 0, 1) := dk_42 (dk_at dksX2_begin_6 13 rfl rfl)
theorem dX2_begin_154 : decode cX2_begin 154 = .ok (.iconst 0, 1) := dk_3 (dk_at dksX2_begin_6 14 rfl rfl)
theorem dX2_begin_155 : decode cX2_begin 155 = .ok (.putfield 37, 3) := dk_181 0 37 (dk_at dksX2_begin_6 15 rfl rfl)
theorem dX2_begin_158 : decode cX2_begin 158 = .ok (.aload_n 0, 1) := dk_42 (dk_at dksX2_begin_6 18 rfl rfl)
theorem dX2_begin_159 : decode cX2_begin 159 = .ok (.iconst 0, 1) := dk_3 (dk_at dksX2_begin_6 19 rfl rfl)
theorem dX2_begin_160 : decode cX2_begin 160 = .ok (.putfield 40, 3) := dk_181 0 40 (dk_at dksX2_begin_6 20 rfl rfl)
theorem dX2_begin_163 : decode cX2_begin 163 = .ok (.return_, 1) := dk_177 (dk_at dksX2_begin_6 23 rfl rfl)
abbrev cX2_copyFrom : ByteArray := prog_13_method_2_code
def yX2_copyFrom : MethodName := ⟨RX2, "copyFrom", "(LSmokeWord$State;)V"⟩
def dkwX2_copyFrom_4 : List UInt8 := [181, 0, 34, 42, 43, 180, 0, 37, 181, 0, 37, 42, 43, 180, 0, 40, 181, 0, 40, 177]
abbrev dktX2_copyFrom_4 : List UInt8 := dkwX2_copyFrom_4 ++ []
def dkwX2_copyFrom_3 : List UInt8 := [167, 255, 187, 42, 43, 180, 0, 27, 181, 0, 27, 42, 43, 180, 0, 31, 181, 0, 31, 42, 43, 180, 0, 34]
abbrev dktX2_copyFrom_3 : List UInt8 := dkwX2_copyFrom_3 ++ dktX2_copyFrom_4
def dkwX2_copyFrom_2 : List UInt8 := [28, 43, 180, 0, 21, 28, 46, 79, 42, 180, 0, 24, 28, 43, 180, 0, 24, 28, 46, 79, 132, 2, 1]
abbrev dktX2_copyFrom_2 : List UInt8 := dkwX2_copyFrom_2 ++ dktX2_copyFrom_3
def dkwX2_copyFrom_1 : List UInt8 := [28, 43, 180, 0, 15, 28, 46, 79, 42, 180, 0, 18, 28, 43, 180, 0, 18, 28, 46, 79, 42, 180, 0, 21]
abbrev dktX2_copyFrom_1 : List UInt8 := dkwX2_copyFrom_1 ++ dktX2_copyFrom_2
def dkwX2_copyFrom_0 : List UInt8 := [3, 61, 28, 16, 6, 162, 0, 69, 42, 180, 0, 9, 28, 43, 180, 0, 9, 28, 46, 79, 42, 180, 0, 15]
abbrev dktX2_copyFrom_0 : List UInt8 := dkwX2_copyFrom_0 ++ dktX2_copyFrom_1
theorem dksX2_copyFrom_0 : cX2_copyFrom.data.toList.drop 0 = dktX2_copyFrom_0 := by decide +kernel
theorem dksX2_copyFrom_1 : cX2_copyFrom.data.toList.drop 24 = dktX2_copyFrom_1 := dk_seg dksX2_copyFrom_0 24 rfl rfl
theorem dksX2_copyFrom_2 : cX2_copyFrom.data.toList.drop 48 = dktX2_copyFrom_2 := dk_seg dksX2_copyFrom_1 24 rfl rfl
theorem dksX2_copyFrom_3 : cX2_copyFrom.data.toList.drop 71 = dktX2_copyFrom_3 := dk_seg dksX2_copyFrom_2 23 rfl rfl
theorem dksX2_copyFrom_4 : cX2_copyFrom.data.toList.drop 95 = dktX2_copyFrom_4 := dk_seg dksX2_copyFrom_3 24 rfl rfl
theorem dX2_copyFrom_0 : decode cX2_copyFrom 0 = .ok (.iconst 0, 1) := dk_3 (dk_at dksX2_copyFrom_0 0 rfl rfl)
theorem dX2_copyFrom_1 : decode cX2_copyFrom 1 = .ok (.istore_n 2, 1) := dk_61 (dk_at dksX2_copyFrom_0 1 rfl rfl)
theorem dX2_copyFrom_2 : decode cX2_copyFrom 2 = .ok (.iload_n 2, 1) := dk_28 (dk_at dksX2_copyFrom_0 2 rfl rfl)
theorem dX2_copyFrom_3 : decode cX2_copyFrom 3 = .ok (.bipush 6, 2) := dk_16 6 (dk_at dksX2_copyFrom_0 3 rfl rfl)
theorem dX2_copyFrom_5 : decode cX2_copyFrom 5 = .ok (.if_icmp .ge 69, 3) := dk_162 0 69 (dk_at dksX2_copyFrom_0 5 rfl rfl)
theorem dX2_copyFrom_8 : decode cX2_copyFrom 8 = .ok (.aload_n 0, 1) := dk_42 (dk_at dksX2_copyFrom_0 8 rfl rfl)
theorem dX2_copyFrom_9 : decode cX2_copyFrom 9 = .ok (.getfield 9, 3) := dk_180 0 9 (dk_at dksX2_copyFrom_0 9 rfl rfl)
theorem dX2_copyFrom_12 : decode cX2_copyFrom 12 = .ok (.iload_n 2, 1) := dk_28 (dk_at dksX2_copyFrom_0 12 rfl rfl)
theorem dX2_copyFrom_13 : decode cX2_copyFrom 13 = .ok (.aload_n 1, 1) := dk_43 (dk_at dksX2_copyFrom_0 13 rfl rfl)
theorem dX2_copyFrom_14 : decode cX2_copyFrom 14 = .ok (.getfield 9, 3) := dk_180 0 9 (dk_at dksX2_copyFrom_0 14 rfl rfl)
theorem dX2_copyFrom_17 : decode cX2_copyFrom 17 = .ok (.iload_n 2, 1) := dk_28 (dk_at dksX2_copyFrom_0 17 rfl rfl)
theorem dX2_copyFrom_18 : decode cX2_copyFrom 18 = .ok (.iaload, 1) := dk_46 (dk_at dksX2_copyFrom_0 18 rfl rfl)
theorem dX2_copyFrom_19 : decode cX2_copyFrom 19 = .ok (.iastore, 1) := dk_79 (dk_at dksX2_copyFrom_0 19 rfl rfl)
theorem dX2_copyFrom_20 : decode cX2_copyFrom 20 = .ok (.aload_n 0, 1) := dk_42 (dk_at dksX2_copyFrom_0 20 rfl rfl)
theorem dX2_copyFrom_21 : decode cX2_copyFrom 21 = .ok (.getfield 15, 3) := dk_180 0 15 (dk_at dksX2_copyFrom_0 21 rfl rfl)
theorem dX2_copyFrom_24 : decode cX2_copyFrom 24 = .ok (.iload_n 2, 1) := dk_28 (dk_at dksX2_copyFrom_1 0 rfl rfl)
theorem dX2_copyFrom_25 : decode cX2_copyFrom 25 = .ok (.aload_n 1, 1) := dk_43 (dk_at dksX2_copyFrom_1 1 rfl rfl)
theorem dX2_copyFrom_26 : decode cX2_copyFrom 26 = .ok (.getfield 15, 3) := dk_180 0 15 (dk_at dksX2_copyFrom_1 2 rfl rfl)
theorem dX2_copyFrom_29 : decode cX2_copyFrom 29 = .ok (.iload_n 2, 1) := dk_28 (dk_at dksX2_copyFrom_1 5 rfl rfl)
theorem dX2_copyFrom_30 : decode cX2_copyFrom 30 = .ok (.iaload, 1) := dk_46 (dk_at dksX2_copyFrom_1 6 rfl rfl)
theorem dX2_copyFrom_31 : decode cX2_copyFrom 31 = .ok (.iastore, 1) := dk_79 (dk_at dksX2_copyFrom_1 7 rfl rfl)
theorem dX2_copyFrom_32 : decode cX2_copyFrom 32 = .ok (.aload_n 0, 1) := dk_42 (dk_at dksX2_copyFrom_1 8 rfl rfl)
theorem dX2_copyFrom_33 : decode cX2_copyFrom 33 = .ok (.getfield 18, 3) := dk_180 0 18 (dk_at dksX2_copyFrom_1 9 rfl rfl)
theorem dX2_copyFrom_36 : decode cX2_copyFrom 36 = .ok (.iload_n 2, 1) := dk_28 (dk_at dksX2_copyFrom_1 12 rfl rfl)
theorem dX2_copyFrom_37 : decode cX2_copyFrom 37 = .ok (.aload_n 1, 1) := dk_43 (dk_at dksX2_copyFrom_1 13 rfl rfl)
theorem dX2_copyFrom_38 : decode cX2_copyFrom 38 = .ok (.getfield 18, 3) := dk_180 0 18 (dk_at dksX2_copyFrom_1 14 rfl rfl)
theorem dX2_copyFrom_41 : decode cX2_copyFrom 41 = .ok (.iload_n 2, 1) := dk_28 (dk_at dksX2_copyFrom_1 17 rfl rfl)
theorem dX2_copyFrom_42 : decode cX2_copyFrom 42 = .ok (.iaload, 1) := dk_46 (dk_at dksX2_copyFrom_1 18 rfl rfl)
theorem dX2_copyFrom_43 : decode cX2_copyFrom 43 = .ok (.iastore, 1) := dk_79 (dk_at dksX2_copyFrom_1 19 rfl rfl)
theorem dX2_copyFrom_44 : decode cX2_copyFrom 44 = .ok (.aload_n 0, 1) := dk_42 (dk_at dksX2_copyFrom_1 20 rfl rfl)
theorem dX2_copyFrom_45 : decode cX2_copyFrom 45 = .ok (.getfield 21, 3) := dk_180 0 21 (dk_at dksX2_copyFrom_1 21 rfl rfl)
theorem dX2_copyFrom_48 : decode cX2_copyFrom 48 = .ok (.iload_n 2, 1) := dk_28 (dk_at dksX2_copyFrom_2 0 rfl rfl)
theorem dX2_copyFrom_49 : decode cX2_copyFrom 49 = .ok (.aload_n 1, 1) := dk_43 (dk_at dksX2_copyFrom_2 1 rfl rfl)
theorem dX2_copyFrom_50 : decode cX2_copyFrom 50 = .ok (.getfield 21, 3) := dk_180 0 21 (dk_at dksX2_copyFrom_2 2 rfl rfl)
theorem dX2_copyFrom_53 : decode cX2_copyFrom 53 = .ok (.iload_n 2, 1) := dk_28 (dk_at dksX2_copyFrom_2 5 rfl rfl)
theorem dX2_copyFrom_54 : decode cX2_copyFrom 54 = .ok (.iaload, 1) := dk_46 (dk_at dksX2_copyFrom_2 6 rfl rfl)
theorem dX2_copyFrom_55 : decode cX2_copyFrom 55 = .ok (.iastore, 1) := dk_79 (dk_at dksX2_copyFrom_2 7 rfl rfl)
theorem dX2_copyFrom_56 : decode cX2_copyFrom 56 = .ok (.aload_n 0, 1) := dk_42 (dk_at dksX2_copyFrom_2 8 rfl rfl)
theorem dX2_copyFrom_57 : decode cX2_copyFrom 57 = .ok (.getfield 24, 3) := dk_180 0 24 (dk_at dksX2_copyFrom_2 9 rfl rfl)
theorem dX2_copyFrom_60 : decode cX2_copyFrom 60 = .ok (.iload_n 2, 1) := dk_28 (dk_at dksX2_copyFrom_2 12 rfl rfl)
theorem dX2_copyFrom_61 : decode cX2_copyFrom 61 = .ok (.aload_n 1, 1) := dk_43 (dk_at dksX2_copyFrom_2 13 rfl rfl)
theorem dX2_copyFrom_62 : decode cX2_copyFrom 62 = .ok (.getfield 24, 3) := dk_180 0 24 (dk_at dksX2_copyFrom_2 14 rfl rfl)
theorem dX2_copyFrom_65 : decode cX2_copyFrom 65 = .ok (.iload_n 2, 1) := dk_28 (dk_at dksX2_copyFrom_2 17 rfl rfl)
theorem dX2_copyFrom_66 : decode cX2_copyFrom 66 = .ok (.iaload, 1) := dk_46 (dk_at dksX2_copyFrom_2 18 rfl rfl)
theorem dX2_copyFrom_67 : decode cX2_copyFrom 67 = .ok (.iastore, 1) := dk_79 (dk_at dksX2_copyFrom_2 19 rfl rfl)
theorem dX2_copyFrom_68 : decode cX2_copyFrom 68 = .ok (.iinc 2 1, 3) := dk_132 2 1 (dk_at dksX2_copyFrom_2 20 rfl rfl)
theorem dX2_copyFrom_71 : decode cX2_copyFrom 71 = .ok (.goto (-69), 3) := dk_167 255 187 (dk_at dksX2_copyFrom_3 0 rfl rfl)
theorem dX2_copyFrom_74 : decode cX2_copyFrom 74 = .ok (.aload_n 0, 1) := dk_42 (dk_at dksX2_copyFrom_3 3 rfl rfl)
theorem dX2_copyFrom_75 : decode cX2_copyFrom 75 = .ok (.aload_n 1, 1) := dk_43 (dk_at dksX2_copyFrom_3 4 rfl rfl)
theorem dX2_copyFrom_76 : decode cX2_copyFrom 76 = .ok (.getfield 27, 3) := dk_180 0 27 (dk_at dksX2_copyFrom_3 5 rfl rfl)
theorem dX2_copyFrom_79 : decode cX2_copyFrom 79 = .ok (.putfield 27, 3) := dk_181 0 27 (dk_at dksX2_copyFrom_3 8 rfl rfl)
theorem dX2_copyFrom_82 : decode cX2_copyFrom 82 = .ok (.aload_n 0, 1) := dk_42 (dk_at dksX2_copyFrom_3 11 rfl rfl)
theorem dX2_copyFrom_83 : decode cX2_copyFrom 83 = .ok (.aload_n 1, 1) := dk_43 (dk_at dksX2_copyFrom_3 12 rfl rfl)
theorem dX2_copyFrom_84 : decode cX2_copyFrom 84 = .ok (.getfield 31, 3) := dk_180 0 31 (dk_at dksX2_copyFrom_3 13 rfl rfl)
theorem dX2_copyFrom_87 : decode cX2_copyFrom 87 = .ok (.putfield 31, 3) := dk_181 0 31 (dk_at dksX2_copyFrom_3 16 rfl rfl)
theorem dX2_copyFrom_90 : decode cX2_copyFrom 90 = .ok (.aload_n 0, 1) := dk_42 (dk_at dksX2_copyFrom_3 19 rfl rfl)
theorem dX2_copyFrom_91 : decode cX2_copyFrom 91 = .ok (.aload_n 1, 1) := dk_43 (dk_at dksX2_copyFrom_3 20 rfl rfl)
theorem dX2_copyFrom_92 : decode cX2_copyFrom 92 = .ok (.getfield 34, 3) := dk_180 0 34 (dk_at dksX2_copyFrom_3 21 rfl rfl)
theorem dX2_copyFrom_95 : decode cX2_copyFrom 95 = .ok (.putfield 34, 3) := dk_181 0 34 (dk_at dksX2_copyFrom_4 0 rfl rfl)
theorem dX2_copyFrom_98 : decode cX2_copyFrom 98 = .ok (.aload_n 0, 1) := dk_42 (dk_at dksX2_copyFrom_4 3 rfl rfl)
theorem dX2_copyFrom_99 : decode cX2_copyFrom 99 = .ok (.aload_n 1, 1) := dk_43 (dk_at dksX2_copyFrom_4 4 rfl rfl)
theorem dX2_copyFrom_100 : decode cX2_copyFrom 100 = .ok (.getfield 37, 3) := dk_180 0 37 (dk_at dksX2_copyFrom_4 5 rfl rfl)
theorem dX2_copyFrom_103 : decode cX2_copyFrom 103 = .ok (.putfield 37, 3) := dk_181 0 37 (dk_at dksX2_copyFrom_4 8 rfl rfl)
theorem dX2_copyFrom_106 : decode cX2_copyFrom 106 = .ok (.aload_n 0, 1) := dk_42 (dk_at dksX2_copyFrom_4 11 rfl rfl)
theorem dX2_copyFrom_107 : decode cX2_copyFrom 107 = .ok (.aload_n 1, 1) := dk_43 (dk_at dksX2_copyFrom_4 12 rfl rfl)
theorem dX2_copyFrom_108 : decode cX2_copyFrom 108 = .ok (.getfield 40, 3) := dk_180 0 40 (dk_at dksX2_copyFrom_4 13 rfl rfl)
theorem dX2_copyFrom_111 : decode cX2_copyFrom 111 = .ok (.putfield 40, 3) := dk_181 0 40 (dk_at dksX2_copyFrom_4 16 rfl rfl)
theorem dX2_copyFrom_114 : decode cX2_copyFrom 114 = .ok (.return_, 1) := dk_177 (dk_at dksX2_copyFrom_4 19 rfl rfl)
abbrev cX2_isAway : ByteArray := prog_13_method_7_code
def yX2_isAway : MethodName := ⟨RX2, "isAway", "()Z"⟩
def dkwX2_isAway_0 : List UInt8 := [42, 180, 0, 37, 158, 0, 7, 4, 167, 0, 4, 3, 172]
abbrev dktX2_isAway_0 : List UInt8 := dkwX2_isAway_0 ++ []
theorem dksX2_isAway_0 : cX2_isAway.data.toList.drop 0 = dktX2_isAway_0 := by decide +kernel
theorem dX2_isAway_0 : decode cX2_isAway 0 = .ok (.aload_n 0, 1) := dk_42 (dk_at dksX2_isAway_0 0 rfl rfl)
theorem dX2_isAway_1 : decode cX2_isAway 1 = .ok (.getfield 37, 3) := dk_180 0 37 (dk_at dksX2_isAway_0 1 rfl rfl)
theorem dX2_isAway_4 : decode cX2_isAway 4 = .ok (.ifCond .le 7, 3) := dk_158 0 7 (dk_at dksX2_isAway_0 4 rfl rfl)
theorem dX2_isAway_7 : decode cX2_isAway 7 = .ok (.iconst 1, 1) := dk_4 (dk_at dksX2_isAway_0 7 rfl rfl)
theorem dX2_isAway_8 : decode cX2_isAway 8 = .ok (.goto 4, 3) := dk_167 0 4 (dk_at dksX2_isAway_0 8 rfl rfl)
theorem dX2_isAway_11 : decode cX2_isAway 11 = .ok (.iconst 0, 1) := dk_3 (dk_at dksX2_isAway_0 11 rfl rfl)
theorem dX2_isAway_12 : decode cX2_isAway 12 = .ok (.ireturn, 1) := dk_172 (dk_at dksX2_isAway_0 12 rfl rfl)
abbrev cX2_isAtFire : ByteArray := prog_13_method_8_code
def yX2_isAtFire : MethodName := ⟨RX2, "isAtFire", "()Z"⟩
def dkwX2_isAtFire_1 : List UInt8 := [46, 158, 0, 7, 4, 167, 0, 4, 3, 172]
abbrev dktX2_isAtFire_1 : List UInt8 := dkwX2_isAtFire_1 ++ []
def dkwX2_isAtFire_0 : List UInt8 := [42, 182, 0, 67, 154, 0, 28, 42, 180, 0, 31, 158, 0, 21, 42, 180, 0, 15, 42, 180, 0, 31, 4, 100]
abbrev dktX2_isAtFire_0 : List UInt8 := dkwX2_isAtFire_0 ++ dktX2_isAtFire_1
theorem dksX2_isAtFire_0 : cX2_isAtFire.data.toList.drop 0 = dktX2_isAtFire_0 := by decide +kernel
theorem dksX2_isAtFire_1 : cX2_isAtFire.data.toList.drop 24 = dktX2_isAtFire_1 := dk_seg dksX2_isAtFire_0 24 rfl rfl
theorem dX2_isAtFire_0 : decode cX2_isAtFire 0 = .ok (.aload_n 0, 1) := dk_42 (dk_at dksX2_isAtFire_0 0 rfl rfl)
theorem dX2_isAtFire_1 : decode cX2_isAtFire 1 = .ok (.invokevirtual 67, 3) := dk_182 0 67 (dk_at dksX2_isAtFire_0 1 rfl rfl)
theorem dX2_isAtFire_4 : decode cX2_isAtFire 4 = .ok (.ifCond .ne 28, 3) := dk_154 0 28 (dk_at dksX2_isAtFire_0 4 rfl rfl)
theorem dX2_isAtFire_7 : decode cX2_isAtFire 7 = .ok (.aload_n 0, 1) := dk_42 (dk_at dksX2_isAtFire_0 7 rfl rfl)
theorem dX2_isAtFire_8 : decode cX2_isAtFire 8 = .ok (.getfield 31, 3) := dk_180 0 31 (dk_at dksX2_isAtFire_0 8 rfl rfl)
theorem dX2_isAtFire_11 : decode cX2_isAtFire 11 = .ok (.ifCond .le 21, 3) := dk_158 0 21 (dk_at dksX2_isAtFire_0 11 rfl rfl)
theorem dX2_isAtFire_14 : decode cX2_isAtFire 14 = .ok (.aload_n 0, 1) := dk_42 (dk_at dksX2_isAtFire_0 14 rfl rfl)
theorem dX2_isAtFire_15 : decode cX2_isAtFire 15 = .ok (.getfield 15, 3) := dk_180 0 15 (dk_at dksX2_isAtFire_0 15 rfl rfl)
theorem dX2_isAtFire_18 : decode cX2_isAtFire 18 = .ok (.aload_n 0, 1) := dk_42 (dk_at dksX2_isAtFire_0 18 rfl rfl)
theorem dX2_isAtFire_19 : decode cX2_isAtFire 19 = .ok (.getfield 31, 3) := dk_180 0 31 (dk_at dksX2_isAtFire_0 19 rfl rfl)
theorem dX2_isAtFire_22 : decode cX2_isAtFire 22 = .ok (.iconst 1, 1) := dk_4 (dk_at dksX2_isAtFire_0 22 rfl rfl)
theorem dX2_isAtFire_23 : decode cX2_isAtFire 23 = .ok (.isub, 1) := dk_100 (dk_at dksX2_isAtFire_0 23 rfl rfl)
theorem dX2_isAtFire_24 : decode cX2_isAtFire 24 = .ok (.iaload, 1) := dk_46 (dk_at dksX2_isAtFire_1 0 rfl rfl)
theorem dX2_isAtFire_25 : decode cX2_isAtFire 25 = .ok (.ifCond .le 7, 3) := dk_158 0 7 (dk_at dksX2_isAtFire_1 1 rfl rfl)
theorem dX2_isAtFire_28 : decode cX2_isAtFire 28 = .ok (.iconst 1, 1) := dk_4 (dk_at dksX2_isAtFire_1 4 rfl rfl)
theorem dX2_isAtFire_29 : decode cX2_isAtFire 29 = .ok (.goto 4, 3) := dk_167 0 4 (dk_at dksX2_isAtFire_1 5 rfl rfl)
theorem dX2_isAtFire_32 : decode cX2_isAtFire 32 = .ok (.iconst 0, 1) := dk_3 (dk_at dksX2_isAtFire_1 8 rfl rfl)
theorem dX2_isAtFire_33 : decode cX2_isAtFire 33 = .ok (.ireturn, 1) := dk_172 (dk_at dksX2_isAtFire_1 9 rfl rfl)
abbrev cX2_fires : ByteArray := prog_13_method_4_code
def yX2_fires : MethodName := ⟨RX2, "fires", "()I"⟩
def dkwX2_fires_1 : List UInt8 := [167, 0, 4, 3, 128, 60, 132, 2, 1, 167, 255, 228, 27, 172]
abbrev dktX2_fires_1 : List UInt8 := dkwX2_fires_1 ++ []
def dkwX2_fires_0 : List UInt8 := [3, 60, 3, 61, 28, 16, 6, 162, 0, 28, 27, 42, 180, 0, 15, 28, 46, 158, 0, 9, 4, 28, 120]
abbrev dktX2_fires_0 : List UInt8 := dkwX2_fires_0 ++ dktX2_fires_1
theorem dksX2_fires_0 : cX2_fires.data.toList.drop 0 = dktX2_fires_0 := by decide +kernel
theorem dksX2_fires_1 : cX2_fires.data.toList.drop 23 = dktX2_fires_1 := dk_seg dksX2_fires_0 23 rfl rfl
theorem dX2_fires_0 : decode cX2_fires 0 = .ok (.iconst 0, 1) := dk_3 (dk_at dksX2_fires_0 0 rfl rfl)
theorem dX2_fires_1 : decode cX2_fires 1 = .ok (.istore_n 1, 1) := dk_60 (dk_at dksX2_fires_0 1 rfl rfl)
theorem dX2_fires_2 : decode cX2_fires 2 = .ok (.iconst 0, 1) := dk_3 (dk_at dksX2_fires_0 2 rfl rfl)
theorem dX2_fires_3 : decode cX2_fires 3 = .ok (.istore_n 2, 1) := dk_61 (dk_at dksX2_fires_0 3 rfl rfl)
theorem dX2_fires_4 : decode cX2_fires 4 = .ok (.iload_n 2, 1) := dk_28 (dk_at dksX2_fires_0 4 rfl rfl)
theorem dX2_fires_5 : decode cX2_fires 5 = .ok (.bipush 6, 2) := dk_16 6 (dk_at dksX2_fires_0 5 rfl rfl)
theorem dX2_fires_7 : decode cX2_fires 7 = .ok (.if_icmp .ge 28, 3) := dk_162 0 28 (dk_at dksX2_fires_0 7 rfl rfl)
theorem dX2_fires_10 : decode cX2_fires 10 = .ok (.iload_n 1, 1) := dk_27 (dk_at dksX2_fires_0 10 rfl rfl)
theorem dX2_fires_11 : decode cX2_fires 11 = .ok (.aload_n 0, 1) := dk_42 (dk_at dksX2_fires_0 11 rfl rfl)
theorem dX2_fires_12 : decode cX2_fires 12 = .ok (.getfield 15, 3) := dk_180 0 15 (dk_at dksX2_fires_0 12 rfl rfl)
theorem dX2_fires_15 : decode cX2_fires 15 = .ok (.iload_n 2, 1) := dk_28 (dk_at dksX2_fires_0 15 rfl rfl)
theorem dX2_fires_16 : decode cX2_fires 16 = .ok (.iaload, 1) := dk_46 (dk_at dksX2_fires_0 16 rfl rfl)
theorem dX2_fires_17 : decode cX2_fires 17 = .ok (.ifCond .le 9, 3) := dk_158 0 9 (dk_at dksX2_fires_0 17 rfl rfl)
theorem dX2_fires_20 : decode cX2_fires 20 = .ok (.iconst 1, 1) := dk_4 (dk_at dksX2_fires_0 20 rfl rfl)
theorem dX2_fires_21 : decode cX2_fires 21 = .ok (.iload_n 2, 1) := dk_28 (dk_at dksX2_fires_0 21 rfl rfl)
theorem dX2_fires_22 : decode cX2_fires 22 = .ok (.ishl, 1) := dk_120 (dk_at dksX2_fires_0 22 rfl rfl)
theorem dX2_fires_23 : decode cX2_fires 23 = .ok (.goto 4, 3) := dk_167 0 4 (dk_at dksX2_fires_1 0 rfl rfl)
theorem dX2_fires_26 : decode cX2_fires 26 = .ok (.iconst 0, 1) := dk_3 (dk_at dksX2_fires_1 3 rfl rfl)
theorem dX2_fires_27 : decode cX2_fires 27 = .ok (.ior, 1) := dk_128 (dk_at dksX2_fires_1 4 rfl rfl)
theorem dX2_fires_28 : decode cX2_fires 28 = .ok (.istore_n 1, 1) := dk_60 (dk_at dksX2_fires_1 5 rfl rfl)
theorem dX2_fires_29 : decode cX2_fires 29 = .ok (.iinc 2 1, 3) := dk_132 2 1 (dk_at dksX2_fires_1 6 rfl rfl)
theorem dX2_fires_32 : decode cX2_fires 32 = .ok (.goto (-28), 3) := dk_167 255 228 (dk_at dksX2_fires_1 9 rfl rfl)
theorem dX2_fires_35 : decode cX2_fires 35 = .ok (.iload_n 1, 1) := dk_27 (dk_at dksX2_fires_1 12 rfl rfl)
theorem dX2_fires_36 : decode cX2_fires 36 = .ok (.ireturn, 1) := dk_172 (dk_at dksX2_fires_1 13 rfl rfl)
abbrev cX2_gone : ByteArray := prog_13_method_6_code
def yX2_gone : MethodName := ⟨RX2, "gone", "()I"⟩
def dkwX2_gone_1 : List UInt8 := [167, 255, 238, 27, 172]
abbrev dktX2_gone_1 : List UInt8 := dkwX2_gone_1 ++ []
def dkwX2_gone_0 : List UInt8 := [3, 60, 3, 61, 28, 16, 6, 162, 0, 18, 27, 42, 180, 0, 21, 28, 46, 96, 60, 132, 2, 1]
abbrev dktX2_gone_0 : List UInt8 := dkwX2_gone_0 ++ dktX2_gone_1
theorem dksX2_gone_0 : cX2_gone.data.toList.drop 0 = dktX2_gone_0 := by decide +kernel
theorem dksX2_gone_1 : cX2_gone.data.toList.drop 22 = dktX2_gone_1 := dk_seg dksX2_gone_0 22 rfl rfl
theorem dX2_gone_0 : decode cX2_gone 0 = .ok (.iconst 0, 1) := dk_3 (dk_at dksX2_gone_0 0 rfl rfl)
theorem dX2_gone_1 : decode cX2_gone 1 = .ok (.istore_n 1, 1) := dk_60 (dk_at dksX2_gone_0 1 rfl rfl)
theorem dX2_gone_2 : decode cX2_gone 2 = .ok (.iconst 0, 1) := dk_3 (dk_at dksX2_gone_0 2 rfl rfl)
theorem dX2_gone_3 : decode cX2_gone 3 = .ok (.istore_n 2, 1) := dk_61 (dk_at dksX2_gone_0 3 rfl rfl)
theorem dX2_gone_4 : decode cX2_gone 4 = .ok (.iload_n 2, 1) := dk_28 (dk_at dksX2_gone_0 4 rfl rfl)
theorem dX2_gone_5 : decode cX2_gone 5 = .ok (.bipush 6, 2) := dk_16 6 (dk_at dksX2_gone_0 5 rfl rfl)
theorem dX2_gone_7 : decode cX2_gone 7 = .ok (.if_icmp .ge 18, 3) := dk_162 0 18 (dk_at dksX2_gone_0 7 rfl rfl)
theorem dX2_gone_10 : decode cX2_gone 10 = .ok (.iload_n 1, 1) := dk_27 (dk_at dksX2_gone_0 10 rfl rfl)
theorem dX2_gone_11 : decode cX2_gone 11 = .ok (.aload_n 0, 1) := dk_42 (dk_at dksX2_gone_0 11 rfl rfl)
theorem dX2_gone_12 : decode cX2_gone 12 = .ok (.getfield 21, 3) := dk_180 0 21 (dk_at dksX2_gone_0 12 rfl rfl)
theorem dX2_gone_15 : decode cX2_gone 15 = .ok (.iload_n 2, 1) := dk_28 (dk_at dksX2_gone_0 15 rfl rfl)
theorem dX2_gone_16 : decode cX2_gone 16 = .ok (.iaload, 1) := dk_46 (dk_at dksX2_gone_0 16 rfl rfl)
theorem dX2_gone_17 : decode cX2_gone 17 = .ok (.iadd, 1) := dk_96 (dk_at dksX2_gone_0 17 rfl rfl)
theorem dX2_gone_18 : decode cX2_gone 18 = .ok (.istore_n 1, 1) := dk_60 (dk_at dksX2_gone_0 18 rfl rfl)
theorem dX2_gone_19 : decode cX2_gone 19 = .ok (.iinc 2 1, 3) := dk_132 2 1 (dk_at dksX2_gone_0 19 rfl rfl)
theorem dX2_gone_22 : decode cX2_gone 22 = .ok (.goto (-18), 3) := dk_167 255 238 (dk_at dksX2_gone_1 0 rfl rfl)
theorem dX2_gone_25 : decode cX2_gone 25 = .ok (.iload_n 1, 1) := dk_27 (dk_at dksX2_gone_1 3 rfl rfl)
theorem dX2_gone_26 : decode cX2_gone 26 = .ok (.ireturn, 1) := dk_172 (dk_at dksX2_gone_1 4 rfl rfl)
abbrev cX2_sends : ByteArray := prog_13_method_9_code
def yX2_sends : MethodName := ⟨RX2, "sends", "(LSmokeWord$Valley;I)V"⟩
def dkwX2_sends_1 : List UInt8 := [42, 180, 0, 34, 182, 0, 71, 181, 0, 37, 177]
abbrev dktX2_sends_1 : List UInt8 := dkwX2_sends_1 ++ []
def dkwX2_sends_0 : List UInt8 := [28, 4, 96, 42, 180, 0, 31, 160, 0, 4, 177, 42, 28, 4, 96, 181, 0, 34, 42, 43, 42, 180, 0, 31]
abbrev dktX2_sends_0 : List UInt8 := dkwX2_sends_0 ++ dktX2_sends_1
theorem dksX2_sends_0 : cX2_sends.data.toList.drop 0 = dktX2_sends_0 := by decide +kernel
theorem dksX2_sends_1 : cX2_sends.data.toList.drop 24 = dktX2_sends_1 := dk_seg dksX2_sends_0 24 rfl rfl
theorem dX2_sends_0 : decode cX2_sends 0 = .ok (.iload_n 2, 1) := dk_28 (dk_at dksX2_sends_0 0 rfl rfl)
theorem dX2_sends_1 : decode cX2_sends 1 = .ok (.iconst 1, 1) := dk_4 (dk_at dksX2_sends_0 1 rfl rfl)
theorem dX2_sends_2 : decode cX2_sends 2 = .ok (.iadd, 1) := dk_96 (dk_at dksX2_sends_0 2 rfl rfl)
theorem dX2_sends_3 : decode cX2_sends 3 = .ok (.aload_n 0, 1) := dk_42 (dk_at dksX2_sends_0 3 rfl rfl)
theorem dX2_sends_4 : decode cX2_sends 4 = .ok (.getfield 31, 3) := dk_180 0 31 (dk_at dksX2_sends_0 4 rfl rfl)
theorem dX2_sends_7 : decode cX2_sends 7 = .ok (.if_icmp .ne 4, 3) := dk_160 0 4 (dk_at dksX2_sends_0 7 rfl rfl)
theorem dX2_sends_10 : decode cX2_sends 10 = .ok (.return_, 1) := dk_177 (dk_at dksX2_sends_0 10 rfl rfl)
theorem dX2_sends_11 : decode cX2_sends 11 = .ok (.aload_n 0, 1) := dk_42 (dk_at dksX2_sends_0 11 rfl rfl)
theorem dX2_sends_12 : decode cX2_sends 12 = .ok (.iload_n 2, 1) := dk_28 (dk_at dksX2_sends_0 12 rfl rfl)
theorem dX2_sends_13 : decode cX2_sends 13 = .ok (.iconst 1, 1) := dk_4 (dk_at dksX2_sends_0 13 rfl rfl)
theorem dX2_sends_14 : decode cX2_sends 14 = .ok (.iadd, 1) := dk_96 (dk_at dksX2_sends_0 14 rfl rfl)
theorem dX2_sends_15 : decode cX2_sends 15 = .ok (.putfield 34, 3) := dk_181 0 34 (dk_at dksX2_sends_0 15 rfl rfl)
theorem dX2_sends_18 : decode cX2_sends 18 = .ok (.aload_n 0, 1) := dk_42 (dk_at dksX2_sends_0 18 rfl rfl)
theorem dX2_sends_19 : decode cX2_sends 19 = .ok (.aload_n 1, 1) := dk_43 (dk_at dksX2_sends_0 19 rfl rfl)
theorem dX2_sends_20 : decode cX2_sends 20 = .ok (.aload_n 0, 1) := dk_42 (dk_at dksX2_sends_0 20 rfl rfl)
theorem dX2_sends_21 : decode cX2_sends 21 = .ok (.getfield 31, 3) := dk_180 0 31 (dk_at dksX2_sends_0 21 rfl rfl)
theorem dX2_sends_24 : decode cX2_sends 24 = .ok (.aload_n 0, 1) := dk_42 (dk_at dksX2_sends_1 0 rfl rfl)
theorem dX2_sends_25 : decode cX2_sends 25 = .ok (.getfield 34, 3) := dk_180 0 34 (dk_at dksX2_sends_1 1 rfl rfl)
theorem dX2_sends_28 : decode cX2_sends 28 = .ok (.invokevirtual 71, 3) := dk_182 0 71 (dk_at dksX2_sends_1 4 rfl rfl)
theorem dX2_sends_31 : decode cX2_sends 31 = .ok (.putfield 37, 3) := dk_181 0 37 (dk_at dksX2_sends_1 7 rfl rfl)
theorem dX2_sends_34 : decode cX2_sends 34 = .ok (.return_, 1) := dk_177 (dk_at dksX2_sends_1 10 rfl rfl)
abbrev cX2_goesOn : ByteArray := prog_13_method_10_code
def yX2_goesOn : MethodName := ⟨RX2, "goesOn", "()V"⟩
def dkwX2_goesOn_1 : List UInt8 := [158, 0, 4, 177, 42, 42, 180, 0, 34, 181, 0, 31, 42, 2, 181, 0, 34, 177]
abbrev dktX2_goesOn_1 : List UInt8 := dkwX2_goesOn_1 ++ []
def dkwX2_goesOn_0 : List UInt8 := [42, 182, 0, 67, 154, 0, 4, 177, 42, 89, 180, 0, 37, 4, 100, 181, 0, 37, 42, 180, 0, 37]
abbrev dktX2_goesOn_0 : List UInt8 := dkwX2_goesOn_0 ++ dktX2_goesOn_1
theorem dksX2_goesOn_0 : cX2_goesOn.data.toList.drop 0 = dktX2_goesOn_0 := by decide +kernel
theorem dksX2_goesOn_1 : cX2_goesOn.data.toList.drop 22 = dktX2_goesOn_1 := dk_seg dksX2_goesOn_0 22 rfl rfl
theorem dX2_goesOn_0 : decode cX2_goesOn 0 = .ok (.aload_n 0, 1) := dk_42 (dk_at dksX2_goesOn_0 0 rfl rfl)
theorem dX2_goesOn_1 : decode cX2_goesOn 1 = .ok (.invokevirtual 67, 3) := dk_182 0 67 (dk_at dksX2_goesOn_0 1 rfl rfl)
theorem dX2_goesOn_4 : decode cX2_goesOn 4 = .ok (.ifCond .ne 4, 3) := dk_154 0 4 (dk_at dksX2_goesOn_0 4 rfl rfl)
theorem dX2_goesOn_7 : decode cX2_goesOn 7 = .ok (.return_, 1) := dk_177 (dk_at dksX2_goesOn_0 7 rfl rfl)
theorem dX2_goesOn_8 : decode cX2_goesOn 8 = .ok (.aload_n 0, 1) := dk_42 (dk_at dksX2_goesOn_0 8 rfl rfl)
theorem dX2_goesOn_9 : decode cX2_goesOn 9 = .ok (.dup, 1) := dk_89 (dk_at dksX2_goesOn_0 9 rfl rfl)
theorem dX2_goesOn_10 : decode cX2_goesOn 10 = .ok (.getfield 37, 3) := dk_180 0 37 (dk_at dksX2_goesOn_0 10 rfl rfl)
theorem dX2_goesOn_13 : decode cX2_goesOn 13 = .ok (.iconst 1, 1) := dk_4 (dk_at dksX2_goesOn_0 13 rfl rfl)
theorem dX2_goesOn_14 : decode cX2_goesOn 14 = .ok (.isub, 1) := dk_100 (dk_at dksX2_goesOn_0 14 rfl rfl)
theorem dX2_goesOn_15 : decode cX2_goesOn 15 = .ok (.putfield 37, 3) := dk_181 0 37 (dk_at dksX2_goesOn_0 15 rfl rfl)
theorem dX2_goesOn_18 : decode cX2_goesOn 18 = .ok (.aload_n 0, 1) := dk_42 (dk_at dksX2_goesOn_0 18 rfl rfl)
theorem dX2_goesOn_19 : decode cX2_goesOn 19 = .ok (.getfield 37, 3) := dk_180 0 37 (dk_at dksX2_goesOn_0 19 rfl rfl)
theorem dX2_goesOn_22 : decode cX2_goesOn 22 = .ok (.ifCond .le 4, 3) := dk_158 0 4 (dk_at dksX2_goesOn_1 0 rfl rfl)
theorem dX2_goesOn_25 : decode cX2_goesOn 25 = .ok (.return_, 1) := dk_177 (dk_at dksX2_goesOn_1 3 rfl rfl)
theorem dX2_goesOn_26 : decode cX2_goesOn 26 = .ok (.aload_n 0, 1) := dk_42 (dk_at dksX2_goesOn_1 4 rfl rfl)
theorem dX2_goesOn_27 : decode cX2_goesOn 27 = .ok (.aload_n 0, 1) := dk_42 (dk_at dksX2_goesOn_1 5 rfl rfl)
theorem dX2_goesOn_28 : decode cX2_goesOn 28 = .ok (.getfield 34, 3) := dk_180 0 34 (dk_at dksX2_goesOn_1 6 rfl rfl)
theorem dX2_goesOn_31 : decode cX2_goesOn 31 = .ok (.putfield 31, 3) := dk_181 0 31 (dk_at dksX2_goesOn_1 9 rfl rfl)
theorem dX2_goesOn_34 : decode cX2_goesOn 34 = .ok (.aload_n 0, 1) := dk_42 (dk_at dksX2_goesOn_1 12 rfl rfl)
theorem dX2_goesOn_35 : decode cX2_goesOn 35 = .ok (.iconst (-1), 1) := dk_2 (dk_at dksX2_goesOn_1 13 rfl rfl)
theorem dX2_goesOn_36 : decode cX2_goesOn 36 = .ok (.putfield 34, 3) := dk_181 0 34 (dk_at dksX2_goesOn_1 14 rfl rfl)
theorem dX2_goesOn_39 : decode cX2_goesOn 39 = .ok (.return_, 1) := dk_177 (dk_at dksX2_goesOn_1 17 rfl rfl)
abbrev cX2_burn : ByteArray := prog_13_method_11_code
def yX2_burn : MethodName := ⟨RX2, "burn", "(LSmokeWord$Valley;)I"⟩
def dkwX2_burn_8 : List UInt8 := [184, 0, 89, 79, 132, 4, 1, 167, 255, 164, 42, 182, 0, 75, 28, 100, 172]
abbrev dktX2_burn_8 : List UInt8 := dkwX2_burn_8 ++ []
def dkwX2_burn_7 : List UInt8 := [42, 180, 0, 15, 21, 4, 43, 180, 0, 86, 21, 4, 46, 29, 126, 153, 0, 7, 4, 167, 0, 4, 3]
abbrev dktX2_burn_7 : List UInt8 := dkwX2_burn_7 ++ dktX2_burn_8
def dkwX2_burn_6 : List UInt8 := [42, 180, 0, 15, 21, 4, 16, 9, 42, 180, 0, 15, 21, 4, 46, 4, 96, 184, 0, 78, 79, 167, 0, 30]
abbrev dktX2_burn_6 : List UInt8 := dkwX2_burn_6 ++ dktX2_burn_7
def dkwX2_burn_5 : List UInt8 := [154, 0, 14, 42, 180, 0, 15, 21, 4, 3, 79, 167, 0, 64, 42, 180, 0, 15, 21, 4, 46, 158, 0, 27]
abbrev dktX2_burn_5 : List UInt8 := dkwX2_burn_5 ++ dktX2_burn_6
def dkwX2_burn_4 : List UInt8 := [132, 4, 1, 167, 255, 168, 3, 54, 4, 21, 4, 16, 6, 162, 0, 91, 42, 180, 0, 9, 21, 4, 46]
abbrev dktX2_burn_4 : List UInt8 := dkwX2_burn_4 ++ dktX2_burn_5
def dkwX2_burn_3 : List UInt8 := [180, 0, 15, 21, 4, 46, 43, 180, 0, 83, 161, 0, 10, 4, 21, 4, 120, 167, 0, 4, 3, 128, 62]
abbrev dktX2_burn_3 : List UInt8 := dkwX2_burn_3 ++ dktX2_burn_4
def dkwX2_burn_2 : List UInt8 := [42, 180, 0, 21, 21, 4, 92, 46, 21, 5, 96, 79, 29, 42, 180, 0, 9, 21, 4, 46, 158, 0, 24, 42]
abbrev dktX2_burn_2 : List UInt8 := dkwX2_burn_2 ++ dktX2_burn_3
def dkwX2_burn_1 : List UInt8 := [42, 180, 0, 15, 21, 4, 46, 184, 0, 78, 54, 5, 42, 180, 0, 9, 21, 4, 92, 46, 21, 5, 100, 79]
abbrev dktX2_burn_1 : List UInt8 := dkwX2_burn_1 ++ dktX2_burn_2
def dkwX2_burn_0 : List UInt8 := [42, 182, 0, 75, 61, 3, 62, 3, 54, 4, 21, 4, 16, 6, 162, 0, 87, 42, 180, 0, 9, 21, 4, 46]
abbrev dktX2_burn_0 : List UInt8 := dkwX2_burn_0 ++ dktX2_burn_1
theorem dksX2_burn_0 : cX2_burn.data.toList.drop 0 = dktX2_burn_0 := by decide +kernel
theorem dksX2_burn_1 : cX2_burn.data.toList.drop 24 = dktX2_burn_1 := dk_seg dksX2_burn_0 24 rfl rfl
theorem dksX2_burn_2 : cX2_burn.data.toList.drop 48 = dktX2_burn_2 := dk_seg dksX2_burn_1 24 rfl rfl
theorem dksX2_burn_3 : cX2_burn.data.toList.drop 72 = dktX2_burn_3 := dk_seg dksX2_burn_2 24 rfl rfl
theorem dksX2_burn_4 : cX2_burn.data.toList.drop 95 = dktX2_burn_4 := dk_seg dksX2_burn_3 23 rfl rfl
theorem dksX2_burn_5 : cX2_burn.data.toList.drop 118 = dktX2_burn_5 := dk_seg dksX2_burn_4 23 rfl rfl
theorem dksX2_burn_6 : cX2_burn.data.toList.drop 142 = dktX2_burn_6 := dk_seg dksX2_burn_5 24 rfl rfl
theorem dksX2_burn_7 : cX2_burn.data.toList.drop 166 = dktX2_burn_7 := dk_seg dksX2_burn_6 24 rfl rfl
theorem dksX2_burn_8 : cX2_burn.data.toList.drop 189 = dktX2_burn_8 := dk_seg dksX2_burn_7 23 rfl rfl
theorem dX2_burn_0 : decode cX2_burn 0 = .ok (.aload_n 0, 1) := dk_42 (dk_at dksX2_burn_0 0 rfl rfl)
theorem dX2_burn_1 : decode cX2_burn 1 = .ok (.invokevirtual 75, 3) := dk_182 0 75 (dk_at dksX2_burn_0 1 rfl rfl)
theorem dX2_burn_4 : decode cX2_burn 4 = .ok (.istore_n 2, 1) := dk_61 (dk_at dksX2_burn_0 4 rfl rfl)
theorem dX2_burn_5 : decode cX2_burn 5 = .ok (.iconst 0, 1) := dk_3 (dk_at dksX2_burn_0 5 rfl rfl)
theorem dX2_burn_6 : decode cX2_burn 6 = .ok (.istore_n 3, 1) := dk_62 (dk_at dksX2_burn_0 6 rfl rfl)
theorem dX2_burn_7 : decode cX2_burn 7 = .ok (.iconst 0, 1) := dk_3 (dk_at dksX2_burn_0 7 rfl rfl)
theorem dX2_burn_8 : decode cX2_burn 8 = .ok (.istore 4, 2) := dk_54 4 (dk_at dksX2_burn_0 8 rfl rfl)
theorem dX2_burn_10 : decode cX2_burn 10 = .ok (.iload 4, 2) := dk_21 4 (dk_at dksX2_burn_0 10 rfl rfl)
theorem dX2_burn_12 : decode cX2_burn 12 = .ok (.bipush 6, 2) := dk_16 6 (dk_at dksX2_burn_0 12 rfl rfl)
theorem dX2_burn_14 : decode cX2_burn 14 = .ok (.if_icmp .ge 87, 3) := dk_162 0 87 (dk_at dksX2_burn_0 14 rfl rfl)
theorem dX2_burn_17 : decode cX2_burn 17 = .ok (.aload_n 0, 1) := dk_42 (dk_at dksX2_burn_0 17 rfl rfl)
theorem dX2_burn_18 : decode cX2_burn 18 = .ok (.getfield 9, 3) := dk_180 0 9 (dk_at dksX2_burn_0 18 rfl rfl)
theorem dX2_burn_21 : decode cX2_burn 21 = .ok (.iload 4, 2) := dk_21 4 (dk_at dksX2_burn_0 21 rfl rfl)
theorem dX2_burn_23 : decode cX2_burn 23 = .ok (.iaload, 1) := dk_46 (dk_at dksX2_burn_0 23 rfl rfl)
theorem dX2_burn_24 : decode cX2_burn 24 = .ok (.aload_n 0, 1) := dk_42 (dk_at dksX2_burn_1 0 rfl rfl)
theorem dX2_burn_25 : decode cX2_burn 25 = .ok (.getfield 15, 3) := dk_180 0 15 (dk_at dksX2_burn_1 1 rfl rfl)
theorem dX2_burn_28 : decode cX2_burn 28 = .ok (.iload 4, 2) := dk_21 4 (dk_at dksX2_burn_1 4 rfl rfl)
theorem dX2_burn_30 : decode cX2_burn 30 = .ok (.iaload, 1) := dk_46 (dk_at dksX2_burn_1 6 rfl rfl)
theorem dX2_burn_31 : decode cX2_burn 31 = .ok (.invokestatic 78, 3) := dk_184 0 78 (dk_at dksX2_burn_1 7 rfl rfl)
theorem dX2_burn_34 : decode cX2_burn 34 = .ok (.istore 5, 2) := dk_54 5 (dk_at dksX2_burn_1 10 rfl rfl)
theorem dX2_burn_36 : decode cX2_burn 36 = .ok (.aload_n 0, 1) := dk_42 (dk_at dksX2_burn_1 12 rfl rfl)
theorem dX2_burn_37 : decode cX2_burn 37 = .ok (.getfield 9, 3) := dk_180 0 9 (dk_at dksX2_burn_1 13 rfl rfl)
theorem dX2_burn_40 : decode cX2_burn 40 = .ok (.iload 4, 2) := dk_21 4 (dk_at dksX2_burn_1 16 rfl rfl)
theorem dX2_burn_42 : decode cX2_burn 42 = .ok (.dup2, 1) := dk_92 (dk_at dksX2_burn_1 18 rfl rfl)
theorem dX2_burn_43 : decode cX2_burn 43 = .ok (.iaload, 1) := dk_46 (dk_at dksX2_burn_1 19 rfl rfl)
theorem dX2_burn_44 : decode cX2_burn 44 = .ok (.iload 5, 2) := dk_21 5 (dk_at dksX2_burn_1 20 rfl rfl)
theorem dX2_burn_46 : decode cX2_burn 46 = .ok (.isub, 1) := dk_100 (dk_at dksX2_burn_1 22 rfl rfl)
theorem dX2_burn_47 : decode cX2_burn 47 = .ok (.iastore, 1) := dk_79 (dk_at dksX2_burn_1 23 rfl rfl)
theorem dX2_burn_48 : decode cX2_burn 48 = .ok (.aload_n 0, 1) := dk_42 (dk_at dksX2_burn_2 0 rfl rfl)
theorem dX2_burn_49 : decode cX2_burn 49 = .ok (.getfield 21, 3) := dk_180 0 21 (dk_at dksX2_burn_2 1 rfl rfl)
theorem dX2_burn_52 : decode cX2_burn 52 = .ok (.iload 4, 2) := dk_21 4 (dk_at dksX2_burn_2 4 rfl rfl)
theorem dX2_burn_54 : decode cX2_burn 54 = .ok (.dup2, 1) := dk_92 (dk_at dksX2_burn_2 6 rfl rfl)
theorem dX2_burn_55 : decode cX2_burn 55 = .ok (.iaload, 1) := dk_46 (dk_at dksX2_burn_2 7 rfl rfl)
theorem dX2_burn_56 : decode cX2_burn 56 = .ok (.iload 5, 2) := dk_21 5 (dk_at dksX2_burn_2 8 rfl rfl)
theorem dX2_burn_58 : decode cX2_burn 58 = .ok (.iadd, 1) := dk_96 (dk_at dksX2_burn_2 10 rfl rfl)
theorem dX2_burn_59 : decode cX2_burn 59 = .ok (.iastore, 1) := dk_79 (dk_at dksX2_burn_2 11 rfl rfl)
theorem dX2_burn_60 : decode cX2_burn 60 = .ok (.iload_n 3, 1) := dk_29 (dk_at dksX2_burn_2 12 rfl rfl)
theorem dX2_burn_61 : decode cX2_burn 61 = .ok (.aload_n 0, 1) := dk_42 (dk_at dksX2_burn_2 13 rfl rfl)
theorem dX2_burn_62 : decode cX2_burn 62 = .ok (.getfield 9, 3) := dk_180 0 9 (dk_at dksX2_burn_2 14 rfl rfl)
theorem dX2_burn_65 : decode cX2_burn 65 = .ok (.iload 4, 2) := dk_21 4 (dk_at dksX2_burn_2 17 rfl rfl)
theorem dX2_burn_67 : decode cX2_burn 67 = .ok (.iaload, 1) := dk_46 (dk_at dksX2_burn_2 19 rfl rfl)
theorem dX2_burn_68 : decode cX2_burn 68 = .ok (.ifCond .le 24, 3) := dk_158 0 24 (dk_at dksX2_burn_2 20 rfl rfl)
theorem dX2_burn_71 : decode cX2_burn 71 = .ok (.aload_n 0, 1) := dk_42 (dk_at dksX2_burn_2 23 rfl rfl)
theorem dX2_burn_72 : decode cX2_burn 72 = .ok (.getfield 15, 3) := dk_180 0 15 (dk_at dksX2_burn_3 0 rfl rfl)
theorem dX2_burn_75 : decode cX2_burn 75 = .ok (.iload 4, 2) := dk_21 4 (dk_at dksX2_burn_3 3 rfl rfl)
theorem dX2_burn_77 : decode cX2_burn 77 = .ok (.iaload, 1) := dk_46 (dk_at dksX2_burn_3 5 rfl rfl)
theorem dX2_burn_78 : decode cX2_burn 78 = .ok (.aload_n 1, 1) := dk_43 (dk_at dksX2_burn_3 6 rfl rfl)
theorem dX2_burn_79 : decode cX2_burn 79 = .ok (.getfield 83, 3) := dk_180 0 83 (dk_at dksX2_burn_3 7 rfl rfl)
theorem dX2_burn_82 : decode cX2_burn 82 = .ok (.if_icmp .lt 10, 3) := dk_161 0 10 (dk_at dksX2_burn_3 10 rfl rfl)
theorem dX2_burn_85 : decode cX2_burn 85 = .ok (.iconst 1, 1) := dk_4 (dk_at dksX2_burn_3 13 rfl rfl)
theorem dX2_burn_86 : decode cX2_burn 86 = .ok (.iload 4, 2) := dk_21 4 (dk_at dksX2_burn_3 14 rfl rfl)
theorem dX2_burn_88 : decode cX2_burn 88 = .ok (.ishl, 1) := dk_120 (dk_at dksX2_burn_3 16 rfl rfl)
theorem dX2_burn_89 : decode cX2_burn 89 = .ok (.goto 4, 3) := dk_167 0 4 (dk_at dksX2_burn_3 17 rfl rfl)
theorem dX2_burn_92 : decode cX2_burn 92 = .ok (.iconst 0, 1) := dk_3 (dk_at dksX2_burn_3 20 rfl rfl)
theorem dX2_burn_93 : decode cX2_burn 93 = .ok (.ior, 1) := dk_128 (dk_at dksX2_burn_3 21 rfl rfl)
theorem dX2_burn_94 : decode cX2_burn 94 = .ok (.istore_n 3, 1) := dk_62 (dk_at dksX2_burn_3 22 rfl rfl)
theorem dX2_burn_95 : decode cX2_burn 95 = .ok (.iinc 4 1, 3) := dk_132 4 1 (dk_at dksX2_burn_4 0 rfl rfl)
theorem dX2_burn_98 : decode cX2_burn 98 = .ok (.goto (-88), 3) := dk_167 255 168 (dk_at dksX2_burn_4 3 rfl rfl)
theorem dX2_burn_101 : decode cX2_burn 101 = .ok (.iconst 0, 1) := dk_3 (dk_at dksX2_burn_4 6 rfl rfl)
theorem dX2_burn_102 : decode cX2_burn 102 = .ok (.istore 4, 2) := dk_54 4 (dk_at dksX2_burn_4 7 rfl rfl)
theorem dX2_burn_104 : decode cX2_burn 104 = .ok (.iload 4, 2) := dk_21 4 (dk_at dksX2_burn_4 9 rfl rfl)
theorem dX2_burn_106 : decode cX2_burn 106 = .ok (.bipush 6, 2) := dk_16 6 (dk_at dksX2_burn_4 11 rfl rfl)
theorem dX2_burn_108 : decode cX2_burn 108 = .ok (.if_icmp .ge 91, 3) := dk_162 0 91 (dk_at dksX2_burn_4 13 rfl rfl)
theorem dX2_burn_111 : decode cX2_burn 111 = .ok (.aload_n 0, 1) := dk_42 (dk_at dksX2_burn_4 16 rfl rfl)
theorem dX2_burn_112 : decode cX2_burn 112 = .ok (.getfield 9, 3) := dk_180 0 9 (dk_at dksX2_burn_4 17 rfl rfl)
theorem dX2_burn_115 : decode cX2_burn 115 = .ok (.iload 4, 2) := dk_21 4 (dk_at dksX2_burn_4 20 rfl rfl)
theorem dX2_burn_117 : decode cX2_burn 117 = .ok (.iaload, 1) := dk_46 (dk_at dksX2_burn_4 22 rfl rfl)
theorem dX2_burn_118 : decode cX2_burn 118 = .ok (.ifCond .ne 14, 3) := dk_154 0 14 (dk_at dksX2_burn_5 0 rfl rfl)
theorem dX2_burn_121 : decode cX2_burn 121 = .ok (.aload_n 0, 1) := dk_42 (dk_at dksX2_burn_5 3 rfl rfl)
theorem dX2_burn_122 : decode cX2_burn 122 = .ok (.getfield 15, 3) := dk_180 0 15 (dk_at dksX2_burn_5 4 rfl rfl)
theorem dX2_burn_125 : decode cX2_burn 125 = .ok (.iload 4, 2) := dk_21 4 (dk_at dksX2_burn_5 7 rfl rfl)
theorem dX2_burn_127 : decode cX2_burn 127 = .ok (.iconst 0, 1) := dk_3 (dk_at dksX2_burn_5 9 rfl rfl)
theorem dX2_burn_128 : decode cX2_burn 128 = .ok (.iastore, 1) := dk_79 (dk_at dksX2_burn_5 10 rfl rfl)
theorem dX2_burn_129 : decode cX2_burn 129 = .ok (.goto 64, 3) := dk_167 0 64 (dk_at dksX2_burn_5 11 rfl rfl)
theorem dX2_burn_132 : decode cX2_burn 132 = .ok (.aload_n 0, 1) := dk_42 (dk_at dksX2_burn_5 14 rfl rfl)
theorem dX2_burn_133 : decode cX2_burn 133 = .ok (.getfield 15, 3) := dk_180 0 15 (dk_at dksX2_burn_5 15 rfl rfl)
theorem dX2_burn_136 : decode cX2_burn 136 = .ok (.iload 4, 2) := dk_21 4 (dk_at dksX2_burn_5 18 rfl rfl)
theorem dX2_burn_138 : decode cX2_burn 138 = .ok (.iaload, 1) := dk_46 (dk_at dksX2_burn_5 20 rfl rfl)
theorem dX2_burn_139 : decode cX2_burn 139 = .ok (.ifCond .le 27, 3) := dk_158 0 27 (dk_at dksX2_burn_5 21 rfl rfl)
theorem dX2_burn_142 : decode cX2_burn 142 = .ok (.aload_n 0, 1) := dk_42 (dk_at dksX2_burn_6 0 rfl rfl)
theorem dX2_burn_143 : decode cX2_burn 143 = .ok (.getfield 15, 3) := dk_180 0 15 (dk_at dksX2_burn_6 1 rfl rfl)
theorem dX2_burn_146 : decode cX2_burn 146 = .ok (.iload 4, 2) := dk_21 4 (dk_at dksX2_burn_6 4 rfl rfl)
theorem dX2_burn_148 : decode cX2_burn 148 = .ok (.bipush 9, 2) := dk_16 9 (dk_at dksX2_burn_6 6 rfl rfl)
theorem dX2_burn_150 : decode cX2_burn 150 = .ok (.aload_n 0, 1) := dk_42 (dk_at dksX2_burn_6 8 rfl rfl)
theorem dX2_burn_151 : decode cX2_burn 151 = .ok (.getfield 15, 3) := dk_180 0 15 (dk_at dksX2_burn_6 9 rfl rfl)
theorem dX2_burn_154 : decode cX2_burn 154 = .ok (.iload 4, 2) := dk_21 4 (dk_at dksX2_burn_6 12 rfl rfl)
theorem dX2_burn_156 : decode cX2_burn 156 = .ok (.iaload, 1) := dk_46 (dk_at dksX2_burn_6 14 rfl rfl)
theorem dX2_burn_157 : decode cX2_burn 157 = .ok (.iconst 1, 1) := dk_4 (dk_at dksX2_burn_6 15 rfl rfl)
theorem dX2_burn_158 : decode cX2_burn 158 = .ok (.iadd, 1) := dk_96 (dk_at dksX2_burn_6 16 rfl rfl)
theorem dX2_burn_159 : decode cX2_burn 159 = .ok (.invokestatic 78, 3) := dk_184 0 78 (dk_at dksX2_burn_6 17 rfl rfl)
theorem dX2_burn_162 : decode cX2_burn 162 = .ok (.iastore, 1) := dk_79 (dk_at dksX2_burn_6 20 rfl rfl)
theorem dX2_burn_163 : decode cX2_burn 163 = .ok (.goto 30, 3) := dk_167 0 30 (dk_at dksX2_burn_6 21 rfl rfl)
theorem dX2_burn_166 : decode cX2_burn 166 = .ok (.aload_n 0, 1) := dk_42 (dk_at dksX2_burn_7 0 rfl rfl)
theorem dX2_burn_167 : decode cX2_burn 167 = .ok (.getfield 15, 3) := dk_180 0 15 (dk_at dksX2_burn_7 1 rfl rfl)
theorem dX2_burn_170 : decode cX2_burn 170 = .ok (.iload 4, 2) := dk_21 4 (dk_at dksX2_burn_7 4 rfl rfl)
theorem dX2_burn_172 : decode cX2_burn 172 = .ok (.aload_n 1, 1) := dk_43 (dk_at dksX2_burn_7 6 rfl rfl)
theorem dX2_burn_173 : decode cX2_burn 173 = .ok (.getfield 86, 3) := dk_180 0 86 (dk_at dksX2_burn_7 7 rfl rfl)
theorem dX2_burn_176 : decode cX2_burn 176 = .ok (.iload 4, 2) := dk_21 4 (dk_at dksX2_burn_7 10 rfl rfl)
theorem dX2_burn_178 : decode cX2_burn 178 = .ok (.iaload, 1) := dk_46 (dk_at dksX2_burn_7 12 rfl rfl)
theorem dX2_burn_179 : decode cX2_burn 179 = .ok (.iload_n 3, 1) := dk_29 (dk_at dksX2_burn_7 13 rfl rfl)
theorem dX2_burn_180 : decode cX2_burn 180 = .ok (.iand, 1) := dk_126 (dk_at dksX2_burn_7 14 rfl rfl)
theorem dX2_burn_181 : decode cX2_burn 181 = .ok (.ifCond .eq 7, 3) := dk_153 0 7 (dk_at dksX2_burn_7 15 rfl rfl)
theorem dX2_burn_184 : decode cX2_burn 184 = .ok (.iconst 1, 1) := dk_4 (dk_at dksX2_burn_7 18 rfl rfl)
theorem dX2_burn_185 : decode cX2_burn 185 = .ok (.goto 4, 3) := dk_167 0 4 (dk_at dksX2_burn_7 19 rfl rfl)
theorem dX2_burn_188 : decode cX2_burn 188 = .ok (.iconst 0, 1) := dk_3 (dk_at dksX2_burn_7 22 rfl rfl)
theorem dX2_burn_189 : decode cX2_burn 189 = .ok (.invokestatic 89, 3) := dk_184 0 89 (dk_at dksX2_burn_8 0 rfl rfl)
theorem dX2_burn_192 : decode cX2_burn 192 = .ok (.iastore, 1) := dk_79 (dk_at dksX2_burn_8 3 rfl rfl)
theorem dX2_burn_193 : decode cX2_burn 193 = .ok (.iinc 4 1, 3) := dk_132 4 1 (dk_at dksX2_burn_8 4 rfl rfl)
theorem dX2_burn_196 : decode cX2_burn 196 = .ok (.goto (-92), 3) := dk_167 255 164 (dk_at dksX2_burn_8 7 rfl rfl)
theorem dX2_burn_199 : decode cX2_burn 199 = .ok (.aload_n 0, 1) := dk_42 (dk_at dksX2_burn_8 10 rfl rfl)
theorem dX2_burn_200 : decode cX2_burn 200 = .ok (.invokevirtual 75, 3) := dk_182 0 75 (dk_at dksX2_burn_8 11 rfl rfl)
theorem dX2_burn_203 : decode cX2_burn 203 = .ok (.iload_n 2, 1) := dk_28 (dk_at dksX2_burn_8 14 rfl rfl)
theorem dX2_burn_204 : decode cX2_burn 204 = .ok (.isub, 1) := dk_100 (dk_at dksX2_burn_8 15 rfl rfl)
theorem dX2_burn_205 : decode cX2_burn 205 = .ok (.ireturn, 1) := dk_172 (dk_at dksX2_burn_8 16 rfl rfl)
abbrev cX2_left : ByteArray := prog_13_method_5_code
def yX2_left : MethodName := ⟨RX2, "left", "()I"⟩
def dkwX2_left_1 : List UInt8 := [167, 255, 238, 27, 172]
abbrev dktX2_left_1 : List UInt8 := dkwX2_left_1 ++ []
def dkwX2_left_0 : List UInt8 := [3, 60, 3, 61, 28, 16, 6, 162, 0, 18, 27, 42, 180, 0, 9, 28, 46, 96, 60, 132, 2, 1]
abbrev dktX2_left_0 : List UInt8 := dkwX2_left_0 ++ dktX2_left_1
theorem dksX2_left_0 : cX2_left.data.toList.drop 0 = dktX2_left_0 := by decide +kernel
theorem dksX2_left_1 : cX2_left.data.toList.drop 22 = dktX2_left_1 := dk_seg dksX2_left_0 22 rfl rfl
theorem dX2_left_0 : decode cX2_left 0 = .ok (.iconst 0, 1) := dk_3 (dk_at dksX2_left_0 0 rfl rfl)
theorem dX2_left_1 : decode cX2_left 1 = .ok (.istore_n 1, 1) := dk_60 (dk_at dksX2_left_0 1 rfl rfl)
theorem dX2_left_2 : decode cX2_left 2 = .ok (.iconst 0, 1) := dk_3 (dk_at dksX2_left_0 2 rfl rfl)
theorem dX2_left_3 : decode cX2_left 3 = .ok (.istore_n 2, 1) := dk_61 (dk_at dksX2_left_0 3 rfl rfl)
theorem dX2_left_4 : decode cX2_left 4 = .ok (.iload_n 2, 1) := dk_28 (dk_at dksX2_left_0 4 rfl rfl)
theorem dX2_left_5 : decode cX2_left 5 = .ok (.bipush 6, 2) := dk_16 6 (dk_at dksX2_left_0 5 rfl rfl)
theorem dX2_left_7 : decode cX2_left 7 = .ok (.if_icmp .ge 18, 3) := dk_162 0 18 (dk_at dksX2_left_0 7 rfl rfl)
theorem dX2_left_10 : decode cX2_left 10 = .ok (.iload_n 1, 1) := dk_27 (dk_at dksX2_left_0 10 rfl rfl)
theorem dX2_left_11 : decode cX2_left 11 = .ok (.aload_n 0, 1) := dk_42 (dk_at dksX2_left_0 11 rfl rfl)
theorem dX2_left_12 : decode cX2_left 12 = .ok (.getfield 9, 3) := dk_180 0 9 (dk_at dksX2_left_0 12 rfl rfl)
theorem dX2_left_15 : decode cX2_left 15 = .ok (.iload_n 2, 1) := dk_28 (dk_at dksX2_left_0 15 rfl rfl)
theorem dX2_left_16 : decode cX2_left 16 = .ok (.iaload, 1) := dk_46 (dk_at dksX2_left_0 16 rfl rfl)
theorem dX2_left_17 : decode cX2_left 17 = .ok (.iadd, 1) := dk_96 (dk_at dksX2_left_0 17 rfl rfl)
theorem dX2_left_18 : decode cX2_left 18 = .ok (.istore_n 1, 1) := dk_60 (dk_at dksX2_left_0 18 rfl rfl)
theorem dX2_left_19 : decode cX2_left 19 = .ok (.iinc 2 1, 3) := dk_132 2 1 (dk_at dksX2_left_0 19 rfl rfl)
theorem dX2_left_22 : decode cX2_left 22 = .ok (.goto (-18), 3) := dk_167 255 238 (dk_at dksX2_left_1 0 rfl rfl)
theorem dX2_left_25 : decode cX2_left 25 = .ok (.iload_n 1, 1) := dk_27 (dk_at dksX2_left_1 3 rfl rfl)
theorem dX2_left_26 : decode cX2_left 26 = .ok (.ireturn, 1) := dk_172 (dk_at dksX2_left_1 4 rfl rfl)
theorem q133 : (Jvm.Cond.initialized "SmokeWord$State") ∈ lw_all := lw_g (lw_at lw_m1 6 rfl) rfl
theorem q205 : (Jvm.Cond.fieldLinkNest "SmokeWord$State" (49 : Nat) "SmokeWord$Valley" "houses" "Ljava/util/ArrayList;" "SmokeWord") ∈ lw_tbl := lw_at lw_m1 78 rfl
theorem q210 : (Jvm.Cond.fieldLinkNest "SmokeWord$State" (86 : Nat) "SmokeWord$Valley" "beside" "[I" "SmokeWord") ∈ lw_tbl := lw_at lw_m1 83 rfl
theorem q213 : (Jvm.Cond.fieldLinkNest "SmokeWord$State" (66 : Nat) "SmokeWord$Valley" "water" "I" "SmokeWord") ∈ lw_tbl := lw_at lw_m1 86 rfl
theorem q217 : (Jvm.Cond.fieldLinkNest "SmokeWord$State" (83 : Nat) "SmokeWord$Valley" "leap" "I" "SmokeWord") ∈ lw_tbl := lw_at lw_m1 90 rfl
theorem q232 : (Jvm.Cond.instantiable "SmokeWord$State" (10 : Nat)) ∈ lw_all := lw_g (lw_at lw_m1 105 rfl) rfl
theorem q234 : (Jvm.Cond.instanceMethod ({ cls := "SmokeWord$State", name := "<init>", desc := "()V" } : Jvm.MethodName)) ∈ lw_all := lw_g (lw_at lw_m1 107 rfl) rfl
theorem q235 : (Jvm.Cond.code ({ cls := "SmokeWord$State", name := "<init>", desc := "()V" } : Jvm.MethodName) prog_13_method_1_code (1 : Nat) (Option.none : Option Jvm.ClassFile.FieldType)) ∈ lw_all := lw_g (lw_at lw_m1 108 rfl) rfl
theorem q236 : (Jvm.Cond.methodLink "SmokeWord$State" (3 : Nat) ({ cls := "java/lang/Object", name := "<init>", desc := "()V" } : Jvm.MethodName)) ∈ lw_all := lw_g (lw_at lw_m1 109 rfl) rfl
theorem q237 : (Jvm.Cond.fieldLink "SmokeWord$State" (9 : Nat) "SmokeWord$State" "worth" "[I") ∈ lw_all := lw_g (lw_at lw_m1 110 rfl) rfl
theorem q239 : (Jvm.Cond.fieldLink "SmokeWord$State" (15 : Nat) "SmokeWord$State" "heat" "[I") ∈ lw_all := lw_g (lw_at lw_m1 112 rfl) rfl
theorem q241 : (Jvm.Cond.fieldLink "SmokeWord$State" (18 : Nat) "SmokeWord$State" "says" "[I") ∈ lw_all := lw_g (lw_at lw_m1 114 rfl) rfl
theorem q243 : (Jvm.Cond.fieldLink "SmokeWord$State" (21 : Nat) "SmokeWord$State" "lost" "[I") ∈ lw_all := lw_g (lw_at lw_m1 116 rfl) rfl
theorem q245 : (Jvm.Cond.fieldLink "SmokeWord$State" (24 : Nat) "SmokeWord$State" "been" "[I") ∈ lw_all := lw_g (lw_at lw_m1 118 rfl) rfl
theorem q247 : (Jvm.Cond.fieldLink "SmokeWord$State" (27 : Nat) "SmokeWord$State" "water" "I") ∈ lw_all := lw_g (lw_at lw_m1 120 rfl) rfl
theorem q249 : (Jvm.Cond.fieldLink "SmokeWord$State" (31 : Nat) "SmokeWord$State" "place" "I") ∈ lw_all := lw_g (lw_at lw_m1 122 rfl) rfl
theorem q251 : (Jvm.Cond.fieldLink "SmokeWord$State" (34 : Nat) "SmokeWord$State" "to" "I") ∈ lw_all := lw_g (lw_at lw_m1 124 rfl) rfl
theorem q253 : (Jvm.Cond.fieldLink "SmokeWord$State" (37 : Nat) "SmokeWord$State" "togo" "I") ∈ lw_all := lw_g (lw_at lw_m1 126 rfl) rfl
theorem q255 : (Jvm.Cond.fieldLink "SmokeWord$State" (40 : Nat) "SmokeWord$State" "hour" "I") ∈ lw_all := lw_g (lw_at lw_m1 128 rfl) rfl
theorem q257 : (Jvm.Cond.laysFinal "SmokeWord$State" "SmokeWord$State" "worth" "[I") ∈ lw_all := lw_g (lw_at lw_m1 130 rfl) rfl
theorem q258 : (Jvm.Cond.soleField "SmokeWord$State" "worth") ∈ lw_all := lw_g (lw_at lw_m1 131 rfl) rfl
theorem q259 : (Jvm.Cond.laysFinal "SmokeWord$State" "SmokeWord$State" "heat" "[I") ∈ lw_all := lw_g (lw_at lw_m1 132 rfl) rfl
theorem q260 : (Jvm.Cond.soleField "SmokeWord$State" "heat") ∈ lw_all := lw_g (lw_at lw_m1 133 rfl) rfl
theorem q261 : (Jvm.Cond.laysFinal "SmokeWord$State" "SmokeWord$State" "says" "[I") ∈ lw_all := lw_g (lw_at lw_m1 134 rfl) rfl
theorem q262 : (Jvm.Cond.soleField "SmokeWord$State" "says") ∈ lw_all := lw_g (lw_at lw_m1 135 rfl) rfl
theorem q263 : (Jvm.Cond.laysFinal "SmokeWord$State" "SmokeWord$State" "lost" "[I") ∈ lw_all := lw_g (lw_at lw_m1 136 rfl) rfl
theorem q264 : (Jvm.Cond.soleField "SmokeWord$State" "lost") ∈ lw_all := lw_g (lw_at lw_m1 137 rfl) rfl
theorem q265 : (Jvm.Cond.laysFinal "SmokeWord$State" "SmokeWord$State" "been" "[I") ∈ lw_all := lw_g (lw_at lw_m1 138 rfl) rfl
theorem q266 : (Jvm.Cond.soleField "SmokeWord$State" "been") ∈ lw_all := lw_g (lw_at lw_m1 139 rfl) rfl
theorem q267 : (Jvm.Cond.lays "SmokeWord$State" "SmokeWord$State" "water" "I") ∈ lw_all := lw_g (lw_at lw_m1 140 rfl) rfl
theorem q268 : (Jvm.Cond.soleField "SmokeWord$State" "water") ∈ lw_all := lw_g (lw_at lw_m1 141 rfl) rfl
theorem q269 : (Jvm.Cond.lays "SmokeWord$State" "SmokeWord$State" "place" "I") ∈ lw_all := lw_g (lw_at lw_m1 142 rfl) rfl
theorem q270 : (Jvm.Cond.soleField "SmokeWord$State" "place") ∈ lw_all := lw_g (lw_at lw_m1 143 rfl) rfl
theorem q271 : (Jvm.Cond.lays "SmokeWord$State" "SmokeWord$State" "to" "I") ∈ lw_all := lw_g (lw_at lw_m1 144 rfl) rfl
theorem q272 : (Jvm.Cond.soleField "SmokeWord$State" "to") ∈ lw_all := lw_g (lw_at lw_m1 145 rfl) rfl
theorem q273 : (Jvm.Cond.lays "SmokeWord$State" "SmokeWord$State" "togo" "I") ∈ lw_all := lw_g (lw_at lw_m1 146 rfl) rfl
theorem q274 : (Jvm.Cond.soleField "SmokeWord$State" "togo") ∈ lw_all := lw_g (lw_at lw_m1 147 rfl) rfl
theorem q275 : (Jvm.Cond.lays "SmokeWord$State" "SmokeWord$State" "hour" "I") ∈ lw_all := lw_g (lw_at lw_m1 148 rfl) rfl
theorem q276 : (Jvm.Cond.soleField "SmokeWord$State" "hour") ∈ lw_all := lw_g (lw_at lw_m1 149 rfl) rfl
theorem q277 : (Jvm.Cond.superclass "SmokeWord$State" "java/lang/Object") ∈ lw_all := lw_g (lw_at lw_m1 150 rfl) rfl
theorem q606 : (Jvm.Cond.fieldLinkNest "SmokeWord$State" (60 : Nat) "SmokeWord$House" "worth" "I" "SmokeWord") ∈ lw_tbl := lw_at lw_m2 239 rfl
theorem q608 : (Jvm.Cond.fieldLinkNest "SmokeWord$State" (62 : Nat) "SmokeWord$House" "heat" "I" "SmokeWord") ∈ lw_tbl := lw_at lw_m3 1 rfl
theorem q610 : (Jvm.Cond.fieldLinkNest "SmokeWord$State" (64 : Nat) "SmokeWord$House" "says" "I" "SmokeWord") ∈ lw_tbl := lw_at lw_m3 3 rfl
theorem q663 : (Jvm.Cond.selects "SmokeWord$State" ({ cls := "java/lang/Object", name := "getClass", desc := "()Ljava/lang/Class;" } : Jvm.MethodName) ({ cls := "java/lang/Object", name := "getClass", desc := "()Ljava/lang/Class;" } : Jvm.MethodName)) ∈ lw_all := lw_g (lw_at lw_m3 56 rfl) rfl
theorem q710 : (Jvm.Cond.instanceMethod ({ cls := "SmokeWord$State", name := "begin", desc := "(LSmokeWord$Valley;)V" } : Jvm.MethodName)) ∈ lw_all := lw_g (lw_at lw_m3 103 rfl) rfl
theorem q711 : (Jvm.Cond.selects "SmokeWord$State" ({ cls := "SmokeWord$State", name := "begin", desc := "(LSmokeWord$Valley;)V" } : Jvm.MethodName) ({ cls := "SmokeWord$State", name := "begin", desc := "(LSmokeWord$Valley;)V" } : Jvm.MethodName)) ∈ lw_all := lw_g (lw_at lw_m3 104 rfl) rfl
theorem q712 : (Jvm.Cond.code ({ cls := "SmokeWord$State", name := "begin", desc := "(LSmokeWord$Valley;)V" } : Jvm.MethodName) prog_13_method_3_code (4 : Nat) (Option.none : Option Jvm.ClassFile.FieldType)) ∈ lw_all := lw_g (lw_at lw_m3 105 rfl) rfl
theorem q713 : (Jvm.Cond.methodLink "SmokeWord$State" (43 : Nat) ({ cls := "SmokeWord$Valley", name := "houses", desc := "()I" } : Jvm.MethodName)) ∈ lw_all := lw_g (lw_at lw_m3 106 rfl) rfl
theorem q714 : (Jvm.Cond.methodLink "SmokeWord$State" (52 : Nat) ({ cls := "java/util/ArrayList", name := "get", desc := "(I)Ljava/lang/Object;" } : Jvm.MethodName)) ∈ lw_all := lw_g (lw_at lw_m3 107 rfl) rfl
theorem q726 : (Jvm.Cond.classLink "SmokeWord$State" (58 : Nat) "SmokeWord$House") ∈ lw_all := lw_g (lw_at lw_m3 119 rfl) rfl
theorem q930 : (Jvm.Cond.instanceMethod ({ cls := "SmokeWord$State", name := "copyFrom", desc := "(LSmokeWord$State;)V" } : Jvm.MethodName)) ∈ lw_all := lw_g (lw_at lw_m4 83 rfl) rfl
theorem q931 : (Jvm.Cond.selects "SmokeWord$State" ({ cls := "SmokeWord$State", name := "copyFrom", desc := "(LSmokeWord$State;)V" } : Jvm.MethodName) ({ cls := "SmokeWord$State", name := "copyFrom", desc := "(LSmokeWord$State;)V" } : Jvm.MethodName)) ∈ lw_all := lw_g (lw_at lw_m4 84 rfl) rfl
theorem q932 : (Jvm.Cond.code ({ cls := "SmokeWord$State", name := "copyFrom", desc := "(LSmokeWord$State;)V" } : Jvm.MethodName) prog_13_method_2_code (3 : Nat) (Option.none : Option Jvm.ClassFile.FieldType)) ∈ lw_all := lw_g (lw_at lw_m4 85 rfl) rfl
theorem q951 : (Jvm.Cond.instanceMethod ({ cls := "SmokeWord$State", name := "isAway", desc := "()Z" } : Jvm.MethodName)) ∈ lw_all := lw_g (lw_at lw_m4 104 rfl) rfl
theorem q952 : (Jvm.Cond.selects "SmokeWord$State" ({ cls := "SmokeWord$State", name := "isAway", desc := "()Z" } : Jvm.MethodName) ({ cls := "SmokeWord$State", name := "isAway", desc := "()Z" } : Jvm.MethodName)) ∈ lw_all := lw_g (lw_at lw_m4 105 rfl) rfl
theorem q953 : (Jvm.Cond.code ({ cls := "SmokeWord$State", name := "isAway", desc := "()Z" } : Jvm.MethodName) prog_13_method_7_code (1 : Nat) (Option.some Jvm.ClassFile.FieldType.boolean)) ∈ lw_all := lw_g (lw_at lw_m4 106 rfl) rfl
theorem q955 : (Jvm.Cond.instanceMethod ({ cls := "SmokeWord$State", name := "isAtFire", desc := "()Z" } : Jvm.MethodName)) ∈ lw_all := lw_g (lw_at lw_m4 108 rfl) rfl
theorem q956 : (Jvm.Cond.selects "SmokeWord$State" ({ cls := "SmokeWord$State", name := "isAtFire", desc := "()Z" } : Jvm.MethodName) ({ cls := "SmokeWord$State", name := "isAtFire", desc := "()Z" } : Jvm.MethodName)) ∈ lw_all := lw_g (lw_at lw_m4 109 rfl) rfl
theorem q957 : (Jvm.Cond.code ({ cls := "SmokeWord$State", name := "isAtFire", desc := "()Z" } : Jvm.MethodName) prog_13_method_8_code (1 : Nat) (Option.some Jvm.ClassFile.FieldType.boolean)) ∈ lw_all := lw_g (lw_at lw_m4 110 rfl) rfl
theorem q958 : (Jvm.Cond.methodLink "SmokeWord$State" (67 : Nat) ({ cls := "SmokeWord$State", name := "isAway", desc := "()Z" } : Jvm.MethodName)) ∈ lw_all := lw_g (lw_at lw_m4 111 rfl) rfl
theorem q983 : (Jvm.Cond.instanceMethod ({ cls := "SmokeWord$State", name := "fires", desc := "()I" } : Jvm.MethodName)) ∈ lw_all := lw_g (lw_at lw_m4 136 rfl) rfl
theorem q984 : (Jvm.Cond.selects "SmokeWord$State" ({ cls := "SmokeWord$State", name := "fires", desc := "()I" } : Jvm.MethodName) ({ cls := "SmokeWord$State", name := "fires", desc := "()I" } : Jvm.MethodName)) ∈ lw_all := lw_g (lw_at lw_m4 137 rfl) rfl
theorem q985 : (Jvm.Cond.code ({ cls := "SmokeWord$State", name := "fires", desc := "()I" } : Jvm.MethodName) prog_13_method_4_code (3 : Nat) (Option.some Jvm.ClassFile.FieldType.int)) ∈ lw_all := lw_g (lw_at lw_m4 138 rfl) rfl
theorem q993 : (Jvm.Cond.instanceMethod ({ cls := "SmokeWord$State", name := "gone", desc := "()I" } : Jvm.MethodName)) ∈ lw_all := lw_g (lw_at lw_m4 146 rfl) rfl
theorem q994 : (Jvm.Cond.selects "SmokeWord$State" ({ cls := "SmokeWord$State", name := "gone", desc := "()I" } : Jvm.MethodName) ({ cls := "SmokeWord$State", name := "gone", desc := "()I" } : Jvm.MethodName)) ∈ lw_all := lw_g (lw_at lw_m4 147 rfl) rfl
theorem q995 : (Jvm.Cond.code ({ cls := "SmokeWord$State", name := "gone", desc := "()I" } : Jvm.MethodName) prog_13_method_6_code (3 : Nat) (Option.some Jvm.ClassFile.FieldType.int)) ∈ lw_all := lw_g (lw_at lw_m4 148 rfl) rfl
theorem q1038 : (Jvm.Cond.instanceMethod ({ cls := "SmokeWord$State", name := "sends", desc := "(LSmokeWord$Valley;I)V" } : Jvm.MethodName)) ∈ lw_all := lw_g (lw_at lw_m4 191 rfl) rfl
theorem q1039 : (Jvm.Cond.selects "SmokeWord$State" ({ cls := "SmokeWord$State", name := "sends", desc := "(LSmokeWord$Valley;I)V" } : Jvm.MethodName) ({ cls := "SmokeWord$State", name := "sends", desc := "(LSmokeWord$Valley;I)V" } : Jvm.MethodName)) ∈ lw_all := lw_g (lw_at lw_m4 192 rfl) rfl
theorem q1040 : (Jvm.Cond.code ({ cls := "SmokeWord$State", name := "sends", desc := "(LSmokeWord$Valley;I)V" } : Jvm.MethodName) prog_13_method_9_code (3 : Nat) (Option.none : Option Jvm.ClassFile.FieldType)) ∈ lw_all := lw_g (lw_at lw_m4 193 rfl) rfl
theorem q1041 : (Jvm.Cond.methodLink "SmokeWord$State" (71 : Nat) ({ cls := "SmokeWord$Valley", name := "far", desc := "(II)I" } : Jvm.MethodName)) ∈ lw_all := lw_g (lw_at lw_m4 194 rfl) rfl
theorem q1043 : (Jvm.Cond.instanceMethod ({ cls := "SmokeWord$State", name := "goesOn", desc := "()V" } : Jvm.MethodName)) ∈ lw_all := lw_g (lw_at lw_m4 196 rfl) rfl
theorem q1044 : (Jvm.Cond.selects "SmokeWord$State" ({ cls := "SmokeWord$State", name := "goesOn", desc := "()V" } : Jvm.MethodName) ({ cls := "SmokeWord$State", name := "goesOn", desc := "()V" } : Jvm.MethodName)) ∈ lw_all := lw_g (lw_at lw_m4 197 rfl) rfl
theorem q1045 : (Jvm.Cond.code ({ cls := "SmokeWord$State", name := "goesOn", desc := "()V" } : Jvm.MethodName) prog_13_method_10_code (1 : Nat) (Option.none : Option Jvm.ClassFile.FieldType)) ∈ lw_all := lw_g (lw_at lw_m4 198 rfl) rfl
theorem q1048 : (Jvm.Cond.instanceMethod ({ cls := "SmokeWord$State", name := "burn", desc := "(LSmokeWord$Valley;)I" } : Jvm.MethodName)) ∈ lw_all := lw_g (lw_at lw_m4 201 rfl) rfl
theorem q1049 : (Jvm.Cond.selects "SmokeWord$State" ({ cls := "SmokeWord$State", name := "burn", desc := "(LSmokeWord$Valley;)I" } : Jvm.MethodName) ({ cls := "SmokeWord$State", name := "burn", desc := "(LSmokeWord$Valley;)I" } : Jvm.MethodName)) ∈ lw_all := lw_g (lw_at lw_m4 202 rfl) rfl
theorem q1050 : (Jvm.Cond.code ({ cls := "SmokeWord$State", name := "burn", desc := "(LSmokeWord$Valley;)I" } : Jvm.MethodName) prog_13_method_11_code (6 : Nat) (Option.some Jvm.ClassFile.FieldType.int)) ∈ lw_all := lw_g (lw_at lw_m4 203 rfl) rfl
theorem q1051 : (Jvm.Cond.methodLink "SmokeWord$State" (75 : Nat) ({ cls := "SmokeWord$State", name := "gone", desc := "()I" } : Jvm.MethodName)) ∈ lw_all := lw_g (lw_at lw_m4 204 rfl) rfl
theorem q1052 : (Jvm.Cond.methodLink "SmokeWord$State" (78 : Nat) ({ cls := "java/lang/Math", name := "min", desc := "(II)I" } : Jvm.MethodName)) ∈ lw_all := lw_g (lw_at lw_m4 205 rfl) rfl
theorem q1053 : (Jvm.Cond.methodLinkNest "SmokeWord$State" (89 : Nat) ({ cls := "SmokeWord", name := "bit", desc := "(Z)I" } : Jvm.MethodName) "SmokeWord") ∈ lw_tbl := lw_at lw_m4 206 rfl
theorem q1086 : (Jvm.Cond.instanceMethod ({ cls := "SmokeWord$State", name := "left", desc := "()I" } : Jvm.MethodName)) ∈ lw_all := lw_g (lw_at lw_m4 239 rfl) rfl
theorem q1087 : (Jvm.Cond.selects "SmokeWord$State" ({ cls := "SmokeWord$State", name := "left", desc := "()I" } : Jvm.MethodName) ({ cls := "SmokeWord$State", name := "left", desc := "()I" } : Jvm.MethodName)) ∈ lw_all := lw_g (lw_at lw_m5 0 rfl) rfl
theorem q1088 : (Jvm.Cond.code ({ cls := "SmokeWord$State", name := "left", desc := "()I" } : Jvm.MethodName) prog_13_method_5_code (3 : Nat) (Option.some Jvm.ClassFile.FieldType.int)) ∈ lw_all := lw_g (lw_at lw_m5 1 rfl) rfl
theorem q1887 : (Jvm.Cond.castable "SmokeWord$State" "java/lang/Object") ∈ lw_tbl := lw_at lw_m8 80 rfl
theorem in_X2 : ∀ w ∈ wsX20, w ∈ lw_all := lw_in wsX20 [257, 259, 261, 263, 265, 267, 269, 271, 273, 275] (by decide +kernel) (by decide +kernel)
/-! SmokeWord$Wrong -/
set_option maxRecDepth 100000
def RX3 : String := "SmokeWord$Wrong"
def TX3 : u_T := fun k => match k with
  | 0 => ("java/lang/Throwable", "cause", "Ljava/lang/Throwable;", false)
  | 1 => ("java/lang/Throwable", "stackTrace", "[Ljava/lang/StackTraceElement;", false)
  | 2 => ("java/lang/Throwable", "suppressedExceptions", "Ljava/util/List;", false)
  | 3 => ("java/lang/Throwable", "detailMessage", "Ljava/lang/String;", false)
  | 4 => ("java/lang/Throwable", "backtrace", "Ljava/lang/Object;", false)
  | 5 => ("java/lang/Throwable", "depth", "I", false)
  | _ => ("SmokeWord$Wrong", "number", "I", false)
def tyX3 : Nat → FieldType := fun k => match k with
  | 0 => .object "java/lang/Throwable"
  | 1 => .array (.object "java/lang/StackTraceElement")
  | 2 => .object "java/util/List"
  | 3 => .object "java/lang/String"
  | 4 => .object "java/lang/Object"
  | 5 => .int
  | _ => .int
abbrev wsX30 : List Cond := u_ws RX3 TX3 7
theorem nmX3 : ∀ a, a < 7 → ∀ b, b < 7 → a ≠ b → (TX3 a).2.1 ≠ (TX3 b).2.1 := by decide +kernel
theorem tyX3_ok : ∀ k, k < 7 → parseFieldDescriptor (TX3 k).2.2.1 = some (tyX3 k) := by decide +kernel
abbrev cX3_init : ByteArray := prog_17_method_1_code
def yX3_init : MethodName := ⟨RX3, "<init>", "()V"⟩
theorem dX3_init_0 : decode cX3_init 0 = .ok (.aload_n 0, 1) := by decide +kernel
theorem dX3_init_1 : decode cX3_init 1 = .ok (.invokespecial 1, 3) := by decide +kernel
theorem dX3_init_4 : decode cX3_init 4 = .ok (.return_, 1) := by decide +kernel
theorem q136 : (Jvm.Cond.initialized "SmokeWord$Wrong") ∈ lw_all := lw_g (lw_at lw_m1 9 rfl) rfl
theorem q281 : (Jvm.Cond.instantiable "SmokeWord$Wrong" (7 : Nat)) ∈ lw_all := lw_g (lw_at lw_m1 154 rfl) rfl
theorem q282 : (Jvm.Cond.castable "SmokeWord$Wrong" "SmokeWord$Wrong") ∈ lw_tbl := lw_at lw_m1 155 rfl
theorem q287 : (Jvm.Cond.selects "SmokeWord$Wrong" ({ cls := "java/lang/Throwable", name := "fillInStackTrace", desc := "(I)Ljava/lang/Throwable;" } : Jvm.MethodName) ({ cls := "java/lang/Throwable", name := "fillInStackTrace", desc := "(I)Ljava/lang/Throwable;" } : Jvm.MethodName)) ∈ lw_all := lw_g (lw_at lw_m1 160 rfl) rfl
theorem q288 : (Jvm.Cond.selects "SmokeWord$Wrong" ({ cls := "java/lang/Throwable", name := "fillInStackTrace", desc := "()Ljava/lang/Throwable;" } : Jvm.MethodName) ({ cls := "java/lang/Throwable", name := "fillInStackTrace", desc := "()Ljava/lang/Throwable;" } : Jvm.MethodName)) ∈ lw_all := lw_g (lw_at lw_m1 161 rfl) rfl
theorem q289 : (Jvm.Cond.lays "SmokeWord$Wrong" "java/lang/Throwable" "cause" "Ljava/lang/Throwable;") ∈ lw_all := lw_g (lw_at lw_m1 162 rfl) rfl
theorem q291 : (Jvm.Cond.lays "SmokeWord$Wrong" "java/lang/Throwable" "stackTrace" "[Ljava/lang/StackTraceElement;") ∈ lw_all := lw_g (lw_at lw_m1 164 rfl) rfl
theorem q293 : (Jvm.Cond.lays "SmokeWord$Wrong" "java/lang/Throwable" "suppressedExceptions" "Ljava/util/List;") ∈ lw_all := lw_g (lw_at lw_m1 166 rfl) rfl
theorem q295 : (Jvm.Cond.lays "SmokeWord$Wrong" "java/lang/Throwable" "detailMessage" "Ljava/lang/String;") ∈ lw_all := lw_g (lw_at lw_m1 168 rfl) rfl
theorem q297 : (Jvm.Cond.lays "SmokeWord$Wrong" "java/lang/Throwable" "backtrace" "Ljava/lang/Object;") ∈ lw_all := lw_g (lw_at lw_m1 170 rfl) rfl
theorem q318 : (Jvm.Cond.instanceMethod ({ cls := "SmokeWord$Wrong", name := "<init>", desc := "()V" } : Jvm.MethodName)) ∈ lw_all := lw_g (lw_at lw_m1 191 rfl) rfl
theorem q319 : (Jvm.Cond.code ({ cls := "SmokeWord$Wrong", name := "<init>", desc := "()V" } : Jvm.MethodName) prog_17_method_1_code (1 : Nat) (Option.none : Option Jvm.ClassFile.FieldType)) ∈ lw_all := lw_g (lw_at lw_m1 192 rfl) rfl
theorem q320 : (Jvm.Cond.methodLink "SmokeWord$Wrong" (1 : Nat) ({ cls := "java/lang/Exception", name := "<init>", desc := "()V" } : Jvm.MethodName)) ∈ lw_all := lw_g (lw_at lw_m1 193 rfl) rfl
theorem q329 : (Jvm.Cond.lays "SmokeWord$Wrong" "SmokeWord$Wrong" "number" "I") ∈ lw_all := lw_g (lw_at lw_m1 202 rfl) rfl
theorem q330 : (Jvm.Cond.soleField "SmokeWord$Wrong" "number") ∈ lw_all := lw_g (lw_at lw_m1 203 rfl) rfl
theorem q335 : (Jvm.Cond.lays "SmokeWord$Wrong" "java/lang/Throwable" "depth" "I") ∈ lw_all := lw_g (lw_at lw_m1 208 rfl) rfl
theorem q338 : (Jvm.Cond.superclass "SmokeWord$Wrong" "java/lang/Exception") ∈ lw_all := lw_g (lw_at lw_m1 211 rfl) rfl
theorem q666 : (Jvm.Cond.selects "SmokeWord$Wrong" ({ cls := "java/lang/Object", name := "getClass", desc := "()Ljava/lang/Class;" } : Jvm.MethodName) ({ cls := "java/lang/Object", name := "getClass", desc := "()Ljava/lang/Class;" } : Jvm.MethodName)) ∈ lw_all := lw_g (lw_at lw_m3 59 rfl) rfl
theorem q1893 : (Jvm.Cond.castable "SmokeWord$Wrong" "java/lang/Object") ∈ lw_tbl := lw_at lw_m8 86 rfl
theorem in_X3 : ∀ w ∈ wsX30, w ∈ lw_all := lw_in wsX30 [289, 291, 293, 295, 297, 335, 329] (by decide +kernel) (by decide +kernel)
/-! SmokeWord$Parser -/
set_option maxRecDepth 100000
def RX5 : String := "SmokeWord$Parser"
def TX5 : u_T := fun k => match k with
  | 0 => ("SmokeWord$Parser", "names", "[Ljava/lang/String;", true)
  | 1 => ("SmokeWord$Parser", "at", "I", false)
  | 2 => ("SmokeWord$Parser", "deep", "I", false)
  | 3 => ("SmokeWord$Parser", "counted", "I", false)
  | 4 => ("SmokeWord$Parser", "clauses", "I", false)
  | 5 => ("SmokeWord$Parser", "most", "I", true)
  | _ => ("SmokeWord$Parser", "this$0", "LSmokeWord;", true)
def tyX5 : Nat → FieldType := fun k => match k with
  | 0 => .array (.object "java/lang/String")
  | 1 => .int
  | 2 => .int
  | 3 => .int
  | 4 => .int
  | 5 => .int
  | _ => .object "SmokeWord"
abbrev wsX50 : List Cond := u_ws RX5 TX5 7
theorem nmX5 : ∀ a, a < 7 → ∀ b, b < 7 → a ≠ b → (TX5 a).2.1 ≠ (TX5 b).2.1 := by decide +kernel
theorem tyX5_ok : ∀ k, k < 7 → parseFieldDescriptor (TX5 k).2.2.1 = some (tyX5 k) := by decide +kernel
abbrev cX5_init : ByteArray := prog_10_method_1_code
def yX5_init : MethodName := ⟨RX5, "<init>", "(LSmokeWord;[Ljava/lang/String;I)V"⟩
def dkwX5_init_0 : List UInt8 := [42, 43, 181, 0, 3, 42, 183, 0, 9, 42, 44, 181, 0, 15, 42, 29, 181, 0, 19, 177]
abbrev dktX5_init_0 : List UInt8 := dkwX5_init_0 ++ []
theorem dksX5_init_0 : cX5_init.data.toList.drop 0 = dktX5_init_0 := by decide +kernel
theorem dX5_init_0 : decode cX5_init 0 = .ok (.aload_n 0, 1) := dk_42 (dk_at dksX5_init_0 0 rfl rfl)
theorem dX5_init_1 : decode cX5_init 1 = .ok (.aload_n 1, 1) := dk_43 (dk_at dksX5_init_0 1 rfl rfl)
theorem dX5_init_2 : decode cX5_init 2 = .ok (.putfield 3, 3) := dk_181 0 3 (dk_at dksX5_init_0 2 rfl rfl)
theorem dX5_init_5 : decode cX5_init 5 = .ok (.aload_n 0, 1) := dk_42 (dk_at dksX5_init_0 5 rfl rfl)
theorem dX5_init_6 : decode cX5_init 6 = .ok (.invokespecial 9, 3) := dk_183 0 9 (dk_at dksX5_init_0 6 rfl rfl)
theorem dX5_init_9 : decode cX5_init 9 = .ok (.aload_n 0, 1) := dk_42 (dk_at dksX5_init_0 9 rfl rfl)
theorem dX5_init_10 : decode cX5_init 10 = .ok (.aload_n 2, 1) := dk_44 (dk_at dksX5_init_0 10 rfl rfl)
theorem dX5_init_11 : decode cX5_init 11 = .ok (.putfield 15, 3) := dk_181 0 15 (dk_at dksX5_init_0 11 rfl rfl)
theorem dX5_init_14 : decode cX5_init 14 = .ok (.aload_n 0, 1) := dk_42 (dk_at dksX5_init_0 14 rfl rfl)
theorem dX5_init_15 : decode cX5_init 15 = .ok (.iload_n 3, 1) := dk_29 (dk_at dksX5_init_0 15 rfl rfl)
theorem dX5_init_16 : decode cX5_init 16 = .ok (.putfield 19, 3) := dk_181 0 19 (dk_at dksX5_init_0 16 rfl rfl)
theorem dX5_init_19 : decode cX5_init 19 = .ok (.return_, 1) := dk_177 (dk_at dksX5_init_0 19 rfl rfl)
abbrev cX5_valley : ByteArray := prog_10_method_24_code
def yX5_valley : MethodName := ⟨RX5, "valley", "()LSmokeWord$Valley;"⟩
def dkwX5_valley_1 : List UInt8 := [182, 0, 218, 167, 255, 244, 43, 182, 0, 224, 43, 176]
abbrev dktX5_valley_1 : List UInt8 := dkwX5_valley_1 ++ []
def dkwX5_valley_0 : List UInt8 := [187, 0, 151, 89, 183, 0, 217, 76, 42, 43, 182, 0, 218, 42, 182, 0, 221, 153, 0, 11, 42, 43]
abbrev dktX5_valley_0 : List UInt8 := dkwX5_valley_0 ++ dktX5_valley_1
theorem dksX5_valley_0 : cX5_valley.data.toList.drop 0 = dktX5_valley_0 := by decide +kernel
theorem dksX5_valley_1 : cX5_valley.data.toList.drop 22 = dktX5_valley_1 := dk_seg dksX5_valley_0 22 rfl rfl
theorem dX5_valley_0 : decode cX5_valley 0 = .ok (.new 151, 3) := dk_187 0 151 (dk_at dksX5_valley_0 0 rfl rfl)
theorem dX5_valley_3 : decode cX5_valley 3 = .ok (.dup, 1) := dk_89 (dk_at dksX5_valley_0 3 rfl rfl)
theorem dX5_valley_4 : decode cX5_valley 4 = .ok (.invokespecial 217, 3) := dk_183 0 217 (dk_at dksX5_valley_0 4 rfl rfl)
theorem dX5_valley_7 : decode cX5_valley 7 = .ok (.astore_n 1, 1) := dk_76 (dk_at dksX5_valley_0 7 rfl rfl)
theorem dX5_valley_8 : decode cX5_valley 8 = .ok (.aload_n 0, 1) := dk_42 (dk_at dksX5_valley_0 8 rfl rfl)
theorem dX5_valley_9 : decode cX5_valley 9 = .ok (.aload_n 1, 1) := dk_43 (dk_at dksX5_valley_0 9 rfl rfl)
theorem dX5_valley_10 : decode cX5_valley 10 = .ok (.invokevirtual 218, 3) := dk_182 0 218 (dk_at dksX5_valley_0 10 rfl rfl)
theorem dX5_valley_13 : decode cX5_valley 13 = .ok (.aload_n 0, 1) := dk_42 (dk_at dksX5_valley_0 13 rfl rfl)
theorem dX5_valley_14 : decode cX5_valley 14 = .ok (.invokevirtual 221, 3) := dk_182 0 221 (dk_at dksX5_valley_0 14 rfl rfl)
theorem dX5_valley_17 : decode cX5_valley 17 = .ok (.ifCond .eq 11, 3) := dk_153 0 11 (dk_at dksX5_valley_0 17 rfl rfl)
theorem dX5_valley_20 : decode cX5_valley 20 = .ok (.aload_n 0, 1) := dk_42 (dk_at dksX5_valley_0 20 rfl rfl)
theorem dX5_valley_21 : decode cX5_valley 21 = .ok (.aload_n 1, 1) := dk_43 (dk_at dksX5_valley_0 21 rfl rfl)
theorem dX5_valley_22 : decode cX5_valley 22 = .ok (.invokevirtual 218, 3) := dk_182 0 218 (dk_at dksX5_valley_1 0 rfl rfl)
theorem dX5_valley_25 : decode cX5_valley 25 = .ok (.goto (-12), 3) := dk_167 255 244 (dk_at dksX5_valley_1 3 rfl rfl)
theorem dX5_valley_28 : decode cX5_valley 28 = .ok (.aload_n 1, 1) := dk_43 (dk_at dksX5_valley_1 6 rfl rfl)
theorem dX5_valley_29 : decode cX5_valley 29 = .ok (.invokevirtual 224, 3) := dk_182 0 224 (dk_at dksX5_valley_1 7 rfl rfl)
theorem dX5_valley_32 : decode cX5_valley 32 = .ok (.aload_n 1, 1) := dk_43 (dk_at dksX5_valley_1 10 rfl rfl)
theorem dX5_valley_33 : decode cX5_valley 33 = .ok (.areturn, 1) := dk_176 (dk_at dksX5_valley_1 11 rfl rfl)
abbrev cX5_clause : ByteArray := prog_10_method_21_code
def yX5_clause : MethodName := ⟨RX5, "clause", "(LSmokeWord$Valley;)V"⟩
def dkwX5_clause_6 : List UInt8 := [177]
abbrev dktX5_clause_6 : List UInt8 := dkwX5_clause_6 ++ []
def dkwX5_clause_5 : List UInt8 := [153, 0, 11, 42, 43, 182, 0, 201, 167, 0, 16, 42, 180, 0, 3, 3, 42, 180, 0, 23, 182, 0, 69, 191]
abbrev dktX5_clause_5 : List UInt8 := dkwX5_clause_5 ++ dktX5_clause_6
def dkwX5_clause_4 : List UInt8 := [18, 196, 28, 182, 0, 184, 153, 0, 11, 42, 43, 182, 0, 198, 167, 0, 34, 42, 18, 200, 28, 182, 0, 184]
abbrev dktX5_clause_4 : List UInt8 := dkwX5_clause_4 ++ dktX5_clause_5
def dkwX5_clause_3 : List UInt8 := [162, 0, 7, 4, 167, 0, 4, 3, 182, 0, 184, 153, 0, 11, 42, 43, 182, 0, 193, 167, 0, 52, 42]
abbrev dktX5_clause_3 : List UInt8 := dkwX5_clause_3 ++ dktX5_clause_4
def dkwX5_clause_2 : List UInt8 := [182, 0, 82, 181, 0, 179, 167, 0, 87, 42, 18, 191, 28, 153, 0, 16, 43, 182, 0, 167, 16, 6]
abbrev dktX5_clause_2 : List UInt8 := dkwX5_clause_2 ++ dktX5_clause_3
def dkwX5_clause_1 : List UInt8 := [3, 182, 0, 184, 153, 0, 28, 43, 42, 3, 16, 9, 182, 0, 82, 181, 0, 188, 43, 42, 4, 16, 9]
abbrev dktX5_clause_1 : List UInt8 := dkwX5_clause_1 ++ dktX5_clause_2
def dkwX5_clause_0 : List UInt8 := [43, 180, 0, 179, 158, 0, 7, 4, 167, 0, 4, 3, 61, 42, 18, 182, 28, 154, 0, 7, 4, 167, 0, 4]
abbrev dktX5_clause_0 : List UInt8 := dkwX5_clause_0 ++ dktX5_clause_1
theorem dksX5_clause_0 : cX5_clause.data.toList.drop 0 = dktX5_clause_0 := by decide +kernel
theorem dksX5_clause_1 : cX5_clause.data.toList.drop 24 = dktX5_clause_1 := dk_seg dksX5_clause_0 24 rfl rfl
theorem dksX5_clause_2 : cX5_clause.data.toList.drop 47 = dktX5_clause_2 := dk_seg dksX5_clause_1 23 rfl rfl
theorem dksX5_clause_3 : cX5_clause.data.toList.drop 69 = dktX5_clause_3 := dk_seg dksX5_clause_2 22 rfl rfl
theorem dksX5_clause_4 : cX5_clause.data.toList.drop 92 = dktX5_clause_4 := dk_seg dksX5_clause_3 23 rfl rfl
theorem dksX5_clause_5 : cX5_clause.data.toList.drop 116 = dktX5_clause_5 := dk_seg dksX5_clause_4 24 rfl rfl
theorem dksX5_clause_6 : cX5_clause.data.toList.drop 140 = dktX5_clause_6 := dk_seg dksX5_clause_5 24 rfl rfl
theorem dX5_clause_0 : decode cX5_clause 0 = .ok (.aload_n 1, 1) := dk_43 (dk_at dksX5_clause_0 0 rfl rfl)
theorem dX5_clause_1 : decode cX5_clause 1 = .ok (.getfield 179, 3) := dk_180 0 179 (dk_at dksX5_clause_0 1 rfl rfl)
theorem dX5_clause_4 : decode cX5_clause 4 = .ok (.ifCond .le 7, 3) := dk_158 0 7 (dk_at dksX5_clause_0 4 rfl rfl)
theorem dX5_clause_7 : decode cX5_clause 7 = .ok (.iconst 1, 1) := dk_4 (dk_at dksX5_clause_0 7 rfl rfl)
theorem dX5_clause_8 : decode cX5_clause 8 = .ok (.goto 4, 3) := dk_167 0 4 (dk_at dksX5_clause_0 8 rfl rfl)
theorem dX5_clause_11 : decode cX5_clause 11 = .ok (.iconst 0, 1) := dk_3 (dk_at dksX5_clause_0 11 rfl rfl)
theorem dX5_clause_12 : decode cX5_clause 12 = .ok (.istore_n 2, 1) := dk_61 (dk_at dksX5_clause_0 12 rfl rfl)
theorem dX5_clause_13 : decode cX5_clause 13 = .ok (.aload_n 0, 1) := dk_42 (dk_at dksX5_clause_0 13 rfl rfl)
theorem dX5_clause_14 : decode cX5_clause 14 = .ok (.ldc 182, 2) := dk_18 182 (dk_at dksX5_clause_0 14 rfl rfl)
theorem dX5_clause_16 : decode cX5_clause 16 = .ok (.iload_n 2, 1) := dk_28 (dk_at dksX5_clause_0 16 rfl rfl)
theorem dX5_clause_17 : decode cX5_clause 17 = .ok (.ifCond .ne 7, 3) := dk_154 0 7 (dk_at dksX5_clause_0 17 rfl rfl)
theorem dX5_clause_20 : decode cX5_clause 20 = .ok (.iconst 1, 1) := dk_4 (dk_at dksX5_clause_0 20 rfl rfl)
theorem dX5_clause_21 : decode cX5_clause 21 = .ok (.goto 4, 3) := dk_167 0 4 (dk_at dksX5_clause_0 21 rfl rfl)
theorem dX5_clause_24 : decode cX5_clause 24 = .ok (.iconst 0, 1) := dk_3 (dk_at dksX5_clause_1 0 rfl rfl)
theorem dX5_clause_25 : decode cX5_clause 25 = .ok (.invokevirtual 184, 3) := dk_182 0 184 (dk_at dksX5_clause_1 1 rfl rfl)
theorem dX5_clause_28 : decode cX5_clause 28 = .ok (.ifCond .eq 28, 3) := dk_153 0 28 (dk_at dksX5_clause_1 4 rfl rfl)
theorem dX5_clause_31 : decode cX5_clause 31 = .ok (.aload_n 1, 1) := dk_43 (dk_at dksX5_clause_1 7 rfl rfl)
theorem dX5_clause_32 : decode cX5_clause 32 = .ok (.aload_n 0, 1) := dk_42 (dk_at dksX5_clause_1 8 rfl rfl)
theorem dX5_clause_33 : decode cX5_clause 33 = .ok (.iconst 0, 1) := dk_3 (dk_at dksX5_clause_1 9 rfl rfl)
theorem dX5_clause_34 : decode cX5_clause 34 = .ok (.bipush 9, 2) := dk_16 9 (dk_at dksX5_clause_1 10 rfl rfl)
theorem dX5_clause_36 : decode cX5_clause 36 = .ok (.invokevirtual 82, 3) := dk_182 0 82 (dk_at dksX5_clause_1 12 rfl rfl)
theorem dX5_clause_39 : decode cX5_clause 39 = .ok (.putfield 188, 3) := dk_181 0 188 (dk_at dksX5_clause_1 15 rfl rfl)
theorem dX5_clause_42 : decode cX5_clause 42 = .ok (.aload_n 1, 1) := dk_43 (dk_at dksX5_clause_1 18 rfl rfl)
theorem dX5_clause_43 : decode cX5_clause 43 = .ok (.aload_n 0, 1) := dk_42 (dk_at dksX5_clause_1 19 rfl rfl)
theorem dX5_clause_44 : decode cX5_clause 44 = .ok (.iconst 1, 1) := dk_4 (dk_at dksX5_clause_1 20 rfl rfl)
theorem dX5_clause_45 : decode cX5_clause 45 = .ok (.bipush 9, 2) := dk_16 9 (dk_at dksX5_clause_1 21 rfl rfl)
theorem dX5_clause_47 : decode cX5_clause 47 = .ok (.invokevirtual 82, 3) := dk_182 0 82 (dk_at dksX5_clause_2 0 rfl rfl)
theorem dX5_clause_50 : decode cX5_clause 50 = .ok (.putfield 179, 3) := dk_181 0 179 (dk_at dksX5_clause_2 3 rfl rfl)
theorem dX5_clause_53 : decode cX5_clause 53 = .ok (.goto 87, 3) := dk_167 0 87 (dk_at dksX5_clause_2 6 rfl rfl)
theorem dX5_clause_56 : decode cX5_clause 56 = .ok (.aload_n 0, 1) := dk_42 (dk_at dksX5_clause_2 9 rfl rfl)
theorem dX5_clause_57 : decode cX5_clause 57 = .ok (.ldc 191, 2) := dk_18 191 (dk_at dksX5_clause_2 10 rfl rfl)
theorem dX5_clause_59 : decode cX5_clause 59 = .ok (.iload_n 2, 1) := dk_28 (dk_at dksX5_clause_2 12 rfl rfl)
theorem dX5_clause_60 : decode cX5_clause 60 = .ok (.ifCond .eq 16, 3) := dk_153 0 16 (dk_at dksX5_clause_2 13 rfl rfl)
theorem dX5_clause_63 : decode cX5_clause 63 = .ok (.aload_n 1, 1) := dk_43 (dk_at dksX5_clause_2 16 rfl rfl)
theorem dX5_clause_64 : decode cX5_clause 64 = .ok (.invokevirtual 167, 3) := dk_182 0 167 (dk_at dksX5_clause_2 17 rfl rfl)
theorem dX5_clause_67 : decode cX5_clause 67 = .ok (.bipush 6, 2) := dk_16 6 (dk_at dksX5_clause_2 20 rfl rfl)
theorem dX5_clause_69 : decode cX5_clause 69 = .ok (.if_icmp .ge 7, 3) := dk_162 0 7 (dk_at dksX5_clause_3 0 rfl rfl)
theorem dX5_clause_72 : decode cX5_clause 72 = .ok (.iconst 1, 1) := dk_4 (dk_at dksX5_clause_3 3 rfl rfl)
theorem dX5_clause_73 : decode cX5_clause 73 = .ok (.goto 4, 3) := dk_167 0 4 (dk_at dksX5_clause_3 4 rfl rfl)
theorem dX5_clause_76 : decode cX5_clause 76 = .ok (.iconst 0, 1) := dk_3 (dk_at dksX5_clause_3 7 rfl rfl)
theorem dX5_clause_77 : decode cX5_clause 77 = .ok (.invokevirtual 184, 3) := dk_182 0 184 (dk_at dksX5_clause_3 8 rfl rfl)
theorem dX5_clause_80 : decode cX5_clause 80 = .ok (.ifCond .eq 11, 3) := dk_153 0 11 (dk_at dksX5_clause_3 11 rfl rfl)
theorem dX5_clause_83 : decode cX5_clause 83 = .ok (.aload_n 0, 1) := dk_42 (dk_at dksX5_clause_3 14 rfl rfl)
theorem dX5_clause_84 : decode cX5_clause 84 = .ok (.aload_n 1, 1) := dk_43 (dk_at dksX5_clause_3 15 rfl rfl)
theorem dX5_clause_85 : decode cX5_clause 85 = .ok (.invokevirtual 193, 3) := dk_182 0 193 (dk_at dksX5_clause_3 16 rfl rfl)
theorem dX5_clause_88 : decode cX5_clause 88 = .ok (.goto 52, 3) := dk_167 0 52 (dk_at dksX5_clause_3 19 rfl rfl)
theorem dX5_clause_91 : decode cX5_clause 91 = .ok (.aload_n 0, 1) := dk_42 (dk_at dksX5_clause_3 22 rfl rfl)
theorem dX5_clause_92 : decode cX5_clause 92 = .ok (.ldc 196, 2) := dk_18 196 (dk_at dksX5_clause_4 0 rfl rfl)
theorem dX5_clause_94 : decode cX5_clause 94 = .ok (.iload_n 2, 1) := dk_28 (dk_at dksX5_clause_4 2 rfl rfl)
theorem dX5_clause_95 : decode cX5_clause 95 = .ok (.invokevirtual 184, 3) := dk_182 0 184 (dk_at dksX5_clause_4 3 rfl rfl)
theorem dX5_clause_98 : decode cX5_clause 98 = .ok (.ifCond .eq 11, 3) := dk_153 0 11 (dk_at dksX5_clause_4 6 rfl rfl)
theorem dX5_clause_101 : decode cX5_clause 101 = .ok (.aload_n 0, 1) := dk_42 (dk_at dksX5_clause_4 9 rfl rfl)
theorem dX5_clause_102 : decode cX5_clause 102 = .ok (.aload_n 1, 1) := dk_43 (dk_at dksX5_clause_4 10 rfl rfl)
theorem dX5_clause_103 : decode cX5_clause 103 = .ok (.invokevirtual 198, 3) := dk_182 0 198 (dk_at dksX5_clause_4 11 rfl rfl)
theorem dX5_clause_106 : decode cX5_clause 106 = .ok (.goto 34, 3) := dk_167 0 34 (dk_at dksX5_clause_4 14 rfl rfl)
theorem dX5_clause_109 : decode cX5_clause 109 = .ok (.aload_n 0, 1) := dk_42 (dk_at dksX5_clause_4 17 rfl rfl)
theorem dX5_clause_110 : decode cX5_clause 110 = .ok (.ldc 200, 2) := dk_18 200 (dk_at dksX5_clause_4 18 rfl rfl)
theorem dX5_clause_112 : decode cX5_clause 112 = .ok (.iload_n 2, 1) := dk_28 (dk_at dksX5_clause_4 20 rfl rfl)
theorem dX5_clause_113 : decode cX5_clause 113 = .ok (.invokevirtual 184, 3) := dk_182 0 184 (dk_at dksX5_clause_4 21 rfl rfl)
theorem dX5_clause_116 : decode cX5_clause 116 = .ok (.ifCond .eq 11, 3) := dk_153 0 11 (dk_at dksX5_clause_5 0 rfl rfl)
theorem dX5_clause_119 : decode cX5_clause 119 = .ok (.aload_n 0, 1) := dk_42 (dk_at dksX5_clause_5 3 rfl rfl)
theorem dX5_clause_120 : decode cX5_clause 120 = .ok (.aload_n 1, 1) := dk_43 (dk_at dksX5_clause_5 4 rfl rfl)
theorem dX5_clause_121 : decode cX5_clause 121 = .ok (.invokevirtual 201, 3) := dk_182 0 201 (dk_at dksX5_clause_5 5 rfl rfl)
theorem dX5_clause_124 : decode cX5_clause 124 = .ok (.goto 16, 3) := dk_167 0 16 (dk_at dksX5_clause_5 8 rfl rfl)
theorem dX5_clause_127 : decode cX5_clause 127 = .ok (.aload_n 0, 1) := dk_42 (dk_at dksX5_clause_5 11 rfl rfl)
theorem dX5_clause_128 : decode cX5_clause 128 = .ok (.getfield 3, 3) := dk_180 0 3 (dk_at dksX5_clause_5 12 rfl rfl)
theorem dX5_clause_131 : decode cX5_clause 131 = .ok (.iconst 0, 1) := dk_3 (dk_at dksX5_clause_5 15 rfl rfl)
theorem dX5_clause_132 : decode cX5_clause 132 = .ok (.aload_n 0, 1) := dk_42 (dk_at dksX5_clause_5 16 rfl rfl)
theorem dX5_clause_133 : decode cX5_clause 133 = .ok (.getfield 23, 3) := dk_180 0 23 (dk_at dksX5_clause_5 17 rfl rfl)
theorem dX5_clause_136 : decode cX5_clause 136 = .ok (.invokevirtual 69, 3) := dk_182 0 69 (dk_at dksX5_clause_5 20 rfl rfl)
theorem dX5_clause_139 : decode cX5_clause 139 = .ok (.athrow, 1) := dk_191 (dk_at dksX5_clause_5 23 rfl rfl)
theorem dX5_clause_140 : decode cX5_clause 140 = .ok (.return_, 1) := dk_177 (dk_at dksX5_clause_6 0 rfl rfl)
abbrev cX5_begins : ByteArray := prog_10_method_16_code
def yX5_begins : MethodName := ⟨RX5, "begins", "(Ljava/lang/String;Z)Z"⟩
def dkwX5_begins_2 : List UInt8 := [181, 0, 147, 42, 89, 180, 0, 23, 43, 182, 0, 52, 96, 181, 0, 23, 4, 172]
abbrev dktX5_begins_2 : List UInt8 := dkwX5_begins_2 ++ []
def dkwX5_begins_1 : List UInt8 := [154, 0, 16, 42, 180, 0, 3, 7, 42, 180, 0, 23, 182, 0, 69, 191, 42, 89, 180, 0, 147, 4, 96]
abbrev dktX5_begins_1 : List UInt8 := dkwX5_begins_1 ++ dktX5_begins_2
def dkwX5_begins_0 : List UInt8 := [42, 43, 182, 0, 61, 154, 0, 5, 3, 172, 42, 180, 0, 147, 42, 180, 0, 19, 159, 0, 7, 28]
abbrev dktX5_begins_0 : List UInt8 := dkwX5_begins_0 ++ dktX5_begins_1
theorem dksX5_begins_0 : cX5_begins.data.toList.drop 0 = dktX5_begins_0 := by decide +kernel
theorem dksX5_begins_1 : cX5_begins.data.toList.drop 22 = dktX5_begins_1 := dk_seg dksX5_begins_0 22 rfl rfl
theorem dksX5_begins_2 : cX5_begins.data.toList.drop 45 = dktX5_begins_2 := dk_seg dksX5_begins_1 23 rfl rfl
theorem dX5_begins_0 : decode cX5_begins 0 = .ok (.aload_n 0, 1) := dk_42 (dk_at dksX5_begins_0 0 rfl rfl)
theorem dX5_begins_1 : decode cX5_begins 1 = .ok (.aload_n 1, 1) := dk_43 (dk_at dksX5_begins_0 1 rfl rfl)
theorem dX5_begins_2 : decode cX5_begins 2 = .ok (.invokevirtual 61, 3) := dk_182 0 61 (dk_at dksX5_begins_0 2 rfl rfl)
theorem dX5_begins_5 : decode cX5_begins 5 = .ok (.ifCond .ne 5, 3) := dk_154 0 5 (dk_at dksX5_begins_0 5 rfl rfl)
theorem dX5_begins_8 : decode cX5_begins 8 = .ok (.iconst 0, 1) := dk_3 (dk_at dksX5_begins_0 8 rfl rfl)
theorem dX5_begins_9 : decode cX5_begins 9 = .ok (.ireturn, 1) := dk_172 (dk_at dksX5_begins_0 9 rfl rfl)
theorem dX5_begins_10 : decode cX5_begins 10 = .ok (.aload_n 0, 1) := dk_42 (dk_at dksX5_begins_0 10 rfl rfl)
theorem dX5_begins_11 : decode cX5_begins 11 = .ok (.getfield 147, 3) := dk_180 0 147 (dk_at dksX5_begins_0 11 rfl rfl)
theorem dX5_begins_14 : decode cX5_begins 14 = .ok (.aload_n 0, 1) := dk_42 (dk_at dksX5_begins_0 14 rfl rfl)
theorem dX5_begins_15 : decode cX5_begins 15 = .ok (.getfield 19, 3) := dk_180 0 19 (dk_at dksX5_begins_0 15 rfl rfl)
theorem dX5_begins_18 : decode cX5_begins 18 = .ok (.if_icmp .eq 7, 3) := dk_159 0 7 (dk_at dksX5_begins_0 18 rfl rfl)
theorem dX5_begins_21 : decode cX5_begins 21 = .ok (.iload_n 2, 1) := dk_28 (dk_at dksX5_begins_0 21 rfl rfl)
theorem dX5_begins_22 : decode cX5_begins 22 = .ok (.ifCond .ne 16, 3) := dk_154 0 16 (dk_at dksX5_begins_1 0 rfl rfl)
theorem dX5_begins_25 : decode cX5_begins 25 = .ok (.aload_n 0, 1) := dk_42 (dk_at dksX5_begins_1 3 rfl rfl)
theorem dX5_begins_26 : decode cX5_begins 26 = .ok (.getfield 3, 3) := dk_180 0 3 (dk_at dksX5_begins_1 4 rfl rfl)
theorem dX5_begins_29 : decode cX5_begins 29 = .ok (.iconst 4, 1) := dk_7 (dk_at dksX5_begins_1 7 rfl rfl)
theorem dX5_begins_30 : decode cX5_begins 30 = .ok (.aload_n 0, 1) := dk_42 (dk_at dksX5_begins_1 8 rfl rfl)
theorem dX5_begins_31 : decode cX5_begins 31 = .ok (.getfield 23, 3) := dk_180 0 23 (dk_at dksX5_begins_1 9 rfl rfl)
theorem dX5_begins_34 : decode cX5_begins 34 = .ok (.invokevirtual 69, 3) := dk_182 0 69 (dk_at dksX5_begins_1 12 rfl rfl)
theorem dX5_begins_37 : decode cX5_begins 37 = .ok (.athrow, 1) := dk_191 (dk_at dksX5_begins_1 15 rfl rfl)
theorem dX5_begins_38 : decode cX5_begins 38 = .ok (.aload_n 0, 1) := dk_42 (dk_at dksX5_begins_1 16 rfl rfl)
theorem dX5_begins_39 : decode cX5_begins 39 = .ok (.dup, 1) := dk_89 (dk_at dksX5_begins_1 17 rfl rfl)
theorem dX5_begins_40 : decode cX5_begins 40 = .ok (.getfield 147, 3) := dk_180 0 147 (dk_at dksX5_begins_1 18 rfl rfl)
theorem dX5_begins_43 : decode cX5_begins 43 = .ok (.iconst 1, 1) := dk_4 (dk_at dksX5_begins_1 21 rfl rfl)
theorem dX5_begins_44 : decode cX5_begins 44 = .ok (.iadd, 1) := dk_96 (dk_at dksX5_begins_1 22 rfl rfl)
theorem dX5_begins_45 : decode cX5_begins 45 = .ok (.putfield 147, 3) := dk_181 0 147 (dk_at dksX5_begins_2 0 rfl rfl)
theorem dX5_begins_48 : decode cX5_begins 48 = .ok (.aload_n 0, 1) := dk_42 (dk_at dksX5_begins_2 3 rfl rfl)
theorem dX5_begins_49 : decode cX5_begins 49 = .ok (.dup, 1) := dk_89 (dk_at dksX5_begins_2 4 rfl rfl)
theorem dX5_begins_50 : decode cX5_begins 50 = .ok (.getfield 23, 3) := dk_180 0 23 (dk_at dksX5_begins_2 5 rfl rfl)
theorem dX5_begins_53 : decode cX5_begins 53 = .ok (.aload_n 1, 1) := dk_43 (dk_at dksX5_begins_2 8 rfl rfl)
theorem dX5_begins_54 : decode cX5_begins 54 = .ok (.invokevirtual 52, 3) := dk_182 0 52 (dk_at dksX5_begins_2 9 rfl rfl)
theorem dX5_begins_57 : decode cX5_begins 57 = .ok (.iadd, 1) := dk_96 (dk_at dksX5_begins_2 12 rfl rfl)
theorem dX5_begins_58 : decode cX5_begins 58 = .ok (.putfield 23, 3) := dk_181 0 23 (dk_at dksX5_begins_2 13 rfl rfl)
theorem dX5_begins_61 : decode cX5_begins 61 = .ok (.iconst 1, 1) := dk_4 (dk_at dksX5_begins_2 16 rfl rfl)
theorem dX5_begins_62 : decode cX5_begins 62 = .ok (.ireturn, 1) := dk_172 (dk_at dksX5_begins_2 17 rfl rfl)
abbrev cX5_isWord : ByteArray := prog_10_method_5_code
def yX5_isWord : MethodName := ⟨RX5, "isWord", "(Ljava/lang/String;)Z"⟩
def dkwX5_isWord_5 : List UInt8 := [132, 4, 1, 167, 255, 210, 29, 172]
abbrev dktX5_isWord_5 : List UInt8 := dkwX5_isWord_5 ++ []
def dkwX5_isWord_4 : List UInt8 := [180, 0, 23, 21, 4, 96, 51, 43, 21, 4, 182, 0, 57, 160, 0, 7, 4, 167, 0, 4, 3, 62]
abbrev dktX5_isWord_4 : List UInt8 := dkwX5_isWord_4 ++ dktX5_isWord_5
def dkwX5_isWord_3 : List UInt8 := [54, 4, 21, 4, 43, 182, 0, 52, 162, 0, 43, 29, 153, 0, 39, 42, 180, 0, 3, 180, 0, 29, 42]
abbrev dktX5_isWord_3 : List UInt8 := dkwX5_isWord_3 ++ dktX5_isWord_4
def dkwX5_isWord_2 : List UInt8 := [167, 255, 220, 28, 42, 180, 0, 23, 100, 43, 182, 0, 52, 160, 0, 7, 4, 167, 0, 4, 3, 62, 3]
abbrev dktX5_isWord_2 : List UInt8 := dkwX5_isWord_2 ++ dktX5_isWord_3
def dkwX5_isWord_1 : List UInt8 := [180, 0, 3, 180, 0, 29, 28, 51, 133, 20, 0, 48, 20, 0, 50, 184, 0, 41, 153, 0, 9, 132, 2, 1]
abbrev dktX5_isWord_1 : List UInt8 := dkwX5_isWord_1 ++ dktX5_isWord_2
def dkwX5_isWord_0 : List UInt8 := [42, 182, 0, 45, 87, 42, 180, 0, 23, 61, 28, 42, 180, 0, 3, 180, 0, 26, 162, 0, 31, 42]
abbrev dktX5_isWord_0 : List UInt8 := dkwX5_isWord_0 ++ dktX5_isWord_1
theorem dksX5_isWord_0 : cX5_isWord.data.toList.drop 0 = dktX5_isWord_0 := by decide +kernel
theorem dksX5_isWord_1 : cX5_isWord.data.toList.drop 22 = dktX5_isWord_1 := dk_seg dksX5_isWord_0 22 rfl rfl
theorem dksX5_isWord_2 : cX5_isWord.data.toList.drop 46 = dktX5_isWord_2 := dk_seg dksX5_isWord_1 24 rfl rfl
theorem dksX5_isWord_3 : cX5_isWord.data.toList.drop 69 = dktX5_isWord_3 := dk_seg dksX5_isWord_2 23 rfl rfl
theorem dksX5_isWord_4 : cX5_isWord.data.toList.drop 92 = dktX5_isWord_4 := dk_seg dksX5_isWord_3 23 rfl rfl
theorem dksX5_isWord_5 : cX5_isWord.data.toList.drop 114 = dktX5_isWord_5 := dk_seg dksX5_isWord_4 22 rfl rfl
theorem dX5_isWord_0 : decode cX5_isWord 0 = .ok (.aload_n 0, 1) := dk_42 (dk_at dksX5_isWord_0 0 rfl rfl)
theorem dX5_isWord_1 : decode cX5_isWord 1 = .ok (.invokevirtual 45, 3) := dk_182 0 45 (dk_at dksX5_isWord_0 1 rfl rfl)
theorem dX5_isWord_4 : decode cX5_isWord 4 = .ok (.pop, 1) := dk_87 (dk_at dksX5_isWord_0 4 rfl rfl)
theorem dX5_isWord_5 : decode cX5_isWord 5 = .ok (.aload_n 0, 1) := dk_42 (dk_at dksX5_isWord_0 5 rfl rfl)
theorem dX5_isWord_6 : decode cX5_isWord 6 = .ok (.getfield 23, 3) := dk_180 0 23 (dk_at dksX5_isWord_0 6 rfl rfl)
theorem dX5_isWord_9 : decode cX5_isWord 9 = .ok (.istore_n 2, 1) := dk_61 (dk_at dksX5_isWord_0 9 rfl rfl)
theorem dX5_isWord_10 : decode cX5_isWord 10 = .ok (.iload_n 2, 1) := dk_28 (dk_at dksX5_isWord_0 10 rfl rfl)
theorem dX5_isWord_11 : decode cX5_isWord 11 = .ok (.aload_n 0, 1) := dk_42 (dk_at dksX5_isWord_0 11 rfl rfl)
theorem dX5_isWord_12 : decode cX5_isWord 12 = .ok (.getfield 3, 3) := dk_180 0 3 (dk_at dksX5_isWord_0 12 rfl rfl)
theorem dX5_isWord_15 : decode cX5_isWord 15 = .ok (.getfield 26, 3) := dk_180 0 26 (dk_at dksX5_isWord_0 15 rfl rfl)
theorem dX5_isWord_18 : decode cX5_isWord 18 = .ok (.if_icmp .ge 31, 3) := dk_162 0 31 (dk_at dksX5_isWord_0 18 rfl rfl)
theorem dX5_isWord_21 : decode cX5_isWord 21 = .ok (.aload_n 0, 1) := dk_42 (dk_at dksX5_isWord_0 21 rfl rfl)
theorem dX5_isWord_22 : decode cX5_isWord 22 = .ok (.getfield 3, 3) := dk_180 0 3 (dk_at dksX5_isWord_1 0 rfl rfl)
theorem dX5_isWord_25 : decode cX5_isWord 25 = .ok (.getfield 29, 3) := dk_180 0 29 (dk_at dksX5_isWord_1 3 rfl rfl)
theorem dX5_isWord_28 : decode cX5_isWord 28 = .ok (.iload_n 2, 1) := dk_28 (dk_at dksX5_isWord_1 6 rfl rfl)
theorem dX5_isWord_29 : decode cX5_isWord 29 = .ok (.baload, 1) := dk_51 (dk_at dksX5_isWord_1 7 rfl rfl)
theorem dX5_isWord_30 : decode cX5_isWord 30 = .ok (.i2l, 1) := dk_133 (dk_at dksX5_isWord_1 8 rfl rfl)
theorem dX5_isWord_31 : decode cX5_isWord 31 = .ok (.ldc2_w 48, 3) := dk_20 0 48 (dk_at dksX5_isWord_1 9 rfl rfl)
theorem dX5_isWord_34 : decode cX5_isWord 34 = .ok (.ldc2_w 50, 3) := dk_20 0 50 (dk_at dksX5_isWord_1 12 rfl rfl)
theorem dX5_isWord_37 : decode cX5_isWord 37 = .ok (.invokestatic 41, 3) := dk_184 0 41 (dk_at dksX5_isWord_1 15 rfl rfl)
theorem dX5_isWord_40 : decode cX5_isWord 40 = .ok (.ifCond .eq 9, 3) := dk_153 0 9 (dk_at dksX5_isWord_1 18 rfl rfl)
theorem dX5_isWord_43 : decode cX5_isWord 43 = .ok (.iinc 2 1, 3) := dk_132 2 1 (dk_at dksX5_isWord_1 21 rfl rfl)
theorem dX5_isWord_46 : decode cX5_isWord 46 = .ok (.goto (-36), 3) := dk_167 255 220 (dk_at dksX5_isWord_2 0 rfl rfl)
theorem dX5_isWord_49 : decode cX5_isWord 49 = .ok (.iload_n 2, 1) := dk_28 (dk_at dksX5_isWord_2 3 rfl rfl)
theorem dX5_isWord_50 : decode cX5_isWord 50 = .ok (.aload_n 0, 1) := dk_42 (dk_at dksX5_isWord_2 4 rfl rfl)
theorem dX5_isWord_51 : decode cX5_isWord 51 = .ok (.getfield 23, 3) := dk_180 0 23 (dk_at dksX5_isWord_2 5 rfl rfl)
theorem dX5_isWord_54 : decode cX5_isWord 54 = .ok (.isub, 1) := dk_100 (dk_at dksX5_isWord_2 8 rfl rfl)
theorem dX5_isWord_55 : decode cX5_isWord 55 = .ok (.aload_n 1, 1) := dk_43 (dk_at dksX5_isWord_2 9 rfl rfl)
theorem dX5_isWord_56 : decode cX5_isWord 56 = .ok (.invokevirtual 52, 3) := dk_182 0 52 (dk_at dksX5_isWord_2 10 rfl rfl)
theorem dX5_isWord_59 : decode cX5_isWord 59 = .ok (.if_icmp .ne 7, 3) := dk_160 0 7 (dk_at dksX5_isWord_2 13 rfl rfl)
theorem dX5_isWord_62 : decode cX5_isWord 62 = .ok (.iconst 1, 1) := dk_4 (dk_at dksX5_isWord_2 16 rfl rfl)
theorem dX5_isWord_63 : decode cX5_isWord 63 = .ok (.goto 4, 3) := dk_167 0 4 (dk_at dksX5_isWord_2 17 rfl rfl)
theorem dX5_isWord_66 : decode cX5_isWord 66 = .ok (.iconst 0, 1) := dk_3 (dk_at dksX5_isWord_2 20 rfl rfl)
theorem dX5_isWord_67 : decode cX5_isWord 67 = .ok (.istore_n 3, 1) := dk_62 (dk_at dksX5_isWord_2 21 rfl rfl)
theorem dX5_isWord_68 : decode cX5_isWord 68 = .ok (.iconst 0, 1) := dk_3 (dk_at dksX5_isWord_2 22 rfl rfl)
theorem dX5_isWord_69 : decode cX5_isWord 69 = .ok (.istore 4, 2) := dk_54 4 (dk_at dksX5_isWord_3 0 rfl rfl)
theorem dX5_isWord_71 : decode cX5_isWord 71 = .ok (.iload 4, 2) := dk_21 4 (dk_at dksX5_isWord_3 2 rfl rfl)
theorem dX5_isWord_73 : decode cX5_isWord 73 = .ok (.aload_n 1, 1) := dk_43 (dk_at dksX5_isWord_3 4 rfl rfl)
theorem dX5_isWord_74 : decode cX5_isWord 74 = .ok (.invokevirtual 52, 3) := dk_182 0 52 (dk_at dksX5_isWord_3 5 rfl rfl)
theorem dX5_isWord_77 : decode cX5_isWord 77 = .ok (.if_icmp .ge 43, 3) := dk_162 0 43 (dk_at dksX5_isWord_3 8 rfl rfl)
theorem dX5_isWord_80 : decode cX5_isWord 80 = .ok (.iload_n 3, 1) := dk_29 (dk_at dksX5_isWord_3 11 rfl rfl)
theorem dX5_isWord_81 : decode cX5_isWord 81 = .ok (.ifCond .eq 39, 3) := dk_153 0 39 (dk_at dksX5_isWord_3 12 rfl rfl)
theorem dX5_isWord_84 : decode cX5_isWord 84 = .ok (.aload_n 0, 1) := dk_42 (dk_at dksX5_isWord_3 15 rfl rfl)
theorem dX5_isWord_85 : decode cX5_isWord 85 = .ok (.getfield 3, 3) := dk_180 0 3 (dk_at dksX5_isWord_3 16 rfl rfl)
theorem dX5_isWord_88 : decode cX5_isWord 88 = .ok (.getfield 29, 3) := dk_180 0 29 (dk_at dksX5_isWord_3 19 rfl rfl)
theorem dX5_isWord_91 : decode cX5_isWord 91 = .ok (.aload_n 0, 1) := dk_42 (dk_at dksX5_isWord_3 22 rfl rfl)
theorem dX5_isWord_92 : decode cX5_isWord 92 = .ok (.getfield 23, 3) := dk_180 0 23 (dk_at dksX5_isWord_4 0 rfl rfl)
theorem dX5_isWord_95 : decode cX5_isWord 95 = .ok (.iload 4, 2) := dk_21 4 (dk_at dksX5_isWord_4 3 rfl rfl)
theorem dX5_isWord_97 : decode cX5_isWord 97 = .ok (.iadd, 1) := dk_96 (dk_at dksX5_isWord_4 5 rfl rfl)
theorem dX5_isWord_98 : decode cX5_isWord 98 = .ok (.baload, 1) := dk_51 (dk_at dksX5_isWord_4 6 rfl rfl)
theorem dX5_isWord_99 : decode cX5_isWord 99 = .ok (.aload_n 1, 1) := dk_43 (dk_at dksX5_isWord_4 7 rfl rfl)
theorem dX5_isWord_100 : decode cX5_isWord 100 = .ok (.iload 4, 2) := dk_21 4 (dk_at dksX5_isWord_4 8 rfl rfl)
theorem dX5_isWord_102 : decode cX5_isWord 102 = .ok (.invokevirtual 57, 3) := dk_182 0 57 (dk_at dksX5_isWord_4 10 rfl rfl)
theorem dX5_isWord_105 : decode cX5_isWord 105 = .ok (.if_icmp .ne 7, 3) := dk_160 0 7 (dk_at dksX5_isWord_4 13 rfl rfl)
theorem dX5_isWord_108 : decode cX5_isWord 108 = .ok (.iconst 1, 1) := dk_4 (dk_at dksX5_isWord_4 16 rfl rfl)
theorem dX5_isWord_109 : decode cX5_isWord 109 = .ok (.goto 4, 3) := dk_167 0 4 (dk_at dksX5_isWord_4 17 rfl rfl)
theorem dX5_isWord_112 : decode cX5_isWord 112 = .ok (.iconst 0, 1) := dk_3 (dk_at dksX5_isWord_4 20 rfl rfl)
theorem dX5_isWord_113 : decode cX5_isWord 113 = .ok (.istore_n 3, 1) := dk_62 (dk_at dksX5_isWord_4 21 rfl rfl)
theorem dX5_isWord_114 : decode cX5_isWord 114 = .ok (.iinc 4 1, 3) := dk_132 4 1 (dk_at dksX5_isWord_5 0 rfl rfl)
theorem dX5_isWord_117 : decode cX5_isWord 117 = .ok (.goto (-46), 3) := dk_167 255 210 (dk_at dksX5_isWord_5 3 rfl rfl)
theorem dX5_isWord_120 : decode cX5_isWord 120 = .ok (.iload_n 3, 1) := dk_29 (dk_at dksX5_isWord_5 6 rfl rfl)
theorem dX5_isWord_121 : decode cX5_isWord 121 = .ok (.ireturn, 1) := dk_172 (dk_at dksX5_isWord_5 7 rfl rfl)
abbrev cX5_next : ByteArray := prog_10_method_3_code
def yX5_next : MethodName := ⟨RX5, "next", "()I"⟩
def dkwX5_next_1 : List UInt8 := [182, 0, 33, 172]
abbrev dktX5_next_1 : List UInt8 := dkwX5_next_1 ++ []
def dkwX5_next_0 : List UInt8 := [42, 182, 0, 33, 16, 32, 160, 0, 16, 42, 89, 180, 0, 23, 4, 96, 181, 0, 23, 167, 255, 237, 42]
abbrev dktX5_next_0 : List UInt8 := dkwX5_next_0 ++ dktX5_next_1
theorem dksX5_next_0 : cX5_next.data.toList.drop 0 = dktX5_next_0 := by decide +kernel
theorem dksX5_next_1 : cX5_next.data.toList.drop 23 = dktX5_next_1 := dk_seg dksX5_next_0 23 rfl rfl
theorem dX5_next_0 : decode cX5_next 0 = .ok (.aload_n 0, 1) := dk_42 (dk_at dksX5_next_0 0 rfl rfl)
theorem dX5_next_1 : decode cX5_next 1 = .ok (.invokevirtual 33, 3) := dk_182 0 33 (dk_at dksX5_next_0 1 rfl rfl)
theorem dX5_next_4 : decode cX5_next 4 = .ok (.bipush 32, 2) := dk_16 32 (dk_at dksX5_next_0 4 rfl rfl)
theorem dX5_next_6 : decode cX5_next 6 = .ok (.if_icmp .ne 16, 3) := dk_160 0 16 (dk_at dksX5_next_0 6 rfl rfl)
theorem dX5_next_9 : decode cX5_next 9 = .ok (.aload_n 0, 1) := dk_42 (dk_at dksX5_next_0 9 rfl rfl)
theorem dX5_next_10 : decode cX5_next 10 = .ok (.dup, 1) := dk_89 (dk_at dksX5_next_0 10 rfl rfl)
theorem dX5_next_11 : decode cX5_next 11 = .ok (.getfield 23, 3) := dk_180 0 23 (dk_at dksX5_next_0 11 rfl rfl)
theorem dX5_next_14 : decode cX5_next 14 = .ok (.iconst 1, 1) := dk_4 (dk_at dksX5_next_0 14 rfl rfl)
theorem dX5_next_15 : decode cX5_next 15 = .ok (.iadd, 1) := dk_96 (dk_at dksX5_next_0 15 rfl rfl)
theorem dX5_next_16 : decode cX5_next 16 = .ok (.putfield 23, 3) := dk_181 0 23 (dk_at dksX5_next_0 16 rfl rfl)
theorem dX5_next_19 : decode cX5_next 19 = .ok (.goto (-19), 3) := dk_167 255 237 (dk_at dksX5_next_0 19 rfl rfl)
theorem dX5_next_22 : decode cX5_next 22 = .ok (.aload_n 0, 1) := dk_42 (dk_at dksX5_next_0 22 rfl rfl)
theorem dX5_next_23 : decode cX5_next 23 = .ok (.invokevirtual 33, 3) := dk_182 0 33 (dk_at dksX5_next_1 0 rfl rfl)
theorem dX5_next_26 : decode cX5_next 26 = .ok (.ireturn, 1) := dk_172 (dk_at dksX5_next_1 3 rfl rfl)
abbrev cX5_sign : ByteArray := prog_10_method_2_code
def yX5_sign : MethodName := ⟨RX5, "sign", "()I"⟩
def dkwX5_sign_1 : List UInt8 := [180, 0, 23, 51, 17, 0, 255, 126, 167, 0, 4, 2, 172]
abbrev dktX5_sign_1 : List UInt8 := dkwX5_sign_1 ++ []
def dkwX5_sign_0 : List UInt8 := [42, 180, 0, 23, 42, 180, 0, 3, 180, 0, 26, 162, 0, 22, 42, 180, 0, 3, 180, 0, 29, 42]
abbrev dktX5_sign_0 : List UInt8 := dkwX5_sign_0 ++ dktX5_sign_1
theorem dksX5_sign_0 : cX5_sign.data.toList.drop 0 = dktX5_sign_0 := by decide +kernel
theorem dksX5_sign_1 : cX5_sign.data.toList.drop 22 = dktX5_sign_1 := dk_seg dksX5_sign_0 22 rfl rfl
theorem dX5_sign_0 : decode cX5_sign 0 = .ok (.aload_n 0, 1) := dk_42 (dk_at dksX5_sign_0 0 rfl rfl)
theorem dX5_sign_1 : decode cX5_sign 1 = .ok (.getfield 23, 3) := dk_180 0 23 (dk_at dksX5_sign_0 1 rfl rfl)
theorem dX5_sign_4 : decode cX5_sign 4 = .ok (.aload_n 0, 1) := dk_42 (dk_at dksX5_sign_0 4 rfl rfl)
theorem dX5_sign_5 : decode cX5_sign 5 = .ok (.getfield 3, 3) := dk_180 0 3 (dk_at dksX5_sign_0 5 rfl rfl)
theorem dX5_sign_8 : decode cX5_sign 8 = .ok (.getfield 26, 3) := dk_180 0 26 (dk_at dksX5_sign_0 8 rfl rfl)
theorem dX5_sign_11 : decode cX5_sign 11 = .ok (.if_icmp .ge 22, 3) := dk_162 0 22 (dk_at dksX5_sign_0 11 rfl rfl)
theorem dX5_sign_14 : decode cX5_sign 14 = .ok (.aload_n 0, 1) := dk_42 (dk_at dksX5_sign_0 14 rfl rfl)
theorem dX5_sign_15 : decode cX5_sign 15 = .ok (.getfield 3, 3) := dk_180 0 3 (dk_at dksX5_sign_0 15 rfl rfl)
theorem dX5_sign_18 : decode cX5_sign 18 = .ok (.getfield 29, 3) := dk_180 0 29 (dk_at dksX5_sign_0 18 rfl rfl)
theorem dX5_sign_21 : decode cX5_sign 21 = .ok (.aload_n 0, 1) := dk_42 (dk_at dksX5_sign_0 21 rfl rfl)
theorem dX5_sign_22 : decode cX5_sign 22 = .ok (.getfield 23, 3) := dk_180 0 23 (dk_at dksX5_sign_1 0 rfl rfl)
theorem dX5_sign_25 : decode cX5_sign 25 = .ok (.baload, 1) := dk_51 (dk_at dksX5_sign_1 3 rfl rfl)
theorem dX5_sign_26 : decode cX5_sign 26 = .ok (.sipush 255, 3) := dk_17 0 255 (dk_at dksX5_sign_1 4 rfl rfl)
theorem dX5_sign_29 : decode cX5_sign 29 = .ok (.iand, 1) := dk_126 (dk_at dksX5_sign_1 7 rfl rfl)
theorem dX5_sign_30 : decode cX5_sign 30 = .ok (.goto 4, 3) := dk_167 0 4 (dk_at dksX5_sign_1 8 rfl rfl)
theorem dX5_sign_33 : decode cX5_sign 33 = .ok (.iconst (-1), 1) := dk_2 (dk_at dksX5_sign_1 11 rfl rfl)
theorem dX5_sign_34 : decode cX5_sign 34 = .ok (.ireturn, 1) := dk_172 (dk_at dksX5_sign_1 12 rfl rfl)
abbrev cX5_number : ByteArray := prog_10_method_7_code
def yX5_number : MethodName := ⟨RX5, "number", "(II)I"⟩
def dkwX5_number_4 : List UInt8 := [133, 27, 133, 28, 133, 184, 0, 41, 154, 0, 13, 42, 180, 0, 3, 4, 29, 182, 0, 69, 191, 21, 4, 172]
abbrev dktX5_number_4 : List UInt8 := dkwX5_number_4 ++ []
def dkwX5_number_3 : List UInt8 := [89, 180, 0, 23, 4, 96, 181, 0, 23, 167, 255, 209, 42, 180, 0, 23, 29, 100, 8, 163, 0, 16, 21, 4]
abbrev dktX5_number_3 : List UInt8 := dkwX5_number_3 ++ dktX5_number_4
def dkwX5_number_2 : List UInt8 := [162, 0, 19, 16, 10, 21, 4, 104, 42, 182, 0, 33, 96, 16, 48, 100, 167, 0, 5, 21, 4, 54, 4, 42]
abbrev dktX5_number_2 : List UInt8 := dkwX5_number_2 ++ dktX5_number_3
def dkwX5_number_1 : List UInt8 := [191, 42, 180, 0, 23, 62, 3, 54, 4, 42, 182, 0, 65, 153, 0, 46, 42, 180, 0, 23, 29, 100, 8]
abbrev dktX5_number_1 : List UInt8 := dkwX5_number_1 ++ dktX5_number_2
def dkwX5_number_0 : List UInt8 := [42, 182, 0, 45, 87, 42, 182, 0, 65, 154, 0, 16, 42, 180, 0, 3, 3, 42, 180, 0, 23, 182, 0, 69]
abbrev dktX5_number_0 : List UInt8 := dkwX5_number_0 ++ dktX5_number_1
theorem dksX5_number_0 : cX5_number.data.toList.drop 0 = dktX5_number_0 := by decide +kernel
theorem dksX5_number_1 : cX5_number.data.toList.drop 24 = dktX5_number_1 := dk_seg dksX5_number_0 24 rfl rfl
theorem dksX5_number_2 : cX5_number.data.toList.drop 47 = dktX5_number_2 := dk_seg dksX5_number_1 23 rfl rfl
theorem dksX5_number_3 : cX5_number.data.toList.drop 71 = dktX5_number_3 := dk_seg dksX5_number_2 24 rfl rfl
theorem dksX5_number_4 : cX5_number.data.toList.drop 95 = dktX5_number_4 := dk_seg dksX5_number_3 24 rfl rfl
theorem dX5_number_0 : decode cX5_number 0 = .ok (.aload_n 0, 1) := dk_42 (dk_at dksX5_number_0 0 rfl rfl)
theorem dX5_number_1 : decode cX5_number 1 = .ok (.invokevirtual 45, 3) := dk_182 0 45 (dk_at dksX5_number_0 1 rfl rfl)
theorem dX5_number_4 : decode cX5_number 4 = .ok (.pop, 1) := dk_87 (dk_at dksX5_number_0 4 rfl rfl)
theorem dX5_number_5 : decode cX5_number 5 = .ok (.aload_n 0, 1) := dk_42 (dk_at dksX5_number_0 5 rfl rfl)
theorem dX5_number_6 : decode cX5_number 6 = .ok (.invokevirtual 65, 3) := dk_182 0 65 (dk_at dksX5_number_0 6 rfl rfl)
theorem dX5_number_9 : decode cX5_number 9 = .ok (.ifCond .ne 16, 3) := dk_154 0 16 (dk_at dksX5_number_0 9 rfl rfl)
theorem dX5_number_12 : decode cX5_number 12 = .ok (.aload_n 0, 1) := dk_42 (dk_at dksX5_number_0 12 rfl rfl)
theorem dX5_number_13 : decode cX5_number 13 = .ok (.getfield 3, 3) := dk_180 0 3 (dk_at dksX5_number_0 13 rfl rfl)
theorem dX5_number_16 : decode cX5_number 16 = .ok (.iconst 0, 1) := dk_3 (dk_at dksX5_number_0 16 rfl rfl)
theorem dX5_number_17 : decode cX5_number 17 = .ok (.aload_n 0, 1) := dk_42 (dk_at dksX5_number_0 17 rfl rfl)
theorem dX5_number_18 : decode cX5_number 18 = .ok (.getfield 23, 3) := dk_180 0 23 (dk_at dksX5_number_0 18 rfl rfl)
theorem dX5_number_21 : decode cX5_number 21 = .ok (.invokevirtual 69, 3) := dk_182 0 69 (dk_at dksX5_number_0 21 rfl rfl)
theorem dX5_number_24 : decode cX5_number 24 = .ok (.athrow, 1) := dk_191 (dk_at dksX5_number_1 0 rfl rfl)
theorem dX5_number_25 : decode cX5_number 25 = .ok (.aload_n 0, 1) := dk_42 (dk_at dksX5_number_1 1 rfl rfl)
theorem dX5_number_26 : decode cX5_number 26 = .ok (.getfield 23, 3) := dk_180 0 23 (dk_at dksX5_number_1 2 rfl rfl)
theorem dX5_number_29 : decode cX5_number 29 = .ok (.istore_n 3, 1) := dk_62 (dk_at dksX5_number_1 5 rfl rfl)
theorem dX5_number_30 : decode cX5_number 30 = .ok (.iconst 0, 1) := dk_3 (dk_at dksX5_number_1 6 rfl rfl)
theorem dX5_number_31 : decode cX5_number 31 = .ok (.istore 4, 2) := dk_54 4 (dk_at dksX5_number_1 7 rfl rfl)
theorem dX5_number_33 : decode cX5_number 33 = .ok (.aload_n 0, 1) := dk_42 (dk_at dksX5_number_1 9 rfl rfl)
theorem dX5_number_34 : decode cX5_number 34 = .ok (.invokevirtual 65, 3) := dk_182 0 65 (dk_at dksX5_number_1 10 rfl rfl)
theorem dX5_number_37 : decode cX5_number 37 = .ok (.ifCond .eq 46, 3) := dk_153 0 46 (dk_at dksX5_number_1 13 rfl rfl)
theorem dX5_number_40 : decode cX5_number 40 = .ok (.aload_n 0, 1) := dk_42 (dk_at dksX5_number_1 16 rfl rfl)
theorem dX5_number_41 : decode cX5_number 41 = .ok (.getfield 23, 3) := dk_180 0 23 (dk_at dksX5_number_1 17 rfl rfl)
theorem dX5_number_44 : decode cX5_number 44 = .ok (.iload_n 3, 1) := dk_29 (dk_at dksX5_number_1 20 rfl rfl)
theorem dX5_number_45 : decode cX5_number 45 = .ok (.isub, 1) := dk_100 (dk_at dksX5_number_1 21 rfl rfl)
theorem dX5_number_46 : decode cX5_number 46 = .ok (.iconst 5, 1) := dk_8 (dk_at dksX5_number_1 22 rfl rfl)
theorem dX5_number_47 : decode cX5_number 47 = .ok (.if_icmp .ge 19, 3) := dk_162 0 19 (dk_at dksX5_number_2 0 rfl rfl)
theorem dX5_number_50 : decode cX5_number 50 = .ok (.bipush 10, 2) := dk_16 10 (dk_at dksX5_number_2 3 rfl rfl)
theorem dX5_number_52 : decode cX5_number 52 = .ok (.iload 4, 2) := dk_21 4 (dk_at dksX5_number_2 5 rfl rfl)
theorem dX5_number_54 : decode cX5_number 54 = .ok (.imul, 1) := dk_104 (dk_at dksX5_number_2 7 rfl rfl)
theorem dX5_number_55 : decode cX5_number 55 = .ok (.aload_n 0, 1) := dk_42 (dk_at dksX5_number_2 8 rfl rfl)
theorem dX5_number_56 : decode cX5_number 56 = .ok (.invokevirtual 33, 3) := dk_182 0 33 (dk_at dksX5_number_2 9 rfl rfl)
theorem dX5_number_59 : decode cX5_number 59 = .ok (.iadd, 1) := dk_96 (dk_at dksX5_number_2 12 rfl rfl)
theorem dX5_number_60 : decode cX5_number 60 = .ok (.bipush 48, 2) := dk_16 48 (dk_at dksX5_number_2 13 rfl rfl)
theorem dX5_number_62 : decode cX5_number 62 = .ok (.isub, 1) := dk_100 (dk_at dksX5_number_2 15 rfl rfl)
theorem dX5_number_63 : decode cX5_number 63 = .ok (.goto 5, 3) := dk_167 0 5 (dk_at dksX5_number_2 16 rfl rfl)
theorem dX5_number_66 : decode cX5_number 66 = .ok (.iload 4, 2) := dk_21 4 (dk_at dksX5_number_2 19 rfl rfl)
theorem dX5_number_68 : decode cX5_number 68 = .ok (.istore 4, 2) := dk_54 4 (dk_at dksX5_number_2 21 rfl rfl)
theorem dX5_number_70 : decode cX5_number 70 = .ok (.aload_n 0, 1) := dk_42 (dk_at dksX5_number_2 23 rfl rfl)
theorem dX5_number_71 : decode cX5_number 71 = .ok (.dup, 1) := dk_89 (dk_at dksX5_number_3 0 rfl rfl)
theorem dX5_number_72 : decode cX5_number 72 = .ok (.getfield 23, 3) := dk_180 0 23 (dk_at dksX5_number_3 1 rfl rfl)
theorem dX5_number_75 : decode cX5_number 75 = .ok (.iconst 1, 1) := dk_4 (dk_at dksX5_number_3 4 rfl rfl)
theorem dX5_number_76 : decode cX5_number 76 = .ok (.iadd, 1) := dk_96 (dk_at dksX5_number_3 5 rfl rfl)
theorem dX5_number_77 : decode cX5_number 77 = .ok (.putfield 23, 3) := dk_181 0 23 (dk_at dksX5_number_3 6 rfl rfl)
theorem dX5_number_80 : decode cX5_number 80 = .ok (.goto (-47), 3) := dk_167 255 209 (dk_at dksX5_number_3 9 rfl rfl)
theorem dX5_number_83 : decode cX5_number 83 = .ok (.aload_n 0, 1) := dk_42 (dk_at dksX5_number_3 12 rfl rfl)
theorem dX5_number_84 : decode cX5_number 84 = .ok (.getfield 23, 3) := dk_180 0 23 (dk_at dksX5_number_3 13 rfl rfl)
theorem dX5_number_87 : decode cX5_number 87 = .ok (.iload_n 3, 1) := dk_29 (dk_at dksX5_number_3 16 rfl rfl)
theorem dX5_number_88 : decode cX5_number 88 = .ok (.isub, 1) := dk_100 (dk_at dksX5_number_3 17 rfl rfl)
theorem dX5_number_89 : decode cX5_number 89 = .ok (.iconst 5, 1) := dk_8 (dk_at dksX5_number_3 18 rfl rfl)
theorem dX5_number_90 : decode cX5_number 90 = .ok (.if_icmp .gt 16, 3) := dk_163 0 16 (dk_at dksX5_number_3 19 rfl rfl)
theorem dX5_number_93 : decode cX5_number 93 = .ok (.iload 4, 2) := dk_21 4 (dk_at dksX5_number_3 22 rfl rfl)
theorem dX5_number_95 : decode cX5_number 95 = .ok (.i2l, 1) := dk_133 (dk_at dksX5_number_4 0 rfl rfl)
theorem dX5_number_96 : decode cX5_number 96 = .ok (.iload_n 1, 1) := dk_27 (dk_at dksX5_number_4 1 rfl rfl)
theorem dX5_number_97 : decode cX5_number 97 = .ok (.i2l, 1) := dk_133 (dk_at dksX5_number_4 2 rfl rfl)
theorem dX5_number_98 : decode cX5_number 98 = .ok (.iload_n 2, 1) := dk_28 (dk_at dksX5_number_4 3 rfl rfl)
theorem dX5_number_99 : decode cX5_number 99 = .ok (.i2l, 1) := dk_133 (dk_at dksX5_number_4 4 rfl rfl)
theorem dX5_number_100 : decode cX5_number 100 = .ok (.invokestatic 41, 3) := dk_184 0 41 (dk_at dksX5_number_4 5 rfl rfl)
theorem dX5_number_103 : decode cX5_number 103 = .ok (.ifCond .ne 13, 3) := dk_154 0 13 (dk_at dksX5_number_4 8 rfl rfl)
theorem dX5_number_106 : decode cX5_number 106 = .ok (.aload_n 0, 1) := dk_42 (dk_at dksX5_number_4 11 rfl rfl)
theorem dX5_number_107 : decode cX5_number 107 = .ok (.getfield 3, 3) := dk_180 0 3 (dk_at dksX5_number_4 12 rfl rfl)
theorem dX5_number_110 : decode cX5_number 110 = .ok (.iconst 1, 1) := dk_4 (dk_at dksX5_number_4 15 rfl rfl)
theorem dX5_number_111 : decode cX5_number 111 = .ok (.iload_n 3, 1) := dk_29 (dk_at dksX5_number_4 16 rfl rfl)
theorem dX5_number_112 : decode cX5_number 112 = .ok (.invokevirtual 69, 3) := dk_182 0 69 (dk_at dksX5_number_4 17 rfl rfl)
theorem dX5_number_115 : decode cX5_number 115 = .ok (.athrow, 1) := dk_191 (dk_at dksX5_number_4 20 rfl rfl)
theorem dX5_number_116 : decode cX5_number 116 = .ok (.iload 4, 2) := dk_21 4 (dk_at dksX5_number_4 21 rfl rfl)
theorem dX5_number_118 : decode cX5_number 118 = .ok (.ireturn, 1) := dk_172 (dk_at dksX5_number_4 23 rfl rfl)
abbrev cX5_isDigit : ByteArray := prog_10_method_4_code
def yX5_isDigit : MethodName := ⟨RX5, "isDigit", "()Z"⟩
def dkwX5_isDigit_0 : List UInt8 := [42, 182, 0, 33, 133, 20, 0, 37, 20, 0, 39, 184, 0, 41, 172]
abbrev dktX5_isDigit_0 : List UInt8 := dkwX5_isDigit_0 ++ []
theorem dksX5_isDigit_0 : cX5_isDigit.data.toList.drop 0 = dktX5_isDigit_0 := by decide +kernel
theorem dX5_isDigit_0 : decode cX5_isDigit 0 = .ok (.aload_n 0, 1) := dk_42 (dk_at dksX5_isDigit_0 0 rfl rfl)
theorem dX5_isDigit_1 : decode cX5_isDigit 1 = .ok (.invokevirtual 33, 3) := dk_182 0 33 (dk_at dksX5_isDigit_0 1 rfl rfl)
theorem dX5_isDigit_4 : decode cX5_isDigit 4 = .ok (.i2l, 1) := dk_133 (dk_at dksX5_isDigit_0 4 rfl rfl)
theorem dX5_isDigit_5 : decode cX5_isDigit 5 = .ok (.ldc2_w 37, 3) := dk_20 0 37 (dk_at dksX5_isDigit_0 5 rfl rfl)
theorem dX5_isDigit_8 : decode cX5_isDigit 8 = .ok (.ldc2_w 39, 3) := dk_20 0 39 (dk_at dksX5_isDigit_0 8 rfl rfl)
theorem dX5_isDigit_11 : decode cX5_isDigit 11 = .ok (.invokestatic 41, 3) := dk_184 0 41 (dk_at dksX5_isDigit_0 11 rfl rfl)
theorem dX5_isDigit_14 : decode cX5_isDigit 14 = .ok (.ireturn, 1) := dk_172 (dk_at dksX5_isDigit_0 14 rfl rfl)
abbrev cX5_house : ByteArray := prog_10_method_17_code
def yX5_house : MethodName := ⟨RX5, "house", "(LSmokeWord$Valley;)V"⟩
def dkwX5_house_1 : List UInt8 := [28, 29, 42, 3, 16, 20, 182, 0, 82, 183, 0, 158, 182, 0, 161, 87, 177]
abbrev dktX5_house_1 : List UInt8 := dkwX5_house_1 ++ []
def dkwX5_house_0 : List UInt8 := [42, 3, 16, 99, 182, 0, 82, 61, 42, 3, 16, 9, 182, 0, 82, 62, 43, 180, 0, 150, 187, 0, 156, 89]
abbrev dktX5_house_0 : List UInt8 := dkwX5_house_0 ++ dktX5_house_1
theorem dksX5_house_0 : cX5_house.data.toList.drop 0 = dktX5_house_0 := by decide +kernel
theorem dksX5_house_1 : cX5_house.data.toList.drop 24 = dktX5_house_1 := dk_seg dksX5_house_0 24 rfl rfl
theorem dX5_house_0 : decode cX5_house 0 = .ok (.aload_n 0, 1) := dk_42 (dk_at dksX5_house_0 0 rfl rfl)
theorem dX5_house_1 : decode cX5_house 1 = .ok (.iconst 0, 1) := dk_3 (dk_at dksX5_house_0 1 rfl rfl)
theorem dX5_house_2 : decode cX5_house 2 = .ok (.bipush 99, 2) := dk_16 99 (dk_at dksX5_house_0 2 rfl rfl)
theorem dX5_house_4 : decode cX5_house 4 = .ok (.invokevirtual 82, 3) := dk_182 0 82 (dk_at dksX5_house_0 4 rfl rfl)
theorem dX5_house_7 : decode cX5_house 7 = .ok (.istore_n 2, 1) := dk_61 (dk_at dksX5_house_0 7 rfl rfl)
theorem dX5_house_8 : decode cX5_house 8 = .ok (.aload_n 0, 1) := dk_42 (dk_at dksX5_house_0 8 rfl rfl)
theorem dX5_house_9 : decode cX5_house 9 = .ok (.iconst 0, 1) := dk_3 (dk_at dksX5_house_0 9 rfl rfl)
theorem dX5_house_10 : decode cX5_house 10 = .ok (.bipush 9, 2) := dk_16 9 (dk_at dksX5_house_0 10 rfl rfl)
theorem dX5_house_12 : decode cX5_house 12 = .ok (.invokevirtual 82, 3) := dk_182 0 82 (dk_at dksX5_house_0 12 rfl rfl)
theorem dX5_house_15 : decode cX5_house 15 = .ok (.istore_n 3, 1) := dk_62 (dk_at dksX5_house_0 15 rfl rfl)
theorem dX5_house_16 : decode cX5_house 16 = .ok (.aload_n 1, 1) := dk_43 (dk_at dksX5_house_0 16 rfl rfl)
theorem dX5_house_17 : decode cX5_house 17 = .ok (.getfield 150, 3) := dk_180 0 150 (dk_at dksX5_house_0 17 rfl rfl)
theorem dX5_house_20 : decode cX5_house 20 = .ok (.new 156, 3) := dk_187 0 156 (dk_at dksX5_house_0 20 rfl rfl)
theorem dX5_house_23 : decode cX5_house 23 = .ok (.dup, 1) := dk_89 (dk_at dksX5_house_0 23 rfl rfl)
theorem dX5_house_24 : decode cX5_house 24 = .ok (.iload_n 2, 1) := dk_28 (dk_at dksX5_house_1 0 rfl rfl)
theorem dX5_house_25 : decode cX5_house 25 = .ok (.iload_n 3, 1) := dk_29 (dk_at dksX5_house_1 1 rfl rfl)
theorem dX5_house_26 : decode cX5_house 26 = .ok (.aload_n 0, 1) := dk_42 (dk_at dksX5_house_1 2 rfl rfl)
theorem dX5_house_27 : decode cX5_house 27 = .ok (.iconst 0, 1) := dk_3 (dk_at dksX5_house_1 3 rfl rfl)
theorem dX5_house_28 : decode cX5_house 28 = .ok (.bipush 20, 2) := dk_16 20 (dk_at dksX5_house_1 4 rfl rfl)
theorem dX5_house_30 : decode cX5_house 30 = .ok (.invokevirtual 82, 3) := dk_182 0 82 (dk_at dksX5_house_1 6 rfl rfl)
theorem dX5_house_33 : decode cX5_house 33 = .ok (.invokespecial 158, 3) := dk_183 0 158 (dk_at dksX5_house_1 9 rfl rfl)
theorem dX5_house_36 : decode cX5_house 36 = .ok (.invokevirtual 161, 3) := dk_182 0 161 (dk_at dksX5_house_1 12 rfl rfl)
theorem dX5_house_39 : decode cX5_house 39 = .ok (.pop, 1) := dk_87 (dk_at dksX5_house_1 15 rfl rfl)
theorem dX5_house_40 : decode cX5_house 40 = .ok (.return_, 1) := dk_177 (dk_at dksX5_house_1 16 rfl rfl)
abbrev cX5_road : ByteArray := prog_10_method_19_code
def yX5_road : MethodName := ⟨RX5, "road", "(LSmokeWord$Valley;)V"⟩
def dkwX5_road_2 : List UInt8 := [29, 104, 28, 96, 21, 4, 79, 177]
abbrev dktX5_road_2 : List UInt8 := dkwX5_road_2 ++ []
def dkwX5_road_1 : List UInt8 := [182, 0, 82, 54, 4, 43, 180, 0, 172, 16, 7, 28, 104, 29, 96, 21, 4, 79, 43, 180, 0, 172, 16, 7]
abbrev dktX5_road_1 : List UInt8 := dkwX5_road_1 ++ dktX5_road_2
def dkwX5_road_0 : List UInt8 := [42, 3, 43, 182, 0, 167, 182, 0, 82, 61, 42, 28, 43, 182, 0, 167, 182, 0, 169, 62, 42, 4, 16, 9]
abbrev dktX5_road_0 : List UInt8 := dkwX5_road_0 ++ dktX5_road_1
theorem dksX5_road_0 : cX5_road.data.toList.drop 0 = dktX5_road_0 := by decide +kernel
theorem dksX5_road_1 : cX5_road.data.toList.drop 24 = dktX5_road_1 := dk_seg dksX5_road_0 24 rfl rfl
theorem dksX5_road_2 : cX5_road.data.toList.drop 48 = dktX5_road_2 := dk_seg dksX5_road_1 24 rfl rfl
theorem dX5_road_0 : decode cX5_road 0 = .ok (.aload_n 0, 1) := dk_42 (dk_at dksX5_road_0 0 rfl rfl)
theorem dX5_road_1 : decode cX5_road 1 = .ok (.iconst 0, 1) := dk_3 (dk_at dksX5_road_0 1 rfl rfl)
theorem dX5_road_2 : decode cX5_road 2 = .ok (.aload_n 1, 1) := dk_43 (dk_at dksX5_road_0 2 rfl rfl)
theorem dX5_road_3 : decode cX5_road 3 = .ok (.invokevirtual 167, 3) := dk_182 0 167 (dk_at dksX5_road_0 3 rfl rfl)
theorem dX5_road_6 : decode cX5_road 6 = .ok (.invokevirtual 82, 3) := dk_182 0 82 (dk_at dksX5_road_0 6 rfl rfl)
theorem dX5_road_9 : decode cX5_road 9 = .ok (.istore_n 2, 1) := dk_61 (dk_at dksX5_road_0 9 rfl rfl)
theorem dX5_road_10 : decode cX5_road 10 = .ok (.aload_n 0, 1) := dk_42 (dk_at dksX5_road_0 10 rfl rfl)
theorem dX5_road_11 : decode cX5_road 11 = .ok (.iload_n 2, 1) := dk_28 (dk_at dksX5_road_0 11 rfl rfl)
theorem dX5_road_12 : decode cX5_road 12 = .ok (.aload_n 1, 1) := dk_43 (dk_at dksX5_road_0 12 rfl rfl)
theorem dX5_road_13 : decode cX5_road 13 = .ok (.invokevirtual 167, 3) := dk_182 0 167 (dk_at dksX5_road_0 13 rfl rfl)
theorem dX5_road_16 : decode cX5_road 16 = .ok (.invokevirtual 169, 3) := dk_182 0 169 (dk_at dksX5_road_0 16 rfl rfl)
theorem dX5_road_19 : decode cX5_road 19 = .ok (.istore_n 3, 1) := dk_62 (dk_at dksX5_road_0 19 rfl rfl)
theorem dX5_road_20 : decode cX5_road 20 = .ok (.aload_n 0, 1) := dk_42 (dk_at dksX5_road_0 20 rfl rfl)
theorem dX5_road_21 : decode cX5_road 21 = .ok (.iconst 1, 1) := dk_4 (dk_at dksX5_road_0 21 rfl rfl)
theorem dX5_road_22 : decode cX5_road 22 = .ok (.bipush 9, 2) := dk_16 9 (dk_at dksX5_road_0 22 rfl rfl)
theorem dX5_road_24 : decode cX5_road 24 = .ok (.invokevirtual 82, 3) := dk_182 0 82 (dk_at dksX5_road_1 0 rfl rfl)
theorem dX5_road_27 : decode cX5_road 27 = .ok (.istore 4, 2) := dk_54 4 (dk_at dksX5_road_1 3 rfl rfl)
theorem dX5_road_29 : decode cX5_road 29 = .ok (.aload_n 1, 1) := dk_43 (dk_at dksX5_road_1 5 rfl rfl)
theorem dX5_road_30 : decode cX5_road 30 = .ok (.getfield 172, 3) := dk_180 0 172 (dk_at dksX5_road_1 6 rfl rfl)
theorem dX5_road_33 : decode cX5_road 33 = .ok (.bipush 7, 2) := dk_16 7 (dk_at dksX5_road_1 9 rfl rfl)
theorem dX5_road_35 : decode cX5_road 35 = .ok (.iload_n 2, 1) := dk_28 (dk_at dksX5_road_1 11 rfl rfl)
theorem dX5_road_36 : decode cX5_road 36 = .ok (.imul, 1) := dk_104 (dk_at dksX5_road_1 12 rfl rfl)
theorem dX5_road_37 : decode cX5_road 37 = .ok (.iload_n 3, 1) := dk_29 (dk_at dksX5_road_1 13 rfl rfl)
theorem dX5_road_38 : decode cX5_road 38 = .ok (.iadd, 1) := dk_96 (dk_at dksX5_road_1 14 rfl rfl)
theorem dX5_road_39 : decode cX5_road 39 = .ok (.iload 4, 2) := dk_21 4 (dk_at dksX5_road_1 15 rfl rfl)
theorem dX5_road_41 : decode cX5_road 41 = .ok (.iastore, 1) := dk_79 (dk_at dksX5_road_1 17 rfl rfl)
theorem dX5_road_42 : decode cX5_road 42 = .ok (.aload_n 1, 1) := dk_43 (dk_at dksX5_road_1 18 rfl rfl)
theorem dX5_road_43 : decode cX5_road 43 = .ok (.getfield 172, 3) := dk_180 0 172 (dk_at dksX5_road_1 19 rfl rfl)
theorem dX5_road_46 : decode cX5_road 46 = .ok (.bipush 7, 2) := dk_16 7 (dk_at dksX5_road_1 22 rfl rfl)
theorem dX5_road_48 : decode cX5_road 48 = .ok (.iload_n 3, 1) := dk_29 (dk_at dksX5_road_2 0 rfl rfl)
theorem dX5_road_49 : decode cX5_road 49 = .ok (.imul, 1) := dk_104 (dk_at dksX5_road_2 1 rfl rfl)
theorem dX5_road_50 : decode cX5_road 50 = .ok (.iload_n 2, 1) := dk_28 (dk_at dksX5_road_2 2 rfl rfl)
theorem dX5_road_51 : decode cX5_road 51 = .ok (.iadd, 1) := dk_96 (dk_at dksX5_road_2 3 rfl rfl)
theorem dX5_road_52 : decode cX5_road 52 = .ok (.iload 4, 2) := dk_21 4 (dk_at dksX5_road_2 4 rfl rfl)
theorem dX5_road_54 : decode cX5_road 54 = .ok (.iastore, 1) := dk_79 (dk_at dksX5_road_2 6 rfl rfl)
theorem dX5_road_55 : decode cX5_road 55 = .ok (.return_, 1) := dk_177 (dk_at dksX5_road_2 7 rfl rfl)
abbrev cX5_other : ByteArray := prog_10_method_18_code
def yX5_other : MethodName := ⟨RX5, "other", "(II)I"⟩
def dkwX5_other_1 : List UInt8 := [42, 180, 0, 3, 4, 29, 182, 0, 69, 191, 21, 4, 172]
abbrev dktX5_other_1 : List UInt8 := dkwX5_other_1 ++ []
def dkwX5_other_0 : List UInt8 := [42, 182, 0, 45, 87, 42, 180, 0, 23, 62, 42, 3, 28, 182, 0, 82, 54, 4, 21, 4, 27, 160, 0, 13]
abbrev dktX5_other_0 : List UInt8 := dkwX5_other_0 ++ dktX5_other_1
theorem dksX5_other_0 : cX5_other.data.toList.drop 0 = dktX5_other_0 := by decide +kernel
theorem dksX5_other_1 : cX5_other.data.toList.drop 24 = dktX5_other_1 := dk_seg dksX5_other_0 24 rfl rfl
theorem dX5_other_0 : decode cX5_other 0 = .ok (.aload_n 0, 1) := dk_42 (dk_at dksX5_other_0 0 rfl rfl)
theorem dX5_other_1 : decode cX5_other 1 = .ok (.invokevirtual 45, 3) := dk_182 0 45 (dk_at dksX5_other_0 1 rfl rfl)
theorem dX5_other_4 : decode cX5_other 4 = .ok (.pop, 1) := dk_87 (dk_at dksX5_other_0 4 rfl rfl)
theorem dX5_other_5 : decode cX5_other 5 = .ok (.aload_n 0, 1) := dk_42 (dk_at dksX5_other_0 5 rfl rfl)
theorem dX5_other_6 : decode cX5_other 6 = .ok (.getfield 23, 3) := dk_180 0 23 (dk_at dksX5_other_0 6 rfl rfl)
theorem dX5_other_9 : decode cX5_other 9 = .ok (.istore_n 3, 1) := dk_62 (dk_at dksX5_other_0 9 rfl rfl)
theorem dX5_other_10 : decode cX5_other 10 = .ok (.aload_n 0, 1) := dk_42 (dk_at dksX5_other_0 10 rfl rfl)
theorem dX5_other_11 : decode cX5_other 11 = .ok (.iconst 0, 1) := dk_3 (dk_at dksX5_other_0 11 rfl rfl)
theorem dX5_other_12 : decode cX5_other 12 = .ok (.iload_n 2, 1) := dk_28 (dk_at dksX5_other_0 12 rfl rfl)
theorem dX5_other_13 : decode cX5_other 13 = .ok (.invokevirtual 82, 3) := dk_182 0 82 (dk_at dksX5_other_0 13 rfl rfl)
theorem dX5_other_16 : decode cX5_other 16 = .ok (.istore 4, 2) := dk_54 4 (dk_at dksX5_other_0 16 rfl rfl)
theorem dX5_other_18 : decode cX5_other 18 = .ok (.iload 4, 2) := dk_21 4 (dk_at dksX5_other_0 18 rfl rfl)
theorem dX5_other_20 : decode cX5_other 20 = .ok (.iload_n 1, 1) := dk_27 (dk_at dksX5_other_0 20 rfl rfl)
theorem dX5_other_21 : decode cX5_other 21 = .ok (.if_icmp .ne 13, 3) := dk_160 0 13 (dk_at dksX5_other_0 21 rfl rfl)
theorem dX5_other_24 : decode cX5_other 24 = .ok (.aload_n 0, 1) := dk_42 (dk_at dksX5_other_1 0 rfl rfl)
theorem dX5_other_25 : decode cX5_other 25 = .ok (.getfield 3, 3) := dk_180 0 3 (dk_at dksX5_other_1 1 rfl rfl)
theorem dX5_other_28 : decode cX5_other 28 = .ok (.iconst 1, 1) := dk_4 (dk_at dksX5_other_1 4 rfl rfl)
theorem dX5_other_29 : decode cX5_other 29 = .ok (.iload_n 3, 1) := dk_29 (dk_at dksX5_other_1 5 rfl rfl)
theorem dX5_other_30 : decode cX5_other 30 = .ok (.invokevirtual 69, 3) := dk_182 0 69 (dk_at dksX5_other_1 6 rfl rfl)
theorem dX5_other_33 : decode cX5_other 33 = .ok (.athrow, 1) := dk_191 (dk_at dksX5_other_1 9 rfl rfl)
theorem dX5_other_34 : decode cX5_other 34 = .ok (.iload 4, 2) := dk_21 4 (dk_at dksX5_other_1 10 rfl rfl)
theorem dX5_other_36 : decode cX5_other 36 = .ok (.ireturn, 1) := dk_172 (dk_at dksX5_other_1 12 rfl rfl)
abbrev cX5_beside : ByteArray := prog_10_method_20_code
def yX5_beside : MethodName := ⟨RX5, "beside", "(LSmokeWord$Valley;)V"⟩
def dkwX5_beside_2 : List UInt8 := [177]
abbrev dktX5_beside_2 : List UInt8 := dkwX5_beside_2 ++ []
def dkwX5_beside_1 : List UInt8 := [43, 180, 0, 176, 28, 92, 46, 4, 29, 120, 128, 79, 43, 180, 0, 176, 29, 92, 46, 4, 28, 120, 128, 79]
abbrev dktX5_beside_1 : List UInt8 := dkwX5_beside_1 ++ dktX5_beside_2
def dkwX5_beside_0 : List UInt8 := [42, 3, 43, 182, 0, 167, 4, 100, 182, 0, 82, 61, 42, 28, 43, 182, 0, 167, 4, 100, 182, 0, 169, 62]
abbrev dktX5_beside_0 : List UInt8 := dkwX5_beside_0 ++ dktX5_beside_1
theorem dksX5_beside_0 : cX5_beside.data.toList.drop 0 = dktX5_beside_0 := by decide +kernel
theorem dksX5_beside_1 : cX5_beside.data.toList.drop 24 = dktX5_beside_1 := dk_seg dksX5_beside_0 24 rfl rfl
theorem dksX5_beside_2 : cX5_beside.data.toList.drop 48 = dktX5_beside_2 := dk_seg dksX5_beside_1 24 rfl rfl
theorem dX5_beside_0 : decode cX5_beside 0 = .ok (.aload_n 0, 1) := dk_42 (dk_at dksX5_beside_0 0 rfl rfl)
theorem dX5_beside_1 : decode cX5_beside 1 = .ok (.iconst 0, 1) := dk_3 (dk_at dksX5_beside_0 1 rfl rfl)
theorem dX5_beside_2 : decode cX5_beside 2 = .ok (.aload_n 1, 1) := dk_43 (dk_at dksX5_beside_0 2 rfl rfl)
theorem dX5_beside_3 : decode cX5_beside 3 = .ok (.invokevirtual 167, 3) := dk_182 0 167 (dk_at dksX5_beside_0 3 rfl rfl)
theorem dX5_beside_6 : decode cX5_beside 6 = .ok (.iconst 1, 1) := dk_4 (dk_at dksX5_beside_0 6 rfl rfl)
theorem dX5_beside_7 : decode cX5_beside 7 = .ok (.isub, 1) := dk_100 (dk_at dksX5_beside_0 7 rfl rfl)
theorem dX5_beside_8 : decode cX5_beside 8 = .ok (.invokevirtual 82, 3) := dk_182 0 82 (dk_at dksX5_beside_0 8 rfl rfl)
theorem dX5_beside_11 : decode cX5_beside 11 = .ok (.istore_n 2, 1) := dk_61 (dk_at dksX5_beside_0 11 rfl rfl)
theorem dX5_beside_12 : decode cX5_beside 12 = .ok (.aload_n 0, 1) := dk_42 (dk_at dksX5_beside_0 12 rfl rfl)
theorem dX5_beside_13 : decode cX5_beside 13 = .ok (.iload_n 2, 1) := dk_28 (dk_at dksX5_beside_0 13 rfl rfl)
theorem dX5_beside_14 : decode cX5_beside 14 = .ok (.aload_n 1, 1) := dk_43 (dk_at dksX5_beside_0 14 rfl rfl)
theorem dX5_beside_15 : decode cX5_beside 15 = .ok (.invokevirtual 167, 3) := dk_182 0 167 (dk_at dksX5_beside_0 15 rfl rfl)
theorem dX5_beside_18 : decode cX5_beside 18 = .ok (.iconst 1, 1) := dk_4 (dk_at dksX5_beside_0 18 rfl rfl)
theorem dX5_beside_19 : decode cX5_beside 19 = .ok (.isub, 1) := dk_100 (dk_at dksX5_beside_0 19 rfl rfl)
theorem dX5_beside_20 : decode cX5_beside 20 = .ok (.invokevirtual 169, 3) := dk_182 0 169 (dk_at dksX5_beside_0 20 rfl rfl)
theorem dX5_beside_23 : decode cX5_beside 23 = .ok (.istore_n 3, 1) := dk_62 (dk_at dksX5_beside_0 23 rfl rfl)
theorem dX5_beside_24 : decode cX5_beside 24 = .ok (.aload_n 1, 1) := dk_43 (dk_at dksX5_beside_1 0 rfl rfl)
theorem dX5_beside_25 : decode cX5_beside 25 = .ok (.getfield 176, 3) := dk_180 0 176 (dk_at dksX5_beside_1 1 rfl rfl)
theorem dX5_beside_28 : decode cX5_beside 28 = .ok (.iload_n 2, 1) := dk_28 (dk_at dksX5_beside_1 4 rfl rfl)
theorem dX5_beside_29 : decode cX5_beside 29 = .ok (.dup2, 1) := dk_92 (dk_at dksX5_beside_1 5 rfl rfl)
theorem dX5_beside_30 : decode cX5_beside 30 = .ok (.iaload, 1) := dk_46 (dk_at dksX5_beside_1 6 rfl rfl)
theorem dX5_beside_31 : decode cX5_beside 31 = .ok (.iconst 1, 1) := dk_4 (dk_at dksX5_beside_1 7 rfl rfl)
theorem dX5_beside_32 : decode cX5_beside 32 = .ok (.iload_n 3, 1) := dk_29 (dk_at dksX5_beside_1 8 rfl rfl)
theorem dX5_beside_33 : decode cX5_beside 33 = .ok (.ishl, 1) := dk_120 (dk_at dksX5_beside_1 9 rfl rfl)
theorem dX5_beside_34 : decode cX5_beside 34 = .ok (.ior, 1) := dk_128 (dk_at dksX5_beside_1 10 rfl rfl)
theorem dX5_beside_35 : decode cX5_beside 35 = .ok (.iastore, 1) := dk_79 (dk_at dksX5_beside_1 11 rfl rfl)
theorem dX5_beside_36 : decode cX5_beside 36 = .ok (.aload_n 1, 1) := dk_43 (dk_at dksX5_beside_1 12 rfl rfl)
theorem dX5_beside_37 : decode cX5_beside 37 = .ok (.getfield 176, 3) := dk_180 0 176 (dk_at dksX5_beside_1 13 rfl rfl)
theorem dX5_beside_40 : decode cX5_beside 40 = .ok (.iload_n 3, 1) := dk_29 (dk_at dksX5_beside_1 16 rfl rfl)
theorem dX5_beside_41 : decode cX5_beside 41 = .ok (.dup2, 1) := dk_92 (dk_at dksX5_beside_1 17 rfl rfl)
theorem dX5_beside_42 : decode cX5_beside 42 = .ok (.iaload, 1) := dk_46 (dk_at dksX5_beside_1 18 rfl rfl)
theorem dX5_beside_43 : decode cX5_beside 43 = .ok (.iconst 1, 1) := dk_4 (dk_at dksX5_beside_1 19 rfl rfl)
theorem dX5_beside_44 : decode cX5_beside 44 = .ok (.iload_n 2, 1) := dk_28 (dk_at dksX5_beside_1 20 rfl rfl)
theorem dX5_beside_45 : decode cX5_beside 45 = .ok (.ishl, 1) := dk_120 (dk_at dksX5_beside_1 21 rfl rfl)
theorem dX5_beside_46 : decode cX5_beside 46 = .ok (.ior, 1) := dk_128 (dk_at dksX5_beside_1 22 rfl rfl)
theorem dX5_beside_47 : decode cX5_beside 47 = .ok (.iastore, 1) := dk_79 (dk_at dksX5_beside_1 23 rfl rfl)
theorem dX5_beside_48 : decode cX5_beside 48 = .ok (.return_, 1) := dk_177 (dk_at dksX5_beside_2 0 rfl rfl)
abbrev cX5_goesOn : ByteArray := prog_10_method_23_code
def yX5_goesOn : MethodName := ⟨RX5, "goesOn", "()Z"⟩
def dkwX5_goesOn_1 : List UInt8 := [180, 0, 23, 182, 0, 69, 191, 42, 89, 180, 0, 23, 4, 96, 181, 0, 23, 4, 172]
abbrev dktX5_goesOn_1 : List UInt8 := dkwX5_goesOn_1 ++ []
def dkwX5_goesOn_0 : List UInt8 := [42, 182, 0, 45, 60, 27, 2, 160, 0, 5, 3, 172, 27, 16, 59, 159, 0, 16, 42, 180, 0, 3, 3, 42]
abbrev dktX5_goesOn_0 : List UInt8 := dkwX5_goesOn_0 ++ dktX5_goesOn_1
theorem dksX5_goesOn_0 : cX5_goesOn.data.toList.drop 0 = dktX5_goesOn_0 := by decide +kernel
theorem dksX5_goesOn_1 : cX5_goesOn.data.toList.drop 24 = dktX5_goesOn_1 := dk_seg dksX5_goesOn_0 24 rfl rfl
theorem dX5_goesOn_0 : decode cX5_goesOn 0 = .ok (.aload_n 0, 1) := dk_42 (dk_at dksX5_goesOn_0 0 rfl rfl)
theorem dX5_goesOn_1 : decode cX5_goesOn 1 = .ok (.invokevirtual 45, 3) := dk_182 0 45 (dk_at dksX5_goesOn_0 1 rfl rfl)
theorem dX5_goesOn_4 : decode cX5_goesOn 4 = .ok (.istore_n 1, 1) := dk_60 (dk_at dksX5_goesOn_0 4 rfl rfl)
theorem dX5_goesOn_5 : decode cX5_goesOn 5 = .ok (.iload_n 1, 1) := dk_27 (dk_at dksX5_goesOn_0 5 rfl rfl)
theorem dX5_goesOn_6 : decode cX5_goesOn 6 = .ok (.iconst (-1), 1) := dk_2 (dk_at dksX5_goesOn_0 6 rfl rfl)
theorem dX5_goesOn_7 : decode cX5_goesOn 7 = .ok (.if_icmp .ne 5, 3) := dk_160 0 5 (dk_at dksX5_goesOn_0 7 rfl rfl)
theorem dX5_goesOn_10 : decode cX5_goesOn 10 = .ok (.iconst 0, 1) := dk_3 (dk_at dksX5_goesOn_0 10 rfl rfl)
theorem dX5_goesOn_11 : decode cX5_goesOn 11 = .ok (.ireturn, 1) := dk_172 (dk_at dksX5_goesOn_0 11 rfl rfl)
theorem dX5_goesOn_12 : decode cX5_goesOn 12 = .ok (.iload_n 1, 1) := dk_27 (dk_at dksX5_goesOn_0 12 rfl rfl)
theorem dX5_goesOn_13 : decode cX5_goesOn 13 = .ok (.bipush 59, 2) := dk_16 59 (dk_at dksX5_goesOn_0 13 rfl rfl)
theorem dX5_goesOn_15 : decode cX5_goesOn 15 = .ok (.if_icmp .eq 16, 3) := dk_159 0 16 (dk_at dksX5_goesOn_0 15 rfl rfl)
theorem dX5_goesOn_18 : decode cX5_goesOn 18 = .ok (.aload_n 0, 1) := dk_42 (dk_at dksX5_goesOn_0 18 rfl rfl)
theorem dX5_goesOn_19 : decode cX5_goesOn 19 = .ok (.getfield 3, 3) := dk_180 0 3 (dk_at dksX5_goesOn_0 19 rfl rfl)
theorem dX5_goesOn_22 : decode cX5_goesOn 22 = .ok (.iconst 0, 1) := dk_3 (dk_at dksX5_goesOn_0 22 rfl rfl)
theorem dX5_goesOn_23 : decode cX5_goesOn 23 = .ok (.aload_n 0, 1) := dk_42 (dk_at dksX5_goesOn_0 23 rfl rfl)
theorem dX5_goesOn_24 : decode cX5_goesOn 24 = .ok (.getfield 23, 3) := dk_180 0 23 (dk_at dksX5_goesOn_1 0 rfl rfl)
theorem dX5_goesOn_27 : decode cX5_goesOn 27 = .ok (.invokevirtual 69, 3) := dk_182 0 69 (dk_at dksX5_goesOn_1 3 rfl rfl)
theorem dX5_goesOn_30 : decode cX5_goesOn 30 = .ok (.athrow, 1) := dk_191 (dk_at dksX5_goesOn_1 6 rfl rfl)
theorem dX5_goesOn_31 : decode cX5_goesOn 31 = .ok (.aload_n 0, 1) := dk_42 (dk_at dksX5_goesOn_1 7 rfl rfl)
theorem dX5_goesOn_32 : decode cX5_goesOn 32 = .ok (.dup, 1) := dk_89 (dk_at dksX5_goesOn_1 8 rfl rfl)
theorem dX5_goesOn_33 : decode cX5_goesOn 33 = .ok (.getfield 23, 3) := dk_180 0 23 (dk_at dksX5_goesOn_1 9 rfl rfl)
theorem dX5_goesOn_36 : decode cX5_goesOn 36 = .ok (.iconst 1, 1) := dk_4 (dk_at dksX5_goesOn_1 12 rfl rfl)
theorem dX5_goesOn_37 : decode cX5_goesOn 37 = .ok (.iadd, 1) := dk_96 (dk_at dksX5_goesOn_1 13 rfl rfl)
theorem dX5_goesOn_38 : decode cX5_goesOn 38 = .ok (.putfield 23, 3) := dk_181 0 23 (dk_at dksX5_goesOn_1 14 rfl rfl)
theorem dX5_goesOn_41 : decode cX5_goesOn 41 = .ok (.iconst 1, 1) := dk_4 (dk_at dksX5_goesOn_1 17 rfl rfl)
theorem dX5_goesOn_42 : decode cX5_goesOn 42 = .ok (.ireturn, 1) := dk_172 (dk_at dksX5_goesOn_1 18 rfl rfl)
abbrev cX5_rule : ByteArray := prog_10_method_25_code
def yX5_rule : MethodName := ⟨RX5, "rule", "()I"⟩
def dkwX5_rule_2 : List UInt8 := [180, 0, 231, 182, 0, 234, 4, 100, 172]
abbrev dktX5_rule_2 : List UInt8 := dkwX5_rule_2 ++ []
def dkwX5_rule_1 : List UInt8 := [182, 0, 228, 167, 255, 244, 42, 180, 0, 3, 180, 0, 231, 43, 182, 0, 161, 87, 42, 180, 0, 3]
abbrev dktX5_rule_1 : List UInt8 := dkwX5_rule_1 ++ dktX5_rule_2
def dkwX5_rule_0 : List UInt8 := [187, 0, 206, 89, 183, 0, 227, 76, 42, 43, 182, 0, 228, 42, 182, 0, 221, 153, 0, 11, 42, 43]
abbrev dktX5_rule_0 : List UInt8 := dkwX5_rule_0 ++ dktX5_rule_1
theorem dksX5_rule_0 : cX5_rule.data.toList.drop 0 = dktX5_rule_0 := by decide +kernel
theorem dksX5_rule_1 : cX5_rule.data.toList.drop 22 = dktX5_rule_1 := dk_seg dksX5_rule_0 22 rfl rfl
theorem dksX5_rule_2 : cX5_rule.data.toList.drop 44 = dktX5_rule_2 := dk_seg dksX5_rule_1 22 rfl rfl
theorem dX5_rule_0 : decode cX5_rule 0 = .ok (.new 206, 3) := dk_187 0 206 (dk_at dksX5_rule_0 0 rfl rfl)
theorem dX5_rule_3 : decode cX5_rule 3 = .ok (.dup, 1) := dk_89 (dk_at dksX5_rule_0 3 rfl rfl)
theorem dX5_rule_4 : decode cX5_rule 4 = .ok (.invokespecial 227, 3) := dk_183 0 227 (dk_at dksX5_rule_0 4 rfl rfl)
theorem dX5_rule_7 : decode cX5_rule 7 = .ok (.astore_n 1, 1) := dk_76 (dk_at dksX5_rule_0 7 rfl rfl)
theorem dX5_rule_8 : decode cX5_rule 8 = .ok (.aload_n 0, 1) := dk_42 (dk_at dksX5_rule_0 8 rfl rfl)
theorem dX5_rule_9 : decode cX5_rule 9 = .ok (.aload_n 1, 1) := dk_43 (dk_at dksX5_rule_0 9 rfl rfl)
theorem dX5_rule_10 : decode cX5_rule 10 = .ok (.invokevirtual 228, 3) := dk_182 0 228 (dk_at dksX5_rule_0 10 rfl rfl)
theorem dX5_rule_13 : decode cX5_rule 13 = .ok (.aload_n 0, 1) := dk_42 (dk_at dksX5_rule_0 13 rfl rfl)
theorem dX5_rule_14 : decode cX5_rule 14 = .ok (.invokevirtual 221, 3) := dk_182 0 221 (dk_at dksX5_rule_0 14 rfl rfl)
theorem dX5_rule_17 : decode cX5_rule 17 = .ok (.ifCond .eq 11, 3) := dk_153 0 11 (dk_at dksX5_rule_0 17 rfl rfl)
theorem dX5_rule_20 : decode cX5_rule 20 = .ok (.aload_n 0, 1) := dk_42 (dk_at dksX5_rule_0 20 rfl rfl)
theorem dX5_rule_21 : decode cX5_rule 21 = .ok (.aload_n 1, 1) := dk_43 (dk_at dksX5_rule_0 21 rfl rfl)
theorem dX5_rule_22 : decode cX5_rule 22 = .ok (.invokevirtual 228, 3) := dk_182 0 228 (dk_at dksX5_rule_1 0 rfl rfl)
theorem dX5_rule_25 : decode cX5_rule 25 = .ok (.goto (-12), 3) := dk_167 255 244 (dk_at dksX5_rule_1 3 rfl rfl)
theorem dX5_rule_28 : decode cX5_rule 28 = .ok (.aload_n 0, 1) := dk_42 (dk_at dksX5_rule_1 6 rfl rfl)
theorem dX5_rule_29 : decode cX5_rule 29 = .ok (.getfield 3, 3) := dk_180 0 3 (dk_at dksX5_rule_1 7 rfl rfl)
theorem dX5_rule_32 : decode cX5_rule 32 = .ok (.getfield 231, 3) := dk_180 0 231 (dk_at dksX5_rule_1 10 rfl rfl)
theorem dX5_rule_35 : decode cX5_rule 35 = .ok (.aload_n 1, 1) := dk_43 (dk_at dksX5_rule_1 13 rfl rfl)
theorem dX5_rule_36 : decode cX5_rule 36 = .ok (.invokevirtual 161, 3) := dk_182 0 161 (dk_at dksX5_rule_1 14 rfl rfl)
theorem dX5_rule_39 : decode cX5_rule 39 = .ok (.pop, 1) := dk_87 (dk_at dksX5_rule_1 17 rfl rfl)
theorem dX5_rule_40 : decode cX5_rule 40 = .ok (.aload_n 0, 1) := dk_42 (dk_at dksX5_rule_1 18 rfl rfl)
theorem dX5_rule_41 : decode cX5_rule 41 = .ok (.getfield 3, 3) := dk_180 0 3 (dk_at dksX5_rule_1 19 rfl rfl)
theorem dX5_rule_44 : decode cX5_rule 44 = .ok (.getfield 231, 3) := dk_180 0 231 (dk_at dksX5_rule_2 0 rfl rfl)
theorem dX5_rule_47 : decode cX5_rule 47 = .ok (.invokevirtual 234, 3) := dk_182 0 234 (dk_at dksX5_rule_2 3 rfl rfl)
theorem dX5_rule_50 : decode cX5_rule 50 = .ok (.iconst 1, 1) := dk_4 (dk_at dksX5_rule_2 6 rfl rfl)
theorem dX5_rule_51 : decode cX5_rule 51 = .ok (.isub, 1) := dk_100 (dk_at dksX5_rule_2 7 rfl rfl)
theorem dX5_rule_52 : decode cX5_rule 52 = .ok (.ireturn, 1) := dk_172 (dk_at dksX5_rule_2 8 rfl rfl)
abbrev cX5_clause_2 : ByteArray := prog_10_method_22_code
def yX5_clause_2 : MethodName := ⟨RX5, "clause", "(LSmokeWord$Rule;)V"⟩
def dkwX5_clause_2_2 : List UInt8 := [182, 0, 121, 167, 0, 4, 1, 183, 0, 214, 182, 0, 161, 87, 177]
abbrev dktX5_clause_2_2 : List UInt8 := dkwX5_clause_2_2 ++ []
def dkwX5_clause_2_1 : List UInt8 := [182, 0, 124, 77, 43, 180, 0, 205, 187, 0, 210, 89, 44, 42, 18, 212, 182, 0, 134, 153, 0, 10, 42]
abbrev dktX5_clause_2_1 : List UInt8 := dkwX5_clause_2_1 ++ dktX5_clause_2_2
def dkwX5_clause_2_0 : List UInt8 := [42, 18, 203, 4, 182, 0, 184, 154, 0, 16, 42, 180, 0, 3, 3, 42, 180, 0, 23, 182, 0, 69, 191, 42]
abbrev dktX5_clause_2_0 : List UInt8 := dkwX5_clause_2_0 ++ dktX5_clause_2_1
theorem dksX5_clause_2_0 : cX5_clause_2.data.toList.drop 0 = dktX5_clause_2_0 := by decide +kernel
theorem dksX5_clause_2_1 : cX5_clause_2.data.toList.drop 24 = dktX5_clause_2_1 := dk_seg dksX5_clause_2_0 24 rfl rfl
theorem dksX5_clause_2_2 : cX5_clause_2.data.toList.drop 47 = dktX5_clause_2_2 := dk_seg dksX5_clause_2_1 23 rfl rfl
theorem dX5_clause_2_0 : decode cX5_clause_2 0 = .ok (.aload_n 0, 1) := dk_42 (dk_at dksX5_clause_2_0 0 rfl rfl)
theorem dX5_clause_2_1 : decode cX5_clause_2 1 = .ok (.ldc 203, 2) := dk_18 203 (dk_at dksX5_clause_2_0 1 rfl rfl)
theorem dX5_clause_2_3 : decode cX5_clause_2 3 = .ok (.iconst 1, 1) := dk_4 (dk_at dksX5_clause_2_0 3 rfl rfl)
theorem dX5_clause_2_4 : decode cX5_clause_2 4 = .ok (.invokevirtual 184, 3) := dk_182 0 184 (dk_at dksX5_clause_2_0 4 rfl rfl)
theorem dX5_clause_2_7 : decode cX5_clause_2 7 = .ok (.ifCond .ne 16, 3) := dk_154 0 16 (dk_at dksX5_clause_2_0 7 rfl rfl)
theorem dX5_clause_2_10 : decode cX5_clause_2 10 = .ok (.aload_n 0, 1) := dk_42 (dk_at dksX5_clause_2_0 10 rfl rfl)
theorem dX5_clause_2_11 : decode cX5_clause_2 11 = .ok (.getfield 3, 3) := dk_180 0 3 (dk_at dksX5_clause_2_0 11 rfl rfl)
theorem dX5_clause_2_14 : decode cX5_clause_2 14 = .ok (.iconst 0, 1) := dk_3 (dk_at dksX5_clause_2_0 14 rfl rfl)
theorem dX5_clause_2_15 : decode cX5_clause_2 15 = .ok (.aload_n 0, 1) := dk_42 (dk_at dksX5_clause_2_0 15 rfl rfl)
theorem dX5_clause_2_16 : decode cX5_clause_2 16 = .ok (.getfield 23, 3) := dk_180 0 23 (dk_at dksX5_clause_2_0 16 rfl rfl)
theorem dX5_clause_2_19 : decode cX5_clause_2 19 = .ok (.invokevirtual 69, 3) := dk_182 0 69 (dk_at dksX5_clause_2_0 19 rfl rfl)
theorem dX5_clause_2_22 : decode cX5_clause_2 22 = .ok (.athrow, 1) := dk_191 (dk_at dksX5_clause_2_0 22 rfl rfl)
theorem dX5_clause_2_23 : decode cX5_clause_2 23 = .ok (.aload_n 0, 1) := dk_42 (dk_at dksX5_clause_2_0 23 rfl rfl)
theorem dX5_clause_2_24 : decode cX5_clause_2 24 = .ok (.invokevirtual 124, 3) := dk_182 0 124 (dk_at dksX5_clause_2_1 0 rfl rfl)
theorem dX5_clause_2_27 : decode cX5_clause_2 27 = .ok (.astore_n 2, 1) := dk_77 (dk_at dksX5_clause_2_1 3 rfl rfl)
theorem dX5_clause_2_28 : decode cX5_clause_2 28 = .ok (.aload_n 1, 1) := dk_43 (dk_at dksX5_clause_2_1 4 rfl rfl)
theorem dX5_clause_2_29 : decode cX5_clause_2 29 = .ok (.getfield 205, 3) := dk_180 0 205 (dk_at dksX5_clause_2_1 5 rfl rfl)
theorem dX5_clause_2_32 : decode cX5_clause_2 32 = .ok (.new 210, 3) := dk_187 0 210 (dk_at dksX5_clause_2_1 8 rfl rfl)
theorem dX5_clause_2_35 : decode cX5_clause_2 35 = .ok (.dup, 1) := dk_89 (dk_at dksX5_clause_2_1 11 rfl rfl)
theorem dX5_clause_2_36 : decode cX5_clause_2 36 = .ok (.aload_n 2, 1) := dk_44 (dk_at dksX5_clause_2_1 12 rfl rfl)
theorem dX5_clause_2_37 : decode cX5_clause_2 37 = .ok (.aload_n 0, 1) := dk_42 (dk_at dksX5_clause_2_1 13 rfl rfl)
theorem dX5_clause_2_38 : decode cX5_clause_2 38 = .ok (.ldc 212, 2) := dk_18 212 (dk_at dksX5_clause_2_1 14 rfl rfl)
theorem dX5_clause_2_40 : decode cX5_clause_2 40 = .ok (.invokevirtual 134, 3) := dk_182 0 134 (dk_at dksX5_clause_2_1 16 rfl rfl)
theorem dX5_clause_2_43 : decode cX5_clause_2 43 = .ok (.ifCond .eq 10, 3) := dk_153 0 10 (dk_at dksX5_clause_2_1 19 rfl rfl)
theorem dX5_clause_2_46 : decode cX5_clause_2 46 = .ok (.aload_n 0, 1) := dk_42 (dk_at dksX5_clause_2_1 22 rfl rfl)
theorem dX5_clause_2_47 : decode cX5_clause_2 47 = .ok (.invokevirtual 121, 3) := dk_182 0 121 (dk_at dksX5_clause_2_2 0 rfl rfl)
theorem dX5_clause_2_50 : decode cX5_clause_2 50 = .ok (.goto 4, 3) := dk_167 0 4 (dk_at dksX5_clause_2_2 3 rfl rfl)
theorem dX5_clause_2_53 : decode cX5_clause_2 53 = .ok (.aconst_null, 1) := dk_1 (dk_at dksX5_clause_2_2 6 rfl rfl)
theorem dX5_clause_2_54 : decode cX5_clause_2 54 = .ok (.invokespecial 214, 3) := dk_183 0 214 (dk_at dksX5_clause_2_2 7 rfl rfl)
theorem dX5_clause_2_57 : decode cX5_clause_2 57 = .ok (.invokevirtual 161, 3) := dk_182 0 161 (dk_at dksX5_clause_2_2 10 rfl rfl)
theorem dX5_clause_2_60 : decode cX5_clause_2 60 = .ok (.pop, 1) := dk_87 (dk_at dksX5_clause_2_2 13 rfl rfl)
theorem dX5_clause_2_61 : decode cX5_clause_2 61 = .ok (.return_, 1) := dk_177 (dk_at dksX5_clause_2_2 14 rfl rfl)
abbrev cX5_sum : ByteArray := prog_10_method_12_code
def yX5_sum : MethodName := ⟨RX5, "sum", "()LSmokeWord$Value;"⟩
def dkwX5_sum_2 : List UInt8 := [183, 0, 101, 76, 167, 255, 209, 43, 176]
abbrev dktX5_sum_2 : List UInt8 := dkwX5_sum_2 ++ []
def dkwX5_sum_1 : List UInt8 := [182, 0, 33, 61, 42, 89, 180, 0, 23, 4, 96, 181, 0, 23, 187, 0, 99, 89, 43, 42, 182, 0, 104, 28]
abbrev dktX5_sum_1 : List UInt8 := dkwX5_sum_1 ++ dktX5_sum_2
def dkwX5_sum_0 : List UInt8 := [42, 182, 0, 104, 76, 42, 182, 0, 45, 16, 43, 159, 0, 12, 42, 182, 0, 33, 16, 45, 160, 0, 35, 42]
abbrev dktX5_sum_0 : List UInt8 := dkwX5_sum_0 ++ dktX5_sum_1
theorem dksX5_sum_0 : cX5_sum.data.toList.drop 0 = dktX5_sum_0 := by decide +kernel
theorem dksX5_sum_1 : cX5_sum.data.toList.drop 24 = dktX5_sum_1 := dk_seg dksX5_sum_0 24 rfl rfl
theorem dksX5_sum_2 : cX5_sum.data.toList.drop 48 = dktX5_sum_2 := dk_seg dksX5_sum_1 24 rfl rfl
theorem dX5_sum_0 : decode cX5_sum 0 = .ok (.aload_n 0, 1) := dk_42 (dk_at dksX5_sum_0 0 rfl rfl)
theorem dX5_sum_1 : decode cX5_sum 1 = .ok (.invokevirtual 104, 3) := dk_182 0 104 (dk_at dksX5_sum_0 1 rfl rfl)
theorem dX5_sum_4 : decode cX5_sum 4 = .ok (.astore_n 1, 1) := dk_76 (dk_at dksX5_sum_0 4 rfl rfl)
theorem dX5_sum_5 : decode cX5_sum 5 = .ok (.aload_n 0, 1) := dk_42 (dk_at dksX5_sum_0 5 rfl rfl)
theorem dX5_sum_6 : decode cX5_sum 6 = .ok (.invokevirtual 45, 3) := dk_182 0 45 (dk_at dksX5_sum_0 6 rfl rfl)
theorem dX5_sum_9 : decode cX5_sum 9 = .ok (.bipush 43, 2) := dk_16 43 (dk_at dksX5_sum_0 9 rfl rfl)
theorem dX5_sum_11 : decode cX5_sum 11 = .ok (.if_icmp .eq 12, 3) := dk_159 0 12 (dk_at dksX5_sum_0 11 rfl rfl)
theorem dX5_sum_14 : decode cX5_sum 14 = .ok (.aload_n 0, 1) := dk_42 (dk_at dksX5_sum_0 14 rfl rfl)
theorem dX5_sum_15 : decode cX5_sum 15 = .ok (.invokevirtual 33, 3) := dk_182 0 33 (dk_at dksX5_sum_0 15 rfl rfl)
theorem dX5_sum_18 : decode cX5_sum 18 = .ok (.bipush 45, 2) := dk_16 45 (dk_at dksX5_sum_0 18 rfl rfl)
theorem dX5_sum_20 : decode cX5_sum 20 = .ok (.if_icmp .ne 35, 3) := dk_160 0 35 (dk_at dksX5_sum_0 20 rfl rfl)
theorem dX5_sum_23 : decode cX5_sum 23 = .ok (.aload_n 0, 1) := dk_42 (dk_at dksX5_sum_0 23 rfl rfl)
theorem dX5_sum_24 : decode cX5_sum 24 = .ok (.invokevirtual 33, 3) := dk_182 0 33 (dk_at dksX5_sum_1 0 rfl rfl)
theorem dX5_sum_27 : decode cX5_sum 27 = .ok (.istore_n 2, 1) := dk_61 (dk_at dksX5_sum_1 3 rfl rfl)
theorem dX5_sum_28 : decode cX5_sum 28 = .ok (.aload_n 0, 1) := dk_42 (dk_at dksX5_sum_1 4 rfl rfl)
theorem dX5_sum_29 : decode cX5_sum 29 = .ok (.dup, 1) := dk_89 (dk_at dksX5_sum_1 5 rfl rfl)
theorem dX5_sum_30 : decode cX5_sum 30 = .ok (.getfield 23, 3) := dk_180 0 23 (dk_at dksX5_sum_1 6 rfl rfl)
theorem dX5_sum_33 : decode cX5_sum 33 = .ok (.iconst 1, 1) := dk_4 (dk_at dksX5_sum_1 9 rfl rfl)
theorem dX5_sum_34 : decode cX5_sum 34 = .ok (.iadd, 1) := dk_96 (dk_at dksX5_sum_1 10 rfl rfl)
theorem dX5_sum_35 : decode cX5_sum 35 = .ok (.putfield 23, 3) := dk_181 0 23 (dk_at dksX5_sum_1 11 rfl rfl)
theorem dX5_sum_38 : decode cX5_sum 38 = .ok (.new 99, 3) := dk_187 0 99 (dk_at dksX5_sum_1 14 rfl rfl)
theorem dX5_sum_41 : decode cX5_sum 41 = .ok (.dup, 1) := dk_89 (dk_at dksX5_sum_1 17 rfl rfl)
theorem dX5_sum_42 : decode cX5_sum 42 = .ok (.aload_n 1, 1) := dk_43 (dk_at dksX5_sum_1 18 rfl rfl)
theorem dX5_sum_43 : decode cX5_sum 43 = .ok (.aload_n 0, 1) := dk_42 (dk_at dksX5_sum_1 19 rfl rfl)
theorem dX5_sum_44 : decode cX5_sum 44 = .ok (.invokevirtual 104, 3) := dk_182 0 104 (dk_at dksX5_sum_1 20 rfl rfl)
theorem dX5_sum_47 : decode cX5_sum 47 = .ok (.iload_n 2, 1) := dk_28 (dk_at dksX5_sum_1 23 rfl rfl)
theorem dX5_sum_48 : decode cX5_sum 48 = .ok (.invokespecial 101, 3) := dk_183 0 101 (dk_at dksX5_sum_2 0 rfl rfl)
theorem dX5_sum_51 : decode cX5_sum 51 = .ok (.astore_n 1, 1) := dk_76 (dk_at dksX5_sum_2 3 rfl rfl)
theorem dX5_sum_52 : decode cX5_sum 52 = .ok (.goto (-47), 3) := dk_167 255 209 (dk_at dksX5_sum_2 4 rfl rfl)
theorem dX5_sum_55 : decode cX5_sum 55 = .ok (.aload_n 1, 1) := dk_43 (dk_at dksX5_sum_2 7 rfl rfl)
theorem dX5_sum_56 : decode cX5_sum 56 = .ok (.areturn, 1) := dk_176 (dk_at dksX5_sum_2 8 rfl rfl)
abbrev cX5_term : ByteArray := prog_10_method_11_code
def yX5_term : MethodName := ⟨RX5, "term", "()LSmokeWord$Value;"⟩
def dkwX5_term_2 : List UInt8 := [187, 0, 99, 89, 43, 42, 182, 0, 95, 28, 183, 0, 101, 76, 167, 255, 200, 43, 176]
abbrev dktX5_term_2 : List UInt8 := dkwX5_term_2 ++ []
def dkwX5_term_1 : List UInt8 := [182, 0, 33, 16, 37, 160, 0, 35, 42, 182, 0, 33, 61, 42, 89, 180, 0, 23, 4, 96, 181, 0, 23]
abbrev dktX5_term_1 : List UInt8 := dkwX5_term_1 ++ dktX5_term_2
def dkwX5_term_0 : List UInt8 := [42, 182, 0, 95, 76, 42, 182, 0, 45, 16, 42, 159, 0, 21, 42, 182, 0, 33, 16, 47, 159, 0, 12, 42]
abbrev dktX5_term_0 : List UInt8 := dkwX5_term_0 ++ dktX5_term_1
theorem dksX5_term_0 : cX5_term.data.toList.drop 0 = dktX5_term_0 := by decide +kernel
theorem dksX5_term_1 : cX5_term.data.toList.drop 24 = dktX5_term_1 := dk_seg dksX5_term_0 24 rfl rfl
theorem dksX5_term_2 : cX5_term.data.toList.drop 47 = dktX5_term_2 := dk_seg dksX5_term_1 23 rfl rfl
theorem dX5_term_0 : decode cX5_term 0 = .ok (.aload_n 0, 1) := dk_42 (dk_at dksX5_term_0 0 rfl rfl)
theorem dX5_term_1 : decode cX5_term 1 = .ok (.invokevirtual 95, 3) := dk_182 0 95 (dk_at dksX5_term_0 1 rfl rfl)
theorem dX5_term_4 : decode cX5_term 4 = .ok (.astore_n 1, 1) := dk_76 (dk_at dksX5_term_0 4 rfl rfl)
theorem dX5_term_5 : decode cX5_term 5 = .ok (.aload_n 0, 1) := dk_42 (dk_at dksX5_term_0 5 rfl rfl)
theorem dX5_term_6 : decode cX5_term 6 = .ok (.invokevirtual 45, 3) := dk_182 0 45 (dk_at dksX5_term_0 6 rfl rfl)
theorem dX5_term_9 : decode cX5_term 9 = .ok (.bipush 42, 2) := dk_16 42 (dk_at dksX5_term_0 9 rfl rfl)
theorem dX5_term_11 : decode cX5_term 11 = .ok (.if_icmp .eq 21, 3) := dk_159 0 21 (dk_at dksX5_term_0 11 rfl rfl)
theorem dX5_term_14 : decode cX5_term 14 = .ok (.aload_n 0, 1) := dk_42 (dk_at dksX5_term_0 14 rfl rfl)
theorem dX5_term_15 : decode cX5_term 15 = .ok (.invokevirtual 33, 3) := dk_182 0 33 (dk_at dksX5_term_0 15 rfl rfl)
theorem dX5_term_18 : decode cX5_term 18 = .ok (.bipush 47, 2) := dk_16 47 (dk_at dksX5_term_0 18 rfl rfl)
theorem dX5_term_20 : decode cX5_term 20 = .ok (.if_icmp .eq 12, 3) := dk_159 0 12 (dk_at dksX5_term_0 20 rfl rfl)
theorem dX5_term_23 : decode cX5_term 23 = .ok (.aload_n 0, 1) := dk_42 (dk_at dksX5_term_0 23 rfl rfl)
theorem dX5_term_24 : decode cX5_term 24 = .ok (.invokevirtual 33, 3) := dk_182 0 33 (dk_at dksX5_term_1 0 rfl rfl)
theorem dX5_term_27 : decode cX5_term 27 = .ok (.bipush 37, 2) := dk_16 37 (dk_at dksX5_term_1 3 rfl rfl)
theorem dX5_term_29 : decode cX5_term 29 = .ok (.if_icmp .ne 35, 3) := dk_160 0 35 (dk_at dksX5_term_1 5 rfl rfl)
theorem dX5_term_32 : decode cX5_term 32 = .ok (.aload_n 0, 1) := dk_42 (dk_at dksX5_term_1 8 rfl rfl)
theorem dX5_term_33 : decode cX5_term 33 = .ok (.invokevirtual 33, 3) := dk_182 0 33 (dk_at dksX5_term_1 9 rfl rfl)
theorem dX5_term_36 : decode cX5_term 36 = .ok (.istore_n 2, 1) := dk_61 (dk_at dksX5_term_1 12 rfl rfl)
theorem dX5_term_37 : decode cX5_term 37 = .ok (.aload_n 0, 1) := dk_42 (dk_at dksX5_term_1 13 rfl rfl)
theorem dX5_term_38 : decode cX5_term 38 = .ok (.dup, 1) := dk_89 (dk_at dksX5_term_1 14 rfl rfl)
theorem dX5_term_39 : decode cX5_term 39 = .ok (.getfield 23, 3) := dk_180 0 23 (dk_at dksX5_term_1 15 rfl rfl)
theorem dX5_term_42 : decode cX5_term 42 = .ok (.iconst 1, 1) := dk_4 (dk_at dksX5_term_1 18 rfl rfl)
theorem dX5_term_43 : decode cX5_term 43 = .ok (.iadd, 1) := dk_96 (dk_at dksX5_term_1 19 rfl rfl)
theorem dX5_term_44 : decode cX5_term 44 = .ok (.putfield 23, 3) := dk_181 0 23 (dk_at dksX5_term_1 20 rfl rfl)
theorem dX5_term_47 : decode cX5_term 47 = .ok (.new 99, 3) := dk_187 0 99 (dk_at dksX5_term_2 0 rfl rfl)
theorem dX5_term_50 : decode cX5_term 50 = .ok (.dup, 1) := dk_89 (dk_at dksX5_term_2 3 rfl rfl)
theorem dX5_term_51 : decode cX5_term 51 = .ok (.aload_n 1, 1) := dk_43 (dk_at dksX5_term_2 4 rfl rfl)
theorem dX5_term_52 : decode cX5_term 52 = .ok (.aload_n 0, 1) := dk_42 (dk_at dksX5_term_2 5 rfl rfl)
theorem dX5_term_53 : decode cX5_term 53 = .ok (.invokevirtual 95, 3) := dk_182 0 95 (dk_at dksX5_term_2 6 rfl rfl)
theorem dX5_term_56 : decode cX5_term 56 = .ok (.iload_n 2, 1) := dk_28 (dk_at dksX5_term_2 9 rfl rfl)
theorem dX5_term_57 : decode cX5_term 57 = .ok (.invokespecial 101, 3) := dk_183 0 101 (dk_at dksX5_term_2 10 rfl rfl)
theorem dX5_term_60 : decode cX5_term 60 = .ok (.astore_n 1, 1) := dk_76 (dk_at dksX5_term_2 13 rfl rfl)
theorem dX5_term_61 : decode cX5_term 61 = .ok (.goto (-56), 3) := dk_167 255 200 (dk_at dksX5_term_2 14 rfl rfl)
theorem dX5_term_64 : decode cX5_term 64 = .ok (.aload_n 1, 1) := dk_43 (dk_at dksX5_term_2 17 rfl rfl)
theorem dX5_term_65 : decode cX5_term 65 = .ok (.areturn, 1) := dk_176 (dk_at dksX5_term_2 18 rfl rfl)
abbrev cX5_value : ByteArray := prog_10_method_10_code
def yX5_value : MethodName := ⟨RX5, "value", "()LSmokeWord$Value;"⟩
def dkwX5_value_4 : List UInt8 := [183, 0, 94, 176, 132, 2, 1, 167, 255, 196, 42, 180, 0, 3, 3, 27, 182, 0, 69, 191]
abbrev dktX5_value_4 : List UInt8 := dkwX5_value_4 ++ []
def dkwX5_value_3 : List UInt8 := [42, 89, 180, 0, 23, 42, 180, 0, 15, 28, 50, 182, 0, 52, 96, 181, 0, 23, 187, 0, 92, 89, 28]
abbrev dktX5_value_3 : List UInt8 := dkwX5_value_3 ++ dktX5_value_4
def dkwX5_value_2 : List UInt8 := [162, 0, 57, 42, 42, 180, 0, 15, 28, 50, 182, 0, 61, 154, 0, 6, 167, 0, 35, 42, 27, 182, 0, 89]
abbrev dktX5_value_2 : List UInt8 := dkwX5_value_2 ++ dktX5_value_3
def dkwX5_value_1 : List UInt8 := [18, 81, 182, 0, 82, 183, 0, 86, 77, 42, 27, 182, 0, 89, 44, 176, 3, 61, 28, 42, 180, 0, 15, 190]
abbrev dktX5_value_1 : List UInt8 := dkwX5_value_1 ++ dktX5_value_2
def dkwX5_value_0 : List UInt8 := [42, 182, 0, 45, 87, 42, 180, 0, 23, 60, 42, 182, 0, 65, 153, 0, 25, 187, 0, 79, 89, 42, 3]
abbrev dktX5_value_0 : List UInt8 := dkwX5_value_0 ++ dktX5_value_1
theorem dksX5_value_0 : cX5_value.data.toList.drop 0 = dktX5_value_0 := by decide +kernel
theorem dksX5_value_1 : cX5_value.data.toList.drop 23 = dktX5_value_1 := dk_seg dksX5_value_0 23 rfl rfl
theorem dksX5_value_2 : cX5_value.data.toList.drop 47 = dktX5_value_2 := dk_seg dksX5_value_1 24 rfl rfl
theorem dksX5_value_3 : cX5_value.data.toList.drop 71 = dktX5_value_3 := dk_seg dksX5_value_2 24 rfl rfl
theorem dksX5_value_4 : cX5_value.data.toList.drop 94 = dktX5_value_4 := dk_seg dksX5_value_3 23 rfl rfl
theorem dX5_value_0 : decode cX5_value 0 = .ok (.aload_n 0, 1) := dk_42 (dk_at dksX5_value_0 0 rfl rfl)
theorem dX5_value_1 : decode cX5_value 1 = .ok (.invokevirtual 45, 3) := dk_182 0 45 (dk_at dksX5_value_0 1 rfl rfl)
theorem dX5_value_4 : decode cX5_value 4 = .ok (.pop, 1) := dk_87 (dk_at dksX5_value_0 4 rfl rfl)
theorem dX5_value_5 : decode cX5_value 5 = .ok (.aload_n 0, 1) := dk_42 (dk_at dksX5_value_0 5 rfl rfl)
theorem dX5_value_6 : decode cX5_value 6 = .ok (.getfield 23, 3) := dk_180 0 23 (dk_at dksX5_value_0 6 rfl rfl)
theorem dX5_value_9 : decode cX5_value 9 = .ok (.istore_n 1, 1) := dk_60 (dk_at dksX5_value_0 9 rfl rfl)
theorem dX5_value_10 : decode cX5_value 10 = .ok (.aload_n 0, 1) := dk_42 (dk_at dksX5_value_0 10 rfl rfl)
theorem dX5_value_11 : decode cX5_value 11 = .ok (.invokevirtual 65, 3) := dk_182 0 65 (dk_at dksX5_value_0 11 rfl rfl)
theorem dX5_value_14 : decode cX5_value 14 = .ok (.ifCond .eq 25, 3) := dk_153 0 25 (dk_at dksX5_value_0 14 rfl rfl)
theorem dX5_value_17 : decode cX5_value 17 = .ok (.new 79, 3) := dk_187 0 79 (dk_at dksX5_value_0 17 rfl rfl)
theorem dX5_value_20 : decode cX5_value 20 = .ok (.dup, 1) := dk_89 (dk_at dksX5_value_0 20 rfl rfl)
theorem dX5_value_21 : decode cX5_value 21 = .ok (.aload_n 0, 1) := dk_42 (dk_at dksX5_value_0 21 rfl rfl)
theorem dX5_value_22 : decode cX5_value 22 = .ok (.iconst 0, 1) := dk_3 (dk_at dksX5_value_0 22 rfl rfl)
theorem dX5_value_23 : decode cX5_value 23 = .ok (.ldc 81, 2) := dk_18 81 (dk_at dksX5_value_1 0 rfl rfl)
theorem dX5_value_25 : decode cX5_value 25 = .ok (.invokevirtual 82, 3) := dk_182 0 82 (dk_at dksX5_value_1 2 rfl rfl)
theorem dX5_value_28 : decode cX5_value 28 = .ok (.invokespecial 86, 3) := dk_183 0 86 (dk_at dksX5_value_1 5 rfl rfl)
theorem dX5_value_31 : decode cX5_value 31 = .ok (.astore_n 2, 1) := dk_77 (dk_at dksX5_value_1 8 rfl rfl)
theorem dX5_value_32 : decode cX5_value 32 = .ok (.aload_n 0, 1) := dk_42 (dk_at dksX5_value_1 9 rfl rfl)
theorem dX5_value_33 : decode cX5_value 33 = .ok (.iload_n 1, 1) := dk_27 (dk_at dksX5_value_1 10 rfl rfl)
theorem dX5_value_34 : decode cX5_value 34 = .ok (.invokevirtual 89, 3) := dk_182 0 89 (dk_at dksX5_value_1 11 rfl rfl)
theorem dX5_value_37 : decode cX5_value 37 = .ok (.aload_n 2, 1) := dk_44 (dk_at dksX5_value_1 14 rfl rfl)
theorem dX5_value_38 : decode cX5_value 38 = .ok (.areturn, 1) := dk_176 (dk_at dksX5_value_1 15 rfl rfl)
theorem dX5_value_39 : decode cX5_value 39 = .ok (.iconst 0, 1) := dk_3 (dk_at dksX5_value_1 16 rfl rfl)
theorem dX5_value_40 : decode cX5_value 40 = .ok (.istore_n 2, 1) := dk_61 (dk_at dksX5_value_1 17 rfl rfl)
theorem dX5_value_41 : decode cX5_value 41 = .ok (.iload_n 2, 1) := dk_28 (dk_at dksX5_value_1 18 rfl rfl)
theorem dX5_value_42 : decode cX5_value 42 = .ok (.aload_n 0, 1) := dk_42 (dk_at dksX5_value_1 19 rfl rfl)
theorem dX5_value_43 : decode cX5_value 43 = .ok (.getfield 15, 3) := dk_180 0 15 (dk_at dksX5_value_1 20 rfl rfl)
theorem dX5_value_46 : decode cX5_value 46 = .ok (.arraylength, 1) := dk_190 (dk_at dksX5_value_1 23 rfl rfl)
theorem dX5_value_47 : decode cX5_value 47 = .ok (.if_icmp .ge 57, 3) := dk_162 0 57 (dk_at dksX5_value_2 0 rfl rfl)
theorem dX5_value_50 : decode cX5_value 50 = .ok (.aload_n 0, 1) := dk_42 (dk_at dksX5_value_2 3 rfl rfl)
theorem dX5_value_51 : decode cX5_value 51 = .ok (.aload_n 0, 1) := dk_42 (dk_at dksX5_value_2 4 rfl rfl)
theorem dX5_value_52 : decode cX5_value 52 = .ok (.getfield 15, 3) := dk_180 0 15 (dk_at dksX5_value_2 5 rfl rfl)
theorem dX5_value_55 : decode cX5_value 55 = .ok (.iload_n 2, 1) := dk_28 (dk_at dksX5_value_2 8 rfl rfl)
theorem dX5_value_56 : decode cX5_value 56 = .ok (.aaload, 1) := dk_50 (dk_at dksX5_value_2 9 rfl rfl)
theorem dX5_value_57 : decode cX5_value 57 = .ok (.invokevirtual 61, 3) := dk_182 0 61 (dk_at dksX5_value_2 10 rfl rfl)
theorem dX5_value_60 : decode cX5_value 60 = .ok (.ifCond .ne 6, 3) := dk_154 0 6 (dk_at dksX5_value_2 13 rfl rfl)
theorem dX5_value_63 : decode cX5_value 63 = .ok (.goto 35, 3) := dk_167 0 35 (dk_at dksX5_value_2 16 rfl rfl)
theorem dX5_value_66 : decode cX5_value 66 = .ok (.aload_n 0, 1) := dk_42 (dk_at dksX5_value_2 19 rfl rfl)
theorem dX5_value_67 : decode cX5_value 67 = .ok (.iload_n 1, 1) := dk_27 (dk_at dksX5_value_2 20 rfl rfl)
theorem dX5_value_68 : decode cX5_value 68 = .ok (.invokevirtual 89, 3) := dk_182 0 89 (dk_at dksX5_value_2 21 rfl rfl)
theorem dX5_value_71 : decode cX5_value 71 = .ok (.aload_n 0, 1) := dk_42 (dk_at dksX5_value_3 0 rfl rfl)
theorem dX5_value_72 : decode cX5_value 72 = .ok (.dup, 1) := dk_89 (dk_at dksX5_value_3 1 rfl rfl)
theorem dX5_value_73 : decode cX5_value 73 = .ok (.getfield 23, 3) := dk_180 0 23 (dk_at dksX5_value_3 2 rfl rfl)
theorem dX5_value_76 : decode cX5_value 76 = .ok (.aload_n 0, 1) := dk_42 (dk_at dksX5_value_3 5 rfl rfl)
theorem dX5_value_77 : decode cX5_value 77 = .ok (.getfield 15, 3) := dk_180 0 15 (dk_at dksX5_value_3 6 rfl rfl)
theorem dX5_value_80 : decode cX5_value 80 = .ok (.iload_n 2, 1) := dk_28 (dk_at dksX5_value_3 9 rfl rfl)
theorem dX5_value_81 : decode cX5_value 81 = .ok (.aaload, 1) := dk_50 (dk_at dksX5_value_3 10 rfl rfl)
theorem dX5_value_82 : decode cX5_value 82 = .ok (.invokevirtual 52, 3) := dk_182 0 52 (dk_at dksX5_value_3 11 rfl rfl)
theorem dX5_value_85 : decode cX5_value 85 = .ok (.iadd, 1) := dk_96 (dk_at dksX5_value_3 14 rfl rfl)
theorem dX5_value_86 : decode cX5_value 86 = .ok (.putfield 23, 3) := dk_181 0 23 (dk_at dksX5_value_3 15 rfl rfl)
theorem dX5_value_89 : decode cX5_value 89 = .ok (.new 92, 3) := dk_187 0 92 (dk_at dksX5_value_3 18 rfl rfl)
theorem dX5_value_92 : decode cX5_value 92 = .ok (.dup, 1) := dk_89 (dk_at dksX5_value_3 21 rfl rfl)
theorem dX5_value_93 : decode cX5_value 93 = .ok (.iload_n 2, 1) := dk_28 (dk_at dksX5_value_3 22 rfl rfl)
theorem dX5_value_94 : decode cX5_value 94 = .ok (.invokespecial 94, 3) := dk_183 0 94 (dk_at dksX5_value_4 0 rfl rfl)
theorem dX5_value_97 : decode cX5_value 97 = .ok (.areturn, 1) := dk_176 (dk_at dksX5_value_4 3 rfl rfl)
theorem dX5_value_98 : decode cX5_value 98 = .ok (.iinc 2 1, 3) := dk_132 2 1 (dk_at dksX5_value_4 4 rfl rfl)
theorem dX5_value_101 : decode cX5_value 101 = .ok (.goto (-60), 3) := dk_167 255 196 (dk_at dksX5_value_4 7 rfl rfl)
theorem dX5_value_104 : decode cX5_value 104 = .ok (.aload_n 0, 1) := dk_42 (dk_at dksX5_value_4 10 rfl rfl)
theorem dX5_value_105 : decode cX5_value 105 = .ok (.getfield 3, 3) := dk_180 0 3 (dk_at dksX5_value_4 11 rfl rfl)
theorem dX5_value_108 : decode cX5_value 108 = .ok (.iconst 0, 1) := dk_3 (dk_at dksX5_value_4 14 rfl rfl)
theorem dX5_value_109 : decode cX5_value 109 = .ok (.iload_n 1, 1) := dk_27 (dk_at dksX5_value_4 15 rfl rfl)
theorem dX5_value_110 : decode cX5_value 110 = .ok (.invokevirtual 69, 3) := dk_182 0 69 (dk_at dksX5_value_4 16 rfl rfl)
theorem dX5_value_113 : decode cX5_value 113 = .ok (.athrow, 1) := dk_191 (dk_at dksX5_value_4 19 rfl rfl)
abbrev cX5_counts : ByteArray := prog_10_method_8_code
def yX5_counts : MethodName := ⟨RX5, "counts", "(I)V"⟩
def dkwX5_counts_1 : List UInt8 := [4, 96, 181, 0, 73, 177]
abbrev dktX5_counts_1 : List UInt8 := dkwX5_counts_1 ++ []
def dkwX5_counts_0 : List UInt8 := [42, 180, 0, 73, 16, 60, 160, 0, 13, 42, 180, 0, 3, 6, 27, 182, 0, 69, 191, 42, 89, 180, 0, 73]
abbrev dktX5_counts_0 : List UInt8 := dkwX5_counts_0 ++ dktX5_counts_1
theorem dksX5_counts_0 : cX5_counts.data.toList.drop 0 = dktX5_counts_0 := by decide +kernel
theorem dksX5_counts_1 : cX5_counts.data.toList.drop 24 = dktX5_counts_1 := dk_seg dksX5_counts_0 24 rfl rfl
theorem dX5_counts_0 : decode cX5_counts 0 = .ok (.aload_n 0, 1) := dk_42 (dk_at dksX5_counts_0 0 rfl rfl)
theorem dX5_counts_1 : decode cX5_counts 1 = .ok (.getfield 73, 3) := dk_180 0 73 (dk_at dksX5_counts_0 1 rfl rfl)
theorem dX5_counts_4 : decode cX5_counts 4 = .ok (.bipush 60, 2) := dk_16 60 (dk_at dksX5_counts_0 4 rfl rfl)
theorem dX5_counts_6 : decode cX5_counts 6 = .ok (.if_icmp .ne 13, 3) := dk_160 0 13 (dk_at dksX5_counts_0 6 rfl rfl)
theorem dX5_counts_9 : decode cX5_counts 9 = .ok (.aload_n 0, 1) := dk_42 (dk_at dksX5_counts_0 9 rfl rfl)
theorem dX5_counts_10 : decode cX5_counts 10 = .ok (.getfield 3, 3) := dk_180 0 3 (dk_at dksX5_counts_0 10 rfl rfl)
theorem dX5_counts_13 : decode cX5_counts 13 = .ok (.iconst 3, 1) := dk_6 (dk_at dksX5_counts_0 13 rfl rfl)
theorem dX5_counts_14 : decode cX5_counts 14 = .ok (.iload_n 1, 1) := dk_27 (dk_at dksX5_counts_0 14 rfl rfl)
theorem dX5_counts_15 : decode cX5_counts 15 = .ok (.invokevirtual 69, 3) := dk_182 0 69 (dk_at dksX5_counts_0 15 rfl rfl)
theorem dX5_counts_18 : decode cX5_counts 18 = .ok (.athrow, 1) := dk_191 (dk_at dksX5_counts_0 18 rfl rfl)
theorem dX5_counts_19 : decode cX5_counts 19 = .ok (.aload_n 0, 1) := dk_42 (dk_at dksX5_counts_0 19 rfl rfl)
theorem dX5_counts_20 : decode cX5_counts 20 = .ok (.dup, 1) := dk_89 (dk_at dksX5_counts_0 20 rfl rfl)
theorem dX5_counts_21 : decode cX5_counts 21 = .ok (.getfield 73, 3) := dk_180 0 73 (dk_at dksX5_counts_0 21 rfl rfl)
theorem dX5_counts_24 : decode cX5_counts 24 = .ok (.iconst 1, 1) := dk_4 (dk_at dksX5_counts_1 0 rfl rfl)
theorem dX5_counts_25 : decode cX5_counts 25 = .ok (.iadd, 1) := dk_96 (dk_at dksX5_counts_1 1 rfl rfl)
theorem dX5_counts_26 : decode cX5_counts 26 = .ok (.putfield 73, 3) := dk_181 0 73 (dk_at dksX5_counts_1 2 rfl rfl)
theorem dX5_counts_29 : decode cX5_counts 29 = .ok (.return_, 1) := dk_177 (dk_at dksX5_counts_1 5 rfl rfl)
abbrev cX5_takes : ByteArray := prog_10_method_6_code
def yX5_takes : MethodName := ⟨RX5, "takes", "(Ljava/lang/String;)Z"⟩
def dkwX5_takes_1 : List UInt8 := [181, 0, 23, 28, 172]
abbrev dktX5_takes_1 : List UInt8 := dkwX5_takes_1 ++ []
def dkwX5_takes_0 : List UInt8 := [42, 43, 182, 0, 61, 61, 42, 89, 180, 0, 23, 28, 153, 0, 10, 43, 182, 0, 52, 167, 0, 4, 3, 96]
abbrev dktX5_takes_0 : List UInt8 := dkwX5_takes_0 ++ dktX5_takes_1
theorem dksX5_takes_0 : cX5_takes.data.toList.drop 0 = dktX5_takes_0 := by decide +kernel
theorem dksX5_takes_1 : cX5_takes.data.toList.drop 24 = dktX5_takes_1 := dk_seg dksX5_takes_0 24 rfl rfl
theorem dX5_takes_0 : decode cX5_takes 0 = .ok (.aload_n 0, 1) := dk_42 (dk_at dksX5_takes_0 0 rfl rfl)
theorem dX5_takes_1 : decode cX5_takes 1 = .ok (.aload_n 1, 1) := dk_43 (dk_at dksX5_takes_0 1 rfl rfl)
theorem dX5_takes_2 : decode cX5_takes 2 = .ok (.invokevirtual 61, 3) := dk_182 0 61 (dk_at dksX5_takes_0 2 rfl rfl)
theorem dX5_takes_5 : decode cX5_takes 5 = .ok (.istore_n 2, 1) := dk_61 (dk_at dksX5_takes_0 5 rfl rfl)
theorem dX5_takes_6 : decode cX5_takes 6 = .ok (.aload_n 0, 1) := dk_42 (dk_at dksX5_takes_0 6 rfl rfl)
theorem dX5_takes_7 : decode cX5_takes 7 = .ok (.dup, 1) := dk_89 (dk_at dksX5_takes_0 7 rfl rfl)
theorem dX5_takes_8 : decode cX5_takes 8 = .ok (.getfield 23, 3) := dk_180 0 23 (dk_at dksX5_takes_0 8 rfl rfl)
theorem dX5_takes_11 : decode cX5_takes 11 = .ok (.iload_n 2, 1) := dk_28 (dk_at dksX5_takes_0 11 rfl rfl)
theorem dX5_takes_12 : decode cX5_takes 12 = .ok (.ifCond .eq 10, 3) := dk_153 0 10 (dk_at dksX5_takes_0 12 rfl rfl)
theorem dX5_takes_15 : decode cX5_takes 15 = .ok (.aload_n 1, 1) := dk_43 (dk_at dksX5_takes_0 15 rfl rfl)
theorem dX5_takes_16 : decode cX5_takes 16 = .ok (.invokevirtual 52, 3) := dk_182 0 52 (dk_at dksX5_takes_0 16 rfl rfl)
theorem dX5_takes_19 : decode cX5_takes 19 = .ok (.goto 4, 3) := dk_167 0 4 (dk_at dksX5_takes_0 19 rfl rfl)
theorem dX5_takes_22 : decode cX5_takes 22 = .ok (.iconst 0, 1) := dk_3 (dk_at dksX5_takes_0 22 rfl rfl)
theorem dX5_takes_23 : decode cX5_takes 23 = .ok (.iadd, 1) := dk_96 (dk_at dksX5_takes_0 23 rfl rfl)
theorem dX5_takes_24 : decode cX5_takes 24 = .ok (.putfield 23, 3) := dk_181 0 23 (dk_at dksX5_takes_1 0 rfl rfl)
theorem dX5_takes_27 : decode cX5_takes 27 = .ok (.iload_n 2, 1) := dk_28 (dk_at dksX5_takes_1 3 rfl rfl)
theorem dX5_takes_28 : decode cX5_takes 28 = .ok (.ireturn, 1) := dk_172 (dk_at dksX5_takes_1 4 rfl rfl)
abbrev cX5_test : ByteArray := prog_10_method_15_code
def yX5_test : MethodName := ⟨RX5, "test", "()LSmokeWord$Condition;"⟩
def dkwX5_test_1 : List UInt8 := [183, 0, 139, 76, 167, 255, 233, 43, 176]
abbrev dktX5_test_1 : List UInt8 := dkwX5_test_1 ++ []
def dkwX5_test_0 : List UInt8 := [42, 182, 0, 142, 76, 42, 18, 145, 182, 0, 134, 153, 0, 20, 187, 0, 137, 89, 43, 42, 182, 0, 142, 4]
abbrev dktX5_test_0 : List UInt8 := dkwX5_test_0 ++ dktX5_test_1
theorem dksX5_test_0 : cX5_test.data.toList.drop 0 = dktX5_test_0 := by decide +kernel
theorem dksX5_test_1 : cX5_test.data.toList.drop 24 = dktX5_test_1 := dk_seg dksX5_test_0 24 rfl rfl
theorem dX5_test_0 : decode cX5_test 0 = .ok (.aload_n 0, 1) := dk_42 (dk_at dksX5_test_0 0 rfl rfl)
theorem dX5_test_1 : decode cX5_test 1 = .ok (.invokevirtual 142, 3) := dk_182 0 142 (dk_at dksX5_test_0 1 rfl rfl)
theorem dX5_test_4 : decode cX5_test 4 = .ok (.astore_n 1, 1) := dk_76 (dk_at dksX5_test_0 4 rfl rfl)
theorem dX5_test_5 : decode cX5_test 5 = .ok (.aload_n 0, 1) := dk_42 (dk_at dksX5_test_0 5 rfl rfl)
theorem dX5_test_6 : decode cX5_test 6 = .ok (.ldc 145, 2) := dk_18 145 (dk_at dksX5_test_0 6 rfl rfl)
theorem dX5_test_8 : decode cX5_test 8 = .ok (.invokevirtual 134, 3) := dk_182 0 134 (dk_at dksX5_test_0 8 rfl rfl)
theorem dX5_test_11 : decode cX5_test 11 = .ok (.ifCond .eq 20, 3) := dk_153 0 20 (dk_at dksX5_test_0 11 rfl rfl)
theorem dX5_test_14 : decode cX5_test 14 = .ok (.new 137, 3) := dk_187 0 137 (dk_at dksX5_test_0 14 rfl rfl)
theorem dX5_test_17 : decode cX5_test 17 = .ok (.dup, 1) := dk_89 (dk_at dksX5_test_0 17 rfl rfl)
theorem dX5_test_18 : decode cX5_test 18 = .ok (.aload_n 1, 1) := dk_43 (dk_at dksX5_test_0 18 rfl rfl)
theorem dX5_test_19 : decode cX5_test 19 = .ok (.aload_n 0, 1) := dk_42 (dk_at dksX5_test_0 19 rfl rfl)
theorem dX5_test_20 : decode cX5_test 20 = .ok (.invokevirtual 142, 3) := dk_182 0 142 (dk_at dksX5_test_0 20 rfl rfl)
theorem dX5_test_23 : decode cX5_test 23 = .ok (.iconst 1, 1) := dk_4 (dk_at dksX5_test_0 23 rfl rfl)
theorem dX5_test_24 : decode cX5_test 24 = .ok (.invokespecial 139, 3) := dk_183 0 139 (dk_at dksX5_test_1 0 rfl rfl)
theorem dX5_test_27 : decode cX5_test 27 = .ok (.astore_n 1, 1) := dk_76 (dk_at dksX5_test_1 3 rfl rfl)
theorem dX5_test_28 : decode cX5_test 28 = .ok (.goto (-23), 3) := dk_167 255 233 (dk_at dksX5_test_1 4 rfl rfl)
theorem dX5_test_31 : decode cX5_test 31 = .ok (.aload_n 1, 1) := dk_43 (dk_at dksX5_test_1 7 rfl rfl)
theorem dX5_test_32 : decode cX5_test 32 = .ok (.areturn, 1) := dk_176 (dk_at dksX5_test_1 8 rfl rfl)
abbrev cX5_part : ByteArray := prog_10_method_14_code
def yX5_part : MethodName := ⟨RX5, "part", "()LSmokeWord$Condition;"⟩
def dkwX5_part_1 : List UInt8 := [183, 0, 139, 76, 167, 255, 233, 43, 176]
abbrev dktX5_part_1 : List UInt8 := dkwX5_part_1 ++ []
def dkwX5_part_0 : List UInt8 := [42, 182, 0, 114, 76, 42, 18, 132, 182, 0, 134, 153, 0, 20, 187, 0, 137, 89, 43, 42, 182, 0, 114, 3]
abbrev dktX5_part_0 : List UInt8 := dkwX5_part_0 ++ dktX5_part_1
theorem dksX5_part_0 : cX5_part.data.toList.drop 0 = dktX5_part_0 := by decide +kernel
theorem dksX5_part_1 : cX5_part.data.toList.drop 24 = dktX5_part_1 := dk_seg dksX5_part_0 24 rfl rfl
theorem dX5_part_0 : decode cX5_part 0 = .ok (.aload_n 0, 1) := dk_42 (dk_at dksX5_part_0 0 rfl rfl)
theorem dX5_part_1 : decode cX5_part 1 = .ok (.invokevirtual 114, 3) := dk_182 0 114 (dk_at dksX5_part_0 1 rfl rfl)
theorem dX5_part_4 : decode cX5_part 4 = .ok (.astore_n 1, 1) := dk_76 (dk_at dksX5_part_0 4 rfl rfl)
theorem dX5_part_5 : decode cX5_part 5 = .ok (.aload_n 0, 1) := dk_42 (dk_at dksX5_part_0 5 rfl rfl)
theorem dX5_part_6 : decode cX5_part 6 = .ok (.ldc 132, 2) := dk_18 132 (dk_at dksX5_part_0 6 rfl rfl)
theorem dX5_part_8 : decode cX5_part 8 = .ok (.invokevirtual 134, 3) := dk_182 0 134 (dk_at dksX5_part_0 8 rfl rfl)
theorem dX5_part_11 : decode cX5_part 11 = .ok (.ifCond .eq 20, 3) := dk_153 0 20 (dk_at dksX5_part_0 11 rfl rfl)
theorem dX5_part_14 : decode cX5_part 14 = .ok (.new 137, 3) := dk_187 0 137 (dk_at dksX5_part_0 14 rfl rfl)
theorem dX5_part_17 : decode cX5_part 17 = .ok (.dup, 1) := dk_89 (dk_at dksX5_part_0 17 rfl rfl)
theorem dX5_part_18 : decode cX5_part 18 = .ok (.aload_n 1, 1) := dk_43 (dk_at dksX5_part_0 18 rfl rfl)
theorem dX5_part_19 : decode cX5_part 19 = .ok (.aload_n 0, 1) := dk_42 (dk_at dksX5_part_0 19 rfl rfl)
theorem dX5_part_20 : decode cX5_part 20 = .ok (.invokevirtual 114, 3) := dk_182 0 114 (dk_at dksX5_part_0 20 rfl rfl)
theorem dX5_part_23 : decode cX5_part 23 = .ok (.iconst 0, 1) := dk_3 (dk_at dksX5_part_0 23 rfl rfl)
theorem dX5_part_24 : decode cX5_part 24 = .ok (.invokespecial 139, 3) := dk_183 0 139 (dk_at dksX5_part_1 0 rfl rfl)
theorem dX5_part_27 : decode cX5_part 27 = .ok (.astore_n 1, 1) := dk_76 (dk_at dksX5_part_1 3 rfl rfl)
theorem dX5_part_28 : decode cX5_part 28 = .ok (.goto (-23), 3) := dk_167 255 233 (dk_at dksX5_part_1 4 rfl rfl)
theorem dX5_part_31 : decode cX5_part 31 = .ok (.aload_n 1, 1) := dk_43 (dk_at dksX5_part_1 7 rfl rfl)
theorem dX5_part_32 : decode cX5_part 32 = .ok (.areturn, 1) := dk_176 (dk_at dksX5_part_1 8 rfl rfl)
abbrev cX5_fact : ByteArray := prog_10_method_13_code
def yX5_fact : MethodName := ⟨RX5, "fact", "()LSmokeWord$Condition;"⟩
def dkwX5_fact_10 : List UInt8 := [182, 0, 124, 29, 21, 4, 183, 0, 129, 176]
abbrev dktX5_fact_10 : List UInt8 := dkwX5_fact_10 ++ []
def dkwX5_fact_9 : List UInt8 := [180, 0, 23, 21, 4, 153, 0, 7, 4, 167, 0, 4, 3, 96, 181, 0, 23, 187, 0, 127, 89, 44, 42]
abbrev dktX5_fact_9 : List UInt8 := dkwX5_fact_9 ++ dktX5_fact_10
def dkwX5_fact_8 : List UInt8 := [16, 61, 159, 0, 16, 42, 182, 0, 33, 16, 61, 160, 0, 7, 4, 167, 0, 4, 3, 54, 4, 42, 89]
abbrev dktX5_fact_8 : List UInt8 := dkwX5_fact_8 ++ dktX5_fact_9
def dkwX5_fact_7 : List UInt8 := [182, 0, 69, 191, 42, 42, 180, 0, 23, 182, 0, 89, 42, 89, 180, 0, 23, 4, 96, 181, 0, 23, 29]
abbrev dktX5_fact_7 : List UInt8 := dkwX5_fact_7 ++ dktX5_fact_8
def dkwX5_fact_6 : List UInt8 := [159, 0, 28, 29, 16, 61, 159, 0, 22, 29, 16, 62, 159, 0, 16, 42, 180, 0, 3, 3, 42, 180, 0, 23]
abbrev dktX5_fact_6 : List UInt8 := dkwX5_fact_6 ++ dktX5_fact_7
def dkwX5_fact_5 : List UInt8 := [89, 180, 0, 76, 4, 100, 181, 0, 76, 44, 176, 42, 182, 0, 124, 77, 42, 182, 0, 45, 62, 29, 16, 60]
abbrev dktX5_fact_5 : List UInt8 := dkwX5_fact_5 ++ dktX5_fact_6
def dkwX5_fact_4 : List UInt8 := [42, 180, 0, 3, 3, 42, 180, 0, 23, 182, 0, 69, 191, 42, 89, 180, 0, 23, 4, 96, 181, 0, 23, 42]
abbrev dktX5_fact_4 : List UInt8 := dkwX5_fact_4 ++ dktX5_fact_5
def dkwX5_fact_3 : List UInt8 := [42, 89, 180, 0, 23, 4, 96, 181, 0, 23, 42, 182, 0, 121, 77, 42, 182, 0, 45, 16, 93, 159, 0, 16]
abbrev dktX5_fact_3 : List UInt8 := dkwX5_fact_3 ++ dktX5_fact_4
def dkwX5_fact_2 : List UInt8 := [180, 0, 76, 4, 100, 181, 0, 76, 44, 176, 42, 182, 0, 33, 16, 91, 160, 0, 67, 42, 27, 182, 0, 109]
abbrev dktX5_fact_2 : List UInt8 := dkwX5_fact_2 ++ dktX5_fact_3
def dkwX5_fact_1 : List UInt8 := [42, 89, 180, 0, 23, 6, 96, 181, 0, 23, 187, 0, 112, 89, 42, 182, 0, 114, 183, 0, 118, 77, 42, 89]
abbrev dktX5_fact_1 : List UInt8 := dkwX5_fact_1 ++ dktX5_fact_2
def dkwX5_fact_0 : List UInt8 := [42, 182, 0, 45, 87, 42, 180, 0, 23, 60, 42, 18, 107, 182, 0, 61, 153, 0, 42, 42, 27, 182, 0, 109]
abbrev dktX5_fact_0 : List UInt8 := dkwX5_fact_0 ++ dktX5_fact_1
theorem dksX5_fact_0 : cX5_fact.data.toList.drop 0 = dktX5_fact_0 := by decide +kernel
theorem dksX5_fact_1 : cX5_fact.data.toList.drop 24 = dktX5_fact_1 := dk_seg dksX5_fact_0 24 rfl rfl
theorem dksX5_fact_2 : cX5_fact.data.toList.drop 48 = dktX5_fact_2 := dk_seg dksX5_fact_1 24 rfl rfl
theorem dksX5_fact_3 : cX5_fact.data.toList.drop 72 = dktX5_fact_3 := dk_seg dksX5_fact_2 24 rfl rfl
theorem dksX5_fact_4 : cX5_fact.data.toList.drop 96 = dktX5_fact_4 := dk_seg dksX5_fact_3 24 rfl rfl
theorem dksX5_fact_5 : cX5_fact.data.toList.drop 120 = dktX5_fact_5 := dk_seg dksX5_fact_4 24 rfl rfl
theorem dksX5_fact_6 : cX5_fact.data.toList.drop 144 = dktX5_fact_6 := dk_seg dksX5_fact_5 24 rfl rfl
theorem dksX5_fact_7 : cX5_fact.data.toList.drop 168 = dktX5_fact_7 := dk_seg dksX5_fact_6 24 rfl rfl
theorem dksX5_fact_8 : cX5_fact.data.toList.drop 191 = dktX5_fact_8 := dk_seg dksX5_fact_7 23 rfl rfl
theorem dksX5_fact_9 : cX5_fact.data.toList.drop 214 = dktX5_fact_9 := dk_seg dksX5_fact_8 23 rfl rfl
theorem dksX5_fact_10 : cX5_fact.data.toList.drop 237 = dktX5_fact_10 := dk_seg dksX5_fact_9 23 rfl rfl
theorem dX5_fact_0 : decode cX5_fact 0 = .ok (.aload_n 0, 1) := dk_42 (dk_at dksX5_fact_0 0 rfl rfl)
theorem dX5_fact_1 : decode cX5_fact 1 = .ok (.invokevirtual 45, 3) := dk_182 0 45 (dk_at dksX5_fact_0 1 rfl rfl)
theorem dX5_fact_4 : decode cX5_fact 4 = .ok (.pop, 1) := dk_87 (dk_at dksX5_fact_0 4 rfl rfl)
theorem dX5_fact_5 : decode cX5_fact 5 = .ok (.aload_n 0, 1) := dk_42 (dk_at dksX5_fact_0 5 rfl rfl)
theorem dX5_fact_6 : decode cX5_fact 6 = .ok (.getfield 23, 3) := dk_180 0 23 (dk_at dksX5_fact_0 6 rfl rfl)
theorem dX5_fact_9 : decode cX5_fact 9 = .ok (.istore_n 1, 1) := dk_60 (dk_at dksX5_fact_0 9 rfl rfl)
theorem dX5_fact_10 : decode cX5_fact 10 = .ok (.aload_n 0, 1) := dk_42 (dk_at dksX5_fact_0 10 rfl rfl)
theorem dX5_fact_11 : decode cX5_fact 11 = .ok (.ldc 107, 2) := dk_18 107 (dk_at dksX5_fact_0 11 rfl rfl)
theorem dX5_fact_13 : decode cX5_fact 13 = .ok (.invokevirtual 61, 3) := dk_182 0 61 (dk_at dksX5_fact_0 13 rfl rfl)
theorem dX5_fact_16 : decode cX5_fact 16 = .ok (.ifCond .eq 42, 3) := dk_153 0 42 (dk_at dksX5_fact_0 16 rfl rfl)
theorem dX5_fact_19 : decode cX5_fact 19 = .ok (.aload_n 0, 1) := dk_42 (dk_at dksX5_fact_0 19 rfl rfl)
theorem dX5_fact_20 : decode cX5_fact 20 = .ok (.iload_n 1, 1) := dk_27 (dk_at dksX5_fact_0 20 rfl rfl)
theorem dX5_fact_21 : decode cX5_fact 21 = .ok (.invokevirtual 109, 3) := dk_182 0 109 (dk_at dksX5_fact_0 21 rfl rfl)
theorem dX5_fact_24 : decode cX5_fact 24 = .ok (.aload_n 0, 1) := dk_42 (dk_at dksX5_fact_1 0 rfl rfl)
theorem dX5_fact_25 : decode cX5_fact 25 = .ok (.dup, 1) := dk_89 (dk_at dksX5_fact_1 1 rfl rfl)
theorem dX5_fact_26 : decode cX5_fact 26 = .ok (.getfield 23, 3) := dk_180 0 23 (dk_at dksX5_fact_1 2 rfl rfl)
theorem dX5_fact_29 : decode cX5_fact 29 = .ok (.iconst 3, 1) := dk_6 (dk_at dksX5_fact_1 5 rfl rfl)
theorem dX5_fact_30 : decode cX5_fact 30 = .ok (.iadd, 1) := dk_96 (dk_at dksX5_fact_1 6 rfl rfl)
theorem dX5_fact_31 : decode cX5_fact 31 = .ok (.putfield 23, 3) := dk_181 0 23 (dk_at dksX5_fact_1 7 rfl rfl)
theorem dX5_fact_34 : decode cX5_fact 34 = .ok (.new 112, 3) := dk_187 0 112 (dk_at dksX5_fact_1 10 rfl rfl)
theorem dX5_fact_37 : decode cX5_fact 37 = .ok (.dup, 1) := dk_89 (dk_at dksX5_fact_1 13 rfl rfl)
theorem dX5_fact_38 : decode cX5_fact 38 = .ok (.aload_n 0, 1) := dk_42 (dk_at dksX5_fact_1 14 rfl rfl)
theorem dX5_fact_39 : decode cX5_fact 39 = .ok (.invokevirtual 114, 3) := dk_182 0 114 (dk_at dksX5_fact_1 15 rfl rfl)
theorem dX5_fact_42 : decode cX5_fact 42 = .ok (.invokespecial 118, 3) := dk_183 0 118 (dk_at dksX5_fact_1 18 rfl rfl)
theorem dX5_fact_45 : decode cX5_fact 45 = .ok (.astore_n 2, 1) := dk_77 (dk_at dksX5_fact_1 21 rfl rfl)
theorem dX5_fact_46 : decode cX5_fact 46 = .ok (.aload_n 0, 1) := dk_42 (dk_at dksX5_fact_1 22 rfl rfl)
theorem dX5_fact_47 : decode cX5_fact 47 = .ok (.dup, 1) := dk_89 (dk_at dksX5_fact_1 23 rfl rfl)
theorem dX5_fact_48 : decode cX5_fact 48 = .ok (.getfield 76, 3) := dk_180 0 76 (dk_at dksX5_fact_2 0 rfl rfl)
theorem dX5_fact_51 : decode cX5_fact 51 = .ok (.iconst 1, 1) := dk_4 (dk_at dksX5_fact_2 3 rfl rfl)
theorem dX5_fact_52 : decode cX5_fact 52 = .ok (.isub, 1) := dk_100 (dk_at dksX5_fact_2 4 rfl rfl)
theorem dX5_fact_53 : decode cX5_fact 53 = .ok (.putfield 76, 3) := dk_181 0 76 (dk_at dksX5_fact_2 5 rfl rfl)
theorem dX5_fact_56 : decode cX5_fact 56 = .ok (.aload_n 2, 1) := dk_44 (dk_at dksX5_fact_2 8 rfl rfl)
theorem dX5_fact_57 : decode cX5_fact 57 = .ok (.areturn, 1) := dk_176 (dk_at dksX5_fact_2 9 rfl rfl)
theorem dX5_fact_58 : decode cX5_fact 58 = .ok (.aload_n 0, 1) := dk_42 (dk_at dksX5_fact_2 10 rfl rfl)
theorem dX5_fact_59 : decode cX5_fact 59 = .ok (.invokevirtual 33, 3) := dk_182 0 33 (dk_at dksX5_fact_2 11 rfl rfl)
theorem dX5_fact_62 : decode cX5_fact 62 = .ok (.bipush 91, 2) := dk_16 91 (dk_at dksX5_fact_2 14 rfl rfl)
theorem dX5_fact_64 : decode cX5_fact 64 = .ok (.if_icmp .ne 67, 3) := dk_160 0 67 (dk_at dksX5_fact_2 16 rfl rfl)
theorem dX5_fact_67 : decode cX5_fact 67 = .ok (.aload_n 0, 1) := dk_42 (dk_at dksX5_fact_2 19 rfl rfl)
theorem dX5_fact_68 : decode cX5_fact 68 = .ok (.iload_n 1, 1) := dk_27 (dk_at dksX5_fact_2 20 rfl rfl)
theorem dX5_fact_69 : decode cX5_fact 69 = .ok (.invokevirtual 109, 3) := dk_182 0 109 (dk_at dksX5_fact_2 21 rfl rfl)
theorem dX5_fact_72 : decode cX5_fact 72 = .ok (.aload_n 0, 1) := dk_42 (dk_at dksX5_fact_3 0 rfl rfl)
theorem dX5_fact_73 : decode cX5_fact 73 = .ok (.dup, 1) := dk_89 (dk_at dksX5_fact_3 1 rfl rfl)
theorem dX5_fact_74 : decode cX5_fact 74 = .ok (.getfield 23, 3) := dk_180 0 23 (dk_at dksX5_fact_3 2 rfl rfl)
theorem dX5_fact_77 : decode cX5_fact 77 = .ok (.iconst 1, 1) := dk_4 (dk_at dksX5_fact_3 5 rfl rfl)
theorem dX5_fact_78 : decode cX5_fact 78 = .ok (.iadd, 1) := dk_96 (dk_at dksX5_fact_3 6 rfl rfl)
theorem dX5_fact_79 : decode cX5_fact 79 = .ok (.putfield 23, 3) := dk_181 0 23 (dk_at dksX5_fact_3 7 rfl rfl)
theorem dX5_fact_82 : decode cX5_fact 82 = .ok (.aload_n 0, 1) := dk_42 (dk_at dksX5_fact_3 10 rfl rfl)
theorem dX5_fact_83 : decode cX5_fact 83 = .ok (.invokevirtual 121, 3) := dk_182 0 121 (dk_at dksX5_fact_3 11 rfl rfl)
theorem dX5_fact_86 : decode cX5_fact 86 = .ok (.astore_n 2, 1) := dk_77 (dk_at dksX5_fact_3 14 rfl rfl)
theorem dX5_fact_87 : decode cX5_fact 87 = .ok (.aload_n 0, 1) := dk_42 (dk_at dksX5_fact_3 15 rfl rfl)
theorem dX5_fact_88 : decode cX5_fact 88 = .ok (.invokevirtual 45, 3) := dk_182 0 45 (dk_at dksX5_fact_3 16 rfl rfl)
theorem dX5_fact_91 : decode cX5_fact 91 = .ok (.bipush 93, 2) := dk_16 93 (dk_at dksX5_fact_3 19 rfl rfl)
theorem dX5_fact_93 : decode cX5_fact 93 = .ok (.if_icmp .eq 16, 3) := dk_159 0 16 (dk_at dksX5_fact_3 21 rfl rfl)
theorem dX5_fact_96 : decode cX5_fact 96 = .ok (.aload_n 0, 1) := dk_42 (dk_at dksX5_fact_4 0 rfl rfl)
theorem dX5_fact_97 : decode cX5_fact 97 = .ok (.getfield 3, 3) := dk_180 0 3 (dk_at dksX5_fact_4 1 rfl rfl)
theorem dX5_fact_100 : decode cX5_fact 100 = .ok (.iconst 0, 1) := dk_3 (dk_at dksX5_fact_4 4 rfl rfl)
theorem dX5_fact_101 : decode cX5_fact 101 = .ok (.aload_n 0, 1) := dk_42 (dk_at dksX5_fact_4 5 rfl rfl)
theorem dX5_fact_102 : decode cX5_fact 102 = .ok (.getfield 23, 3) := dk_180 0 23 (dk_at dksX5_fact_4 6 rfl rfl)
theorem dX5_fact_105 : decode cX5_fact 105 = .ok (.invokevirtual 69, 3) := dk_182 0 69 (dk_at dksX5_fact_4 9 rfl rfl)
theorem dX5_fact_108 : decode cX5_fact 108 = .ok (.athrow, 1) := dk_191 (dk_at dksX5_fact_4 12 rfl rfl)
theorem dX5_fact_109 : decode cX5_fact 109 = .ok (.aload_n 0, 1) := dk_42 (dk_at dksX5_fact_4 13 rfl rfl)
theorem dX5_fact_110 : decode cX5_fact 110 = .ok (.dup, 1) := dk_89 (dk_at dksX5_fact_4 14 rfl rfl)
theorem dX5_fact_111 : decode cX5_fact 111 = .ok (.getfield 23, 3) := dk_180 0 23 (dk_at dksX5_fact_4 15 rfl rfl)
theorem dX5_fact_114 : decode cX5_fact 114 = .ok (.iconst 1, 1) := dk_4 (dk_at dksX5_fact_4 18 rfl rfl)
theorem dX5_fact_115 : decode cX5_fact 115 = .ok (.iadd, 1) := dk_96 (dk_at dksX5_fact_4 19 rfl rfl)
theorem dX5_fact_116 : decode cX5_fact 116 = .ok (.putfield 23, 3) := dk_181 0 23 (dk_at dksX5_fact_4 20 rfl rfl)
theorem dX5_fact_119 : decode cX5_fact 119 = .ok (.aload_n 0, 1) := dk_42 (dk_at dksX5_fact_4 23 rfl rfl)
theorem dX5_fact_120 : decode cX5_fact 120 = .ok (.dup, 1) := dk_89 (dk_at dksX5_fact_5 0 rfl rfl)
theorem dX5_fact_121 : decode cX5_fact 121 = .ok (.getfield 76, 3) := dk_180 0 76 (dk_at dksX5_fact_5 1 rfl rfl)
theorem dX5_fact_124 : decode cX5_fact 124 = .ok (.iconst 1, 1) := dk_4 (dk_at dksX5_fact_5 4 rfl rfl)
theorem dX5_fact_125 : decode cX5_fact 125 = .ok (.isub, 1) := dk_100 (dk_at dksX5_fact_5 5 rfl rfl)
theorem dX5_fact_126 : decode cX5_fact 126 = .ok (.putfield 76, 3) := dk_181 0 76 (dk_at dksX5_fact_5 6 rfl rfl)
theorem dX5_fact_129 : decode cX5_fact 129 = .ok (.aload_n 2, 1) := dk_44 (dk_at dksX5_fact_5 9 rfl rfl)
theorem dX5_fact_130 : decode cX5_fact 130 = .ok (.areturn, 1) := dk_176 (dk_at dksX5_fact_5 10 rfl rfl)
theorem dX5_fact_131 : decode cX5_fact 131 = .ok (.aload_n 0, 1) := dk_42 (dk_at dksX5_fact_5 11 rfl rfl)
theorem dX5_fact_132 : decode cX5_fact 132 = .ok (.invokevirtual 124, 3) := dk_182 0 124 (dk_at dksX5_fact_5 12 rfl rfl)
theorem dX5_fact_135 : decode cX5_fact 135 = .ok (.astore_n 2, 1) := dk_77 (dk_at dksX5_fact_5 15 rfl rfl)
theorem dX5_fact_136 : decode cX5_fact 136 = .ok (.aload_n 0, 1) := dk_42 (dk_at dksX5_fact_5 16 rfl rfl)
theorem dX5_fact_137 : decode cX5_fact 137 = .ok (.invokevirtual 45, 3) := dk_182 0 45 (dk_at dksX5_fact_5 17 rfl rfl)
theorem dX5_fact_140 : decode cX5_fact 140 = .ok (.istore_n 3, 1) := dk_62 (dk_at dksX5_fact_5 20 rfl rfl)
theorem dX5_fact_141 : decode cX5_fact 141 = .ok (.iload_n 3, 1) := dk_29 (dk_at dksX5_fact_5 21 rfl rfl)
theorem dX5_fact_142 : decode cX5_fact 142 = .ok (.bipush 60, 2) := dk_16 60 (dk_at dksX5_fact_5 22 rfl rfl)
theorem dX5_fact_144 : decode cX5_fact 144 = .ok (.if_icmp .eq 28, 3) := dk_159 0 28 (dk_at dksX5_fact_6 0 rfl rfl)
theorem dX5_fact_147 : decode cX5_fact 147 = .ok (.iload_n 3, 1) := dk_29 (dk_at dksX5_fact_6 3 rfl rfl)
theorem dX5_fact_148 : decode cX5_fact 148 = .ok (.bipush 61, 2) := dk_16 61 (dk_at dksX5_fact_6 4 rfl rfl)
theorem dX5_fact_150 : decode cX5_fact 150 = .ok (.if_icmp .eq 22, 3) := dk_159 0 22 (dk_at dksX5_fact_6 6 rfl rfl)
theorem dX5_fact_153 : decode cX5_fact 153 = .ok (.iload_n 3, 1) := dk_29 (dk_at dksX5_fact_6 9 rfl rfl)
theorem dX5_fact_154 : decode cX5_fact 154 = .ok (.bipush 62, 2) := dk_16 62 (dk_at dksX5_fact_6 10 rfl rfl)
theorem dX5_fact_156 : decode cX5_fact 156 = .ok (.if_icmp .eq 16, 3) := dk_159 0 16 (dk_at dksX5_fact_6 12 rfl rfl)
theorem dX5_fact_159 : decode cX5_fact 159 = .ok (.aload_n 0, 1) := dk_42 (dk_at dksX5_fact_6 15 rfl rfl)
theorem dX5_fact_160 : decode cX5_fact 160 = .ok (.getfield 3, 3) := dk_180 0 3 (dk_at dksX5_fact_6 16 rfl rfl)
theorem dX5_fact_163 : decode cX5_fact 163 = .ok (.iconst 0, 1) := dk_3 (dk_at dksX5_fact_6 19 rfl rfl)
theorem dX5_fact_164 : decode cX5_fact 164 = .ok (.aload_n 0, 1) := dk_42 (dk_at dksX5_fact_6 20 rfl rfl)
theorem dX5_fact_165 : decode cX5_fact 165 = .ok (.getfield 23, 3) := dk_180 0 23 (dk_at dksX5_fact_6 21 rfl rfl)
theorem dX5_fact_168 : decode cX5_fact 168 = .ok (.invokevirtual 69, 3) := dk_182 0 69 (dk_at dksX5_fact_7 0 rfl rfl)
theorem dX5_fact_171 : decode cX5_fact 171 = .ok (.athrow, 1) := dk_191 (dk_at dksX5_fact_7 3 rfl rfl)
theorem dX5_fact_172 : decode cX5_fact 172 = .ok (.aload_n 0, 1) := dk_42 (dk_at dksX5_fact_7 4 rfl rfl)
theorem dX5_fact_173 : decode cX5_fact 173 = .ok (.aload_n 0, 1) := dk_42 (dk_at dksX5_fact_7 5 rfl rfl)
theorem dX5_fact_174 : decode cX5_fact 174 = .ok (.getfield 23, 3) := dk_180 0 23 (dk_at dksX5_fact_7 6 rfl rfl)
theorem dX5_fact_177 : decode cX5_fact 177 = .ok (.invokevirtual 89, 3) := dk_182 0 89 (dk_at dksX5_fact_7 9 rfl rfl)
theorem dX5_fact_180 : decode cX5_fact 180 = .ok (.aload_n 0, 1) := dk_42 (dk_at dksX5_fact_7 12 rfl rfl)
theorem dX5_fact_181 : decode cX5_fact 181 = .ok (.dup, 1) := dk_89 (dk_at dksX5_fact_7 13 rfl rfl)
theorem dX5_fact_182 : decode cX5_fact 182 = .ok (.getfield 23, 3) := dk_180 0 23 (dk_at dksX5_fact_7 14 rfl rfl)
theorem dX5_fact_185 : decode cX5_fact 185 = .ok (.iconst 1, 1) := dk_4 (dk_at dksX5_fact_7 17 rfl rfl)
theorem dX5_fact_186 : decode cX5_fact 186 = .ok (.iadd, 1) := dk_96 (dk_at dksX5_fact_7 18 rfl rfl)
theorem dX5_fact_187 : decode cX5_fact 187 = .ok (.putfield 23, 3) := dk_181 0 23 (dk_at dksX5_fact_7 19 rfl rfl)
theorem dX5_fact_190 : decode cX5_fact 190 = .ok (.iload_n 3, 1) := dk_29 (dk_at dksX5_fact_7 22 rfl rfl)
theorem dX5_fact_191 : decode cX5_fact 191 = .ok (.bipush 61, 2) := dk_16 61 (dk_at dksX5_fact_8 0 rfl rfl)
theorem dX5_fact_193 : decode cX5_fact 193 = .ok (.if_icmp .eq 16, 3) := dk_159 0 16 (dk_at dksX5_fact_8 2 rfl rfl)
theorem dX5_fact_196 : decode cX5_fact 196 = .ok (.aload_n 0, 1) := dk_42 (dk_at dksX5_fact_8 5 rfl rfl)
theorem dX5_fact_197 : decode cX5_fact 197 = .ok (.invokevirtual 33, 3) := dk_182 0 33 (dk_at dksX5_fact_8 6 rfl rfl)
theorem dX5_fact_200 : decode cX5_fact 200 = .ok (.bipush 61, 2) := dk_16 61 (dk_at dksX5_fact_8 9 rfl rfl)
theorem dX5_fact_202 : decode cX5_fact 202 = .ok (.if_icmp .ne 7, 3) := dk_160 0 7 (dk_at dksX5_fact_8 11 rfl rfl)
theorem dX5_fact_205 : decode cX5_fact 205 = .ok (.iconst 1, 1) := dk_4 (dk_at dksX5_fact_8 14 rfl rfl)
theorem dX5_fact_206 : decode cX5_fact 206 = .ok (.goto 4, 3) := dk_167 0 4 (dk_at dksX5_fact_8 15 rfl rfl)
theorem dX5_fact_209 : decode cX5_fact 209 = .ok (.iconst 0, 1) := dk_3 (dk_at dksX5_fact_8 18 rfl rfl)
theorem dX5_fact_210 : decode cX5_fact 210 = .ok (.istore 4, 2) := dk_54 4 (dk_at dksX5_fact_8 19 rfl rfl)
theorem dX5_fact_212 : decode cX5_fact 212 = .ok (.aload_n 0, 1) := dk_42 (dk_at dksX5_fact_8 21 rfl rfl)
theorem dX5_fact_213 : decode cX5_fact 213 = .ok (.dup, 1) := dk_89 (dk_at dksX5_fact_8 22 rfl rfl)
theorem dX5_fact_214 : decode cX5_fact 214 = .ok (.getfield 23, 3) := dk_180 0 23 (dk_at dksX5_fact_9 0 rfl rfl)
theorem dX5_fact_217 : decode cX5_fact 217 = .ok (.iload 4, 2) := dk_21 4 (dk_at dksX5_fact_9 3 rfl rfl)
theorem dX5_fact_219 : decode cX5_fact 219 = .ok (.ifCond .eq 7, 3) := dk_153 0 7 (dk_at dksX5_fact_9 5 rfl rfl)
theorem dX5_fact_222 : decode cX5_fact 222 = .ok (.iconst 1, 1) := dk_4 (dk_at dksX5_fact_9 8 rfl rfl)
theorem dX5_fact_223 : decode cX5_fact 223 = .ok (.goto 4, 3) := dk_167 0 4 (dk_at dksX5_fact_9 9 rfl rfl)
theorem dX5_fact_226 : decode cX5_fact 226 = .ok (.iconst 0, 1) := dk_3 (dk_at dksX5_fact_9 12 rfl rfl)
theorem dX5_fact_227 : decode cX5_fact 227 = .ok (.iadd, 1) := dk_96 (dk_at dksX5_fact_9 13 rfl rfl)
theorem dX5_fact_228 : decode cX5_fact 228 = .ok (.putfield 23, 3) := dk_181 0 23 (dk_at dksX5_fact_9 14 rfl rfl)
theorem dX5_fact_231 : decode cX5_fact 231 = .ok (.new 127, 3) := dk_187 0 127 (dk_at dksX5_fact_9 17 rfl rfl)
theorem dX5_fact_234 : decode cX5_fact 234 = .ok (.dup, 1) := dk_89 (dk_at dksX5_fact_9 20 rfl rfl)
theorem dX5_fact_235 : decode cX5_fact 235 = .ok (.aload_n 2, 1) := dk_44 (dk_at dksX5_fact_9 21 rfl rfl)
theorem dX5_fact_236 : decode cX5_fact 236 = .ok (.aload_n 0, 1) := dk_42 (dk_at dksX5_fact_9 22 rfl rfl)
theorem dX5_fact_237 : decode cX5_fact 237 = .ok (.invokevirtual 124, 3) := dk_182 0 124 (dk_at dksX5_fact_10 0 rfl rfl)
theorem dX5_fact_240 : decode cX5_fact 240 = .ok (.iload_n 3, 1) := dk_29 (dk_at dksX5_fact_10 3 rfl rfl)
theorem dX5_fact_241 : decode cX5_fact 241 = .ok (.iload 4, 2) := dk_21 4 (dk_at dksX5_fact_10 4 rfl rfl)
theorem dX5_fact_243 : decode cX5_fact 243 = .ok (.invokespecial 129, 3) := dk_183 0 129 (dk_at dksX5_fact_10 6 rfl rfl)
theorem dX5_fact_246 : decode cX5_fact 246 = .ok (.areturn, 1) := dk_176 (dk_at dksX5_fact_10 9 rfl rfl)
abbrev cX5_goesDeeper : ByteArray := prog_10_method_9_code
def yX5_goesDeeper : MethodName := ⟨RX5, "goesDeeper", "(I)V"⟩
def dkwX5_goesDeeper_1 : List UInt8 := [4, 96, 181, 0, 76, 177]
abbrev dktX5_goesDeeper_1 : List UInt8 := dkwX5_goesDeeper_1 ++ []
def dkwX5_goesDeeper_0 : List UInt8 := [42, 180, 0, 76, 16, 10, 160, 0, 13, 42, 180, 0, 3, 5, 27, 182, 0, 69, 191, 42, 89, 180, 0, 76]
abbrev dktX5_goesDeeper_0 : List UInt8 := dkwX5_goesDeeper_0 ++ dktX5_goesDeeper_1
theorem dksX5_goesDeeper_0 : cX5_goesDeeper.data.toList.drop 0 = dktX5_goesDeeper_0 := by decide +kernel
theorem dksX5_goesDeeper_1 : cX5_goesDeeper.data.toList.drop 24 = dktX5_goesDeeper_1 := dk_seg dksX5_goesDeeper_0 24 rfl rfl
theorem dX5_goesDeeper_0 : decode cX5_goesDeeper 0 = .ok (.aload_n 0, 1) := dk_42 (dk_at dksX5_goesDeeper_0 0 rfl rfl)
theorem dX5_goesDeeper_1 : decode cX5_goesDeeper 1 = .ok (.getfield 76, 3) := dk_180 0 76 (dk_at dksX5_goesDeeper_0 1 rfl rfl)
theorem dX5_goesDeeper_4 : decode cX5_goesDeeper 4 = .ok (.bipush 10, 2) := dk_16 10 (dk_at dksX5_goesDeeper_0 4 rfl rfl)
theorem dX5_goesDeeper_6 : decode cX5_goesDeeper 6 = .ok (.if_icmp .ne 13, 3) := dk_160 0 13 (dk_at dksX5_goesDeeper_0 6 rfl rfl)
theorem dX5_goesDeeper_9 : decode cX5_goesDeeper 9 = .ok (.aload_n 0, 1) := dk_42 (dk_at dksX5_goesDeeper_0 9 rfl rfl)
theorem dX5_goesDeeper_10 : decode cX5_goesDeeper 10 = .ok (.getfield 3, 3) := dk_180 0 3 (dk_at dksX5_goesDeeper_0 10 rfl rfl)
theorem dX5_goesDeeper_13 : decode cX5_goesDeeper 13 = .ok (.iconst 2, 1) := dk_5 (dk_at dksX5_goesDeeper_0 13 rfl rfl)
theorem dX5_goesDeeper_14 : decode cX5_goesDeeper 14 = .ok (.iload_n 1, 1) := dk_27 (dk_at dksX5_goesDeeper_0 14 rfl rfl)
theorem dX5_goesDeeper_15 : decode cX5_goesDeeper 15 = .ok (.invokevirtual 69, 3) := dk_182 0 69 (dk_at dksX5_goesDeeper_0 15 rfl rfl)
theorem dX5_goesDeeper_18 : decode cX5_goesDeeper 18 = .ok (.athrow, 1) := dk_191 (dk_at dksX5_goesDeeper_0 18 rfl rfl)
theorem dX5_goesDeeper_19 : decode cX5_goesDeeper 19 = .ok (.aload_n 0, 1) := dk_42 (dk_at dksX5_goesDeeper_0 19 rfl rfl)
theorem dX5_goesDeeper_20 : decode cX5_goesDeeper 20 = .ok (.dup, 1) := dk_89 (dk_at dksX5_goesDeeper_0 20 rfl rfl)
theorem dX5_goesDeeper_21 : decode cX5_goesDeeper 21 = .ok (.getfield 76, 3) := dk_180 0 76 (dk_at dksX5_goesDeeper_0 21 rfl rfl)
theorem dX5_goesDeeper_24 : decode cX5_goesDeeper 24 = .ok (.iconst 1, 1) := dk_4 (dk_at dksX5_goesDeeper_1 0 rfl rfl)
theorem dX5_goesDeeper_25 : decode cX5_goesDeeper 25 = .ok (.iadd, 1) := dk_96 (dk_at dksX5_goesDeeper_1 1 rfl rfl)
theorem dX5_goesDeeper_26 : decode cX5_goesDeeper 26 = .ok (.putfield 76, 3) := dk_181 0 76 (dk_at dksX5_goesDeeper_1 2 rfl rfl)
theorem dX5_goesDeeper_29 : decode cX5_goesDeeper 29 = .ok (.return_, 1) := dk_177 (dk_at dksX5_goesDeeper_1 5 rfl rfl)
theorem q138 : (Jvm.Cond.initialized "SmokeWord$Parser") ∈ lw_all := lw_g (lw_at lw_m1 11 rfl) rfl
theorem q206 : (Jvm.Cond.fieldLinkNest "SmokeWord$Parser" (150 : Nat) "SmokeWord$Valley" "houses" "Ljava/util/ArrayList;" "SmokeWord") ∈ lw_tbl := lw_at lw_m1 79 rfl
theorem q208 : (Jvm.Cond.fieldLinkNest "SmokeWord$Parser" (172 : Nat) "SmokeWord$Valley" "far" "[I" "SmokeWord") ∈ lw_tbl := lw_at lw_m1 81 rfl
theorem q212 : (Jvm.Cond.fieldLinkNest "SmokeWord$Parser" (176 : Nat) "SmokeWord$Valley" "beside" "[I" "SmokeWord") ∈ lw_tbl := lw_at lw_m1 85 rfl
theorem q214 : (Jvm.Cond.fieldLinkNest "SmokeWord$Parser" (188 : Nat) "SmokeWord$Valley" "water" "I" "SmokeWord") ∈ lw_tbl := lw_at lw_m1 87 rfl
theorem q218 : (Jvm.Cond.fieldLinkNest "SmokeWord$Parser" (179 : Nat) "SmokeWord$Valley" "leap" "I" "SmokeWord") ∈ lw_tbl := lw_at lw_m1 91 rfl
theorem q353 : (Jvm.Cond.fieldLinkNest "SmokeWord$Parser" (231 : Nat) "SmokeWord" "rules" "Ljava/util/ArrayList;" "SmokeWord") ∈ lw_tbl := lw_at lw_m1 226 rfl
theorem q357 : (Jvm.Cond.fieldLinkNest "SmokeWord$Parser" (29 : Nat) "SmokeWord" "tape" "[B" "SmokeWord") ∈ lw_tbl := lw_at lw_m1 230 rfl
theorem q359 : (Jvm.Cond.fieldLinkNest "SmokeWord$Parser" (26 : Nat) "SmokeWord" "taped" "I" "SmokeWord") ∈ lw_tbl := lw_at lw_m1 232 rfl
theorem q462 : (Jvm.Cond.instantiable "SmokeWord$Parser" (7 : Nat)) ∈ lw_all := lw_g (lw_at lw_m2 95 rfl) rfl
theorem q464 : (Jvm.Cond.instanceMethod ({ cls := "SmokeWord$Parser", name := "<init>", desc := "(LSmokeWord;[Ljava/lang/String;I)V" } : Jvm.MethodName)) ∈ lw_all := lw_g (lw_at lw_m2 97 rfl) rfl
theorem q465 : (Jvm.Cond.code ({ cls := "SmokeWord$Parser", name := "<init>", desc := "(LSmokeWord;[Ljava/lang/String;I)V" } : Jvm.MethodName) prog_10_method_1_code (4 : Nat) (Option.none : Option Jvm.ClassFile.FieldType)) ∈ lw_all := lw_g (lw_at lw_m2 98 rfl) rfl
theorem q466 : (Jvm.Cond.methodLink "SmokeWord$Parser" (9 : Nat) ({ cls := "java/lang/Object", name := "<init>", desc := "()V" } : Jvm.MethodName)) ∈ lw_all := lw_g (lw_at lw_m2 99 rfl) rfl
theorem q467 : (Jvm.Cond.fieldLink "SmokeWord$Parser" (15 : Nat) "SmokeWord$Parser" "names" "[Ljava/lang/String;") ∈ lw_all := lw_g (lw_at lw_m2 100 rfl) rfl
theorem q468 : (Jvm.Cond.fieldLink "SmokeWord$Parser" (23 : Nat) "SmokeWord$Parser" "at" "I") ∈ lw_all := lw_g (lw_at lw_m2 101 rfl) rfl
theorem q469 : (Jvm.Cond.fieldLink "SmokeWord$Parser" (76 : Nat) "SmokeWord$Parser" "deep" "I") ∈ lw_all := lw_g (lw_at lw_m2 102 rfl) rfl
theorem q470 : (Jvm.Cond.fieldLink "SmokeWord$Parser" (73 : Nat) "SmokeWord$Parser" "counted" "I") ∈ lw_all := lw_g (lw_at lw_m2 103 rfl) rfl
theorem q471 : (Jvm.Cond.fieldLink "SmokeWord$Parser" (147 : Nat) "SmokeWord$Parser" "clauses" "I") ∈ lw_all := lw_g (lw_at lw_m2 104 rfl) rfl
theorem q472 : (Jvm.Cond.fieldLink "SmokeWord$Parser" (19 : Nat) "SmokeWord$Parser" "most" "I") ∈ lw_all := lw_g (lw_at lw_m2 105 rfl) rfl
theorem q473 : (Jvm.Cond.fieldLink "SmokeWord$Parser" (3 : Nat) "SmokeWord$Parser" "this$0" "LSmokeWord;") ∈ lw_all := lw_g (lw_at lw_m2 106 rfl) rfl
theorem q474 : (Jvm.Cond.laysFinal "SmokeWord$Parser" "SmokeWord$Parser" "names" "[Ljava/lang/String;") ∈ lw_all := lw_g (lw_at lw_m2 107 rfl) rfl
theorem q475 : (Jvm.Cond.soleField "SmokeWord$Parser" "names") ∈ lw_all := lw_g (lw_at lw_m2 108 rfl) rfl
theorem q476 : (Jvm.Cond.lays "SmokeWord$Parser" "SmokeWord$Parser" "at" "I") ∈ lw_all := lw_g (lw_at lw_m2 109 rfl) rfl
theorem q477 : (Jvm.Cond.soleField "SmokeWord$Parser" "at") ∈ lw_all := lw_g (lw_at lw_m2 110 rfl) rfl
theorem q478 : (Jvm.Cond.lays "SmokeWord$Parser" "SmokeWord$Parser" "deep" "I") ∈ lw_all := lw_g (lw_at lw_m2 111 rfl) rfl
theorem q479 : (Jvm.Cond.soleField "SmokeWord$Parser" "deep") ∈ lw_all := lw_g (lw_at lw_m2 112 rfl) rfl
theorem q480 : (Jvm.Cond.lays "SmokeWord$Parser" "SmokeWord$Parser" "counted" "I") ∈ lw_all := lw_g (lw_at lw_m2 113 rfl) rfl
theorem q481 : (Jvm.Cond.soleField "SmokeWord$Parser" "counted") ∈ lw_all := lw_g (lw_at lw_m2 114 rfl) rfl
theorem q482 : (Jvm.Cond.lays "SmokeWord$Parser" "SmokeWord$Parser" "clauses" "I") ∈ lw_all := lw_g (lw_at lw_m2 115 rfl) rfl
theorem q483 : (Jvm.Cond.soleField "SmokeWord$Parser" "clauses") ∈ lw_all := lw_g (lw_at lw_m2 116 rfl) rfl
theorem q484 : (Jvm.Cond.laysFinal "SmokeWord$Parser" "SmokeWord$Parser" "most" "I") ∈ lw_all := lw_g (lw_at lw_m2 117 rfl) rfl
theorem q485 : (Jvm.Cond.soleField "SmokeWord$Parser" "most") ∈ lw_all := lw_g (lw_at lw_m2 118 rfl) rfl
theorem q486 : (Jvm.Cond.laysFinal "SmokeWord$Parser" "SmokeWord$Parser" "this$0" "LSmokeWord;") ∈ lw_all := lw_g (lw_at lw_m2 119 rfl) rfl
theorem q487 : (Jvm.Cond.soleField "SmokeWord$Parser" "this$0") ∈ lw_all := lw_g (lw_at lw_m2 120 rfl) rfl
theorem q488 : (Jvm.Cond.superclass "SmokeWord$Parser" "java/lang/Object") ∈ lw_all := lw_g (lw_at lw_m2 121 rfl) rfl
theorem q490 : (Jvm.Cond.instanceMethod ({ cls := "SmokeWord$Parser", name := "valley", desc := "()LSmokeWord$Valley;" } : Jvm.MethodName)) ∈ lw_all := lw_g (lw_at lw_m2 123 rfl) rfl
theorem q491 : (Jvm.Cond.selects "SmokeWord$Parser" ({ cls := "SmokeWord$Parser", name := "valley", desc := "()LSmokeWord$Valley;" } : Jvm.MethodName) ({ cls := "SmokeWord$Parser", name := "valley", desc := "()LSmokeWord$Valley;" } : Jvm.MethodName)) ∈ lw_all := lw_g (lw_at lw_m2 124 rfl) rfl
theorem q492 : (Jvm.Cond.code ({ cls := "SmokeWord$Parser", name := "valley", desc := "()LSmokeWord$Valley;" } : Jvm.MethodName) prog_10_method_24_code (2 : Nat) (Option.some (Jvm.ClassFile.FieldType.object "SmokeWord$Valley"))) ∈ lw_all := lw_g (lw_at lw_m2 125 rfl) rfl
theorem q493 : (Jvm.Cond.classLink "SmokeWord$Parser" (151 : Nat) "SmokeWord$Valley") ∈ lw_all := lw_g (lw_at lw_m2 126 rfl) rfl
theorem q494 : (Jvm.Cond.methodLink "SmokeWord$Parser" (217 : Nat) ({ cls := "SmokeWord$Valley", name := "<init>", desc := "()V" } : Jvm.MethodName)) ∈ lw_all := lw_g (lw_at lw_m2 127 rfl) rfl
theorem q495 : (Jvm.Cond.methodLink "SmokeWord$Parser" (218 : Nat) ({ cls := "SmokeWord$Parser", name := "clause", desc := "(LSmokeWord$Valley;)V" } : Jvm.MethodName)) ∈ lw_all := lw_g (lw_at lw_m2 128 rfl) rfl
theorem q496 : (Jvm.Cond.privateMethod ({ cls := "SmokeWord$Parser", name := "clause", desc := "(LSmokeWord$Valley;)V" } : Jvm.MethodName)) ∈ lw_tbl := lw_at lw_m2 129 rfl
theorem q497 : (Jvm.Cond.instanceMethod ({ cls := "SmokeWord$Parser", name := "clause", desc := "(LSmokeWord$Valley;)V" } : Jvm.MethodName)) ∈ lw_all := lw_g (lw_at lw_m2 130 rfl) rfl
theorem q498 : (Jvm.Cond.code ({ cls := "SmokeWord$Parser", name := "clause", desc := "(LSmokeWord$Valley;)V" } : Jvm.MethodName) prog_10_method_21_code (3 : Nat) (Option.none : Option Jvm.ClassFile.FieldType)) ∈ lw_all := lw_g (lw_at lw_m2 131 rfl) rfl
theorem q499 : (Jvm.Cond.stringRef "SmokeWord$Parser" (182 : Nat) "valley") ∈ lw_tbl := lw_at lw_m2 132 rfl
theorem q500 : (Jvm.Cond.methodLink "SmokeWord$Parser" (184 : Nat) ({ cls := "SmokeWord$Parser", name := "begins", desc := "(Ljava/lang/String;Z)Z" } : Jvm.MethodName)) ∈ lw_all := lw_g (lw_at lw_m2 133 rfl) rfl
theorem q501 : (Jvm.Cond.privateMethod ({ cls := "SmokeWord$Parser", name := "begins", desc := "(Ljava/lang/String;Z)Z" } : Jvm.MethodName)) ∈ lw_tbl := lw_at lw_m2 134 rfl
theorem q502 : (Jvm.Cond.instanceMethod ({ cls := "SmokeWord$Parser", name := "begins", desc := "(Ljava/lang/String;Z)Z" } : Jvm.MethodName)) ∈ lw_all := lw_g (lw_at lw_m2 135 rfl) rfl
theorem q503 : (Jvm.Cond.code ({ cls := "SmokeWord$Parser", name := "begins", desc := "(Ljava/lang/String;Z)Z" } : Jvm.MethodName) prog_10_method_16_code (3 : Nat) (Option.some Jvm.ClassFile.FieldType.boolean)) ∈ lw_all := lw_g (lw_at lw_m2 136 rfl) rfl
theorem q504 : (Jvm.Cond.methodLink "SmokeWord$Parser" (61 : Nat) ({ cls := "SmokeWord$Parser", name := "isWord", desc := "(Ljava/lang/String;)Z" } : Jvm.MethodName)) ∈ lw_all := lw_g (lw_at lw_m2 137 rfl) rfl
theorem q505 : (Jvm.Cond.privateMethod ({ cls := "SmokeWord$Parser", name := "isWord", desc := "(Ljava/lang/String;)Z" } : Jvm.MethodName)) ∈ lw_tbl := lw_at lw_m2 138 rfl
theorem q506 : (Jvm.Cond.instanceMethod ({ cls := "SmokeWord$Parser", name := "isWord", desc := "(Ljava/lang/String;)Z" } : Jvm.MethodName)) ∈ lw_all := lw_g (lw_at lw_m2 139 rfl) rfl
theorem q507 : (Jvm.Cond.code ({ cls := "SmokeWord$Parser", name := "isWord", desc := "(Ljava/lang/String;)Z" } : Jvm.MethodName) prog_10_method_5_code (5 : Nat) (Option.some Jvm.ClassFile.FieldType.boolean)) ∈ lw_all := lw_g (lw_at lw_m2 140 rfl) rfl
theorem q508 : (Jvm.Cond.methodLink "SmokeWord$Parser" (45 : Nat) ({ cls := "SmokeWord$Parser", name := "next", desc := "()I" } : Jvm.MethodName)) ∈ lw_all := lw_g (lw_at lw_m2 141 rfl) rfl
theorem q509 : (Jvm.Cond.privateMethod ({ cls := "SmokeWord$Parser", name := "next", desc := "()I" } : Jvm.MethodName)) ∈ lw_tbl := lw_at lw_m2 142 rfl
theorem q510 : (Jvm.Cond.instanceMethod ({ cls := "SmokeWord$Parser", name := "next", desc := "()I" } : Jvm.MethodName)) ∈ lw_all := lw_g (lw_at lw_m2 143 rfl) rfl
theorem q511 : (Jvm.Cond.code ({ cls := "SmokeWord$Parser", name := "next", desc := "()I" } : Jvm.MethodName) prog_10_method_3_code (1 : Nat) (Option.some Jvm.ClassFile.FieldType.int)) ∈ lw_all := lw_g (lw_at lw_m2 144 rfl) rfl
theorem q512 : (Jvm.Cond.methodLink "SmokeWord$Parser" (33 : Nat) ({ cls := "SmokeWord$Parser", name := "sign", desc := "()I" } : Jvm.MethodName)) ∈ lw_all := lw_g (lw_at lw_m2 145 rfl) rfl
theorem q513 : (Jvm.Cond.privateMethod ({ cls := "SmokeWord$Parser", name := "sign", desc := "()I" } : Jvm.MethodName)) ∈ lw_tbl := lw_at lw_m2 146 rfl
theorem q514 : (Jvm.Cond.instanceMethod ({ cls := "SmokeWord$Parser", name := "sign", desc := "()I" } : Jvm.MethodName)) ∈ lw_all := lw_g (lw_at lw_m2 147 rfl) rfl
theorem q515 : (Jvm.Cond.code ({ cls := "SmokeWord$Parser", name := "sign", desc := "()I" } : Jvm.MethodName) prog_10_method_2_code (1 : Nat) (Option.some Jvm.ClassFile.FieldType.int)) ∈ lw_all := lw_g (lw_at lw_m2 148 rfl) rfl
theorem q516 : (Jvm.Cond.constantLong "SmokeWord$Parser" (48 : Nat) (97 : Int64)) ∈ lw_all := lw_g (lw_at lw_m2 149 rfl) rfl
theorem q517 : (Jvm.Cond.constantLong "SmokeWord$Parser" (50 : Nat) (122 : Int64)) ∈ lw_all := lw_g (lw_at lw_m2 150 rfl) rfl
theorem q518 : (Jvm.Cond.methodLinkNest "SmokeWord$Parser" (41 : Nat) ({ cls := "SmokeWord", name := "in", desc := "(JJJ)Z" } : Jvm.MethodName) "SmokeWord") ∈ lw_tbl := lw_at lw_m2 151 rfl
theorem q521 : (Jvm.Cond.methodLink "SmokeWord$Parser" (52 : Nat) ({ cls := "java/lang/String", name := "length", desc := "()I" } : Jvm.MethodName)) ∈ lw_all := lw_g (lw_at lw_m2 154 rfl) rfl
theorem q531 : (Jvm.Cond.methodLink "SmokeWord$Parser" (57 : Nat) ({ cls := "java/lang/String", name := "charAt", desc := "(I)C" } : Jvm.MethodName)) ∈ lw_all := lw_g (lw_at lw_m2 164 rfl) rfl
theorem q569 : (Jvm.Cond.methodLinkNest "SmokeWord$Parser" (69 : Nat) ({ cls := "SmokeWord", name := "fails", desc := "(II)LSmokeWord$Wrong;" } : Jvm.MethodName) "SmokeWord") ∈ lw_tbl := lw_at lw_m2 202 rfl
theorem q573 : (Jvm.Cond.methodLink "SmokeWord$Parser" (82 : Nat) ({ cls := "SmokeWord$Parser", name := "number", desc := "(II)I" } : Jvm.MethodName)) ∈ lw_all := lw_g (lw_at lw_m2 206 rfl) rfl
theorem q574 : (Jvm.Cond.privateMethod ({ cls := "SmokeWord$Parser", name := "number", desc := "(II)I" } : Jvm.MethodName)) ∈ lw_tbl := lw_at lw_m2 207 rfl
theorem q575 : (Jvm.Cond.instanceMethod ({ cls := "SmokeWord$Parser", name := "number", desc := "(II)I" } : Jvm.MethodName)) ∈ lw_all := lw_g (lw_at lw_m2 208 rfl) rfl
theorem q576 : (Jvm.Cond.code ({ cls := "SmokeWord$Parser", name := "number", desc := "(II)I" } : Jvm.MethodName) prog_10_method_7_code (5 : Nat) (Option.some Jvm.ClassFile.FieldType.int)) ∈ lw_all := lw_g (lw_at lw_m2 209 rfl) rfl
theorem q577 : (Jvm.Cond.methodLink "SmokeWord$Parser" (65 : Nat) ({ cls := "SmokeWord$Parser", name := "isDigit", desc := "()Z" } : Jvm.MethodName)) ∈ lw_all := lw_g (lw_at lw_m2 210 rfl) rfl
theorem q578 : (Jvm.Cond.privateMethod ({ cls := "SmokeWord$Parser", name := "isDigit", desc := "()Z" } : Jvm.MethodName)) ∈ lw_tbl := lw_at lw_m2 211 rfl
theorem q579 : (Jvm.Cond.instanceMethod ({ cls := "SmokeWord$Parser", name := "isDigit", desc := "()Z" } : Jvm.MethodName)) ∈ lw_all := lw_g (lw_at lw_m2 212 rfl) rfl
theorem q580 : (Jvm.Cond.code ({ cls := "SmokeWord$Parser", name := "isDigit", desc := "()Z" } : Jvm.MethodName) prog_10_method_4_code (1 : Nat) (Option.some Jvm.ClassFile.FieldType.boolean)) ∈ lw_all := lw_g (lw_at lw_m2 213 rfl) rfl
theorem q581 : (Jvm.Cond.constantLong "SmokeWord$Parser" (37 : Nat) (48 : Int64)) ∈ lw_all := lw_g (lw_at lw_m2 214 rfl) rfl
theorem q582 : (Jvm.Cond.constantLong "SmokeWord$Parser" (39 : Nat) (57 : Int64)) ∈ lw_all := lw_g (lw_at lw_m2 215 rfl) rfl
theorem q583 : (Jvm.Cond.stringRef "SmokeWord$Parser" (191 : Nat) "house") ∈ lw_tbl := lw_at lw_m2 216 rfl
theorem q584 : (Jvm.Cond.methodLink "SmokeWord$Parser" (167 : Nat) ({ cls := "SmokeWord$Valley", name := "houses", desc := "()I" } : Jvm.MethodName)) ∈ lw_all := lw_g (lw_at lw_m2 217 rfl) rfl
theorem q592 : (Jvm.Cond.methodLink "SmokeWord$Parser" (193 : Nat) ({ cls := "SmokeWord$Parser", name := "house", desc := "(LSmokeWord$Valley;)V" } : Jvm.MethodName)) ∈ lw_all := lw_g (lw_at lw_m2 225 rfl) rfl
theorem q593 : (Jvm.Cond.privateMethod ({ cls := "SmokeWord$Parser", name := "house", desc := "(LSmokeWord$Valley;)V" } : Jvm.MethodName)) ∈ lw_tbl := lw_at lw_m2 226 rfl
theorem q594 : (Jvm.Cond.instanceMethod ({ cls := "SmokeWord$Parser", name := "house", desc := "(LSmokeWord$Valley;)V" } : Jvm.MethodName)) ∈ lw_all := lw_g (lw_at lw_m2 227 rfl) rfl
theorem q595 : (Jvm.Cond.code ({ cls := "SmokeWord$Parser", name := "house", desc := "(LSmokeWord$Valley;)V" } : Jvm.MethodName) prog_10_method_17_code (4 : Nat) (Option.none : Option Jvm.ClassFile.FieldType)) ∈ lw_all := lw_g (lw_at lw_m2 228 rfl) rfl
theorem q596 : (Jvm.Cond.classLink "SmokeWord$Parser" (156 : Nat) "SmokeWord$House") ∈ lw_all := lw_g (lw_at lw_m2 229 rfl) rfl
theorem q598 : (Jvm.Cond.methodLinkNest "SmokeWord$Parser" (158 : Nat) ({ cls := "SmokeWord$House", name := "<init>", desc := "(III)V" } : Jvm.MethodName) "SmokeWord") ∈ lw_tbl := lw_at lw_m2 231 rfl
theorem q618 : (Jvm.Cond.methodLink "SmokeWord$Parser" (161 : Nat) ({ cls := "java/util/ArrayList", name := "add", desc := "(Ljava/lang/Object;)Z" } : Jvm.MethodName)) ∈ lw_all := lw_g (lw_at lw_m3 11 rfl) rfl
theorem q660 : (Jvm.Cond.selects "SmokeWord$Parser" ({ cls := "java/lang/Object", name := "getClass", desc := "()Ljava/lang/Class;" } : Jvm.MethodName) ({ cls := "java/lang/Object", name := "getClass", desc := "()Ljava/lang/Class;" } : Jvm.MethodName)) ∈ lw_all := lw_g (lw_at lw_m3 53 rfl) rfl
theorem q682 : (Jvm.Cond.stringRef "SmokeWord$Parser" (196 : Nat) "road") ∈ lw_tbl := lw_at lw_m3 75 rfl
theorem q683 : (Jvm.Cond.methodLink "SmokeWord$Parser" (198 : Nat) ({ cls := "SmokeWord$Parser", name := "road", desc := "(LSmokeWord$Valley;)V" } : Jvm.MethodName)) ∈ lw_all := lw_g (lw_at lw_m3 76 rfl) rfl
theorem q684 : (Jvm.Cond.privateMethod ({ cls := "SmokeWord$Parser", name := "road", desc := "(LSmokeWord$Valley;)V" } : Jvm.MethodName)) ∈ lw_tbl := lw_at lw_m3 77 rfl
theorem q685 : (Jvm.Cond.instanceMethod ({ cls := "SmokeWord$Parser", name := "road", desc := "(LSmokeWord$Valley;)V" } : Jvm.MethodName)) ∈ lw_all := lw_g (lw_at lw_m3 78 rfl) rfl
theorem q686 : (Jvm.Cond.code ({ cls := "SmokeWord$Parser", name := "road", desc := "(LSmokeWord$Valley;)V" } : Jvm.MethodName) prog_10_method_19_code (5 : Nat) (Option.none : Option Jvm.ClassFile.FieldType)) ∈ lw_all := lw_g (lw_at lw_m3 79 rfl) rfl
theorem q687 : (Jvm.Cond.methodLink "SmokeWord$Parser" (169 : Nat) ({ cls := "SmokeWord$Parser", name := "other", desc := "(II)I" } : Jvm.MethodName)) ∈ lw_all := lw_g (lw_at lw_m3 80 rfl) rfl
theorem q688 : (Jvm.Cond.privateMethod ({ cls := "SmokeWord$Parser", name := "other", desc := "(II)I" } : Jvm.MethodName)) ∈ lw_tbl := lw_at lw_m3 81 rfl
theorem q689 : (Jvm.Cond.instanceMethod ({ cls := "SmokeWord$Parser", name := "other", desc := "(II)I" } : Jvm.MethodName)) ∈ lw_all := lw_g (lw_at lw_m3 82 rfl) rfl
theorem q690 : (Jvm.Cond.code ({ cls := "SmokeWord$Parser", name := "other", desc := "(II)I" } : Jvm.MethodName) prog_10_method_18_code (5 : Nat) (Option.some Jvm.ClassFile.FieldType.int)) ∈ lw_all := lw_g (lw_at lw_m3 83 rfl) rfl
theorem q691 : (Jvm.Cond.stringRef "SmokeWord$Parser" (200 : Nat) "beside") ∈ lw_tbl := lw_at lw_m3 84 rfl
theorem q692 : (Jvm.Cond.methodLink "SmokeWord$Parser" (201 : Nat) ({ cls := "SmokeWord$Parser", name := "beside", desc := "(LSmokeWord$Valley;)V" } : Jvm.MethodName)) ∈ lw_all := lw_g (lw_at lw_m3 85 rfl) rfl
theorem q693 : (Jvm.Cond.privateMethod ({ cls := "SmokeWord$Parser", name := "beside", desc := "(LSmokeWord$Valley;)V" } : Jvm.MethodName)) ∈ lw_tbl := lw_at lw_m3 86 rfl
theorem q694 : (Jvm.Cond.instanceMethod ({ cls := "SmokeWord$Parser", name := "beside", desc := "(LSmokeWord$Valley;)V" } : Jvm.MethodName)) ∈ lw_all := lw_g (lw_at lw_m3 87 rfl) rfl
theorem q695 : (Jvm.Cond.code ({ cls := "SmokeWord$Parser", name := "beside", desc := "(LSmokeWord$Valley;)V" } : Jvm.MethodName) prog_10_method_20_code (4 : Nat) (Option.none : Option Jvm.ClassFile.FieldType)) ∈ lw_all := lw_g (lw_at lw_m3 88 rfl) rfl
theorem q696 : (Jvm.Cond.methodLink "SmokeWord$Parser" (221 : Nat) ({ cls := "SmokeWord$Parser", name := "goesOn", desc := "()Z" } : Jvm.MethodName)) ∈ lw_all := lw_g (lw_at lw_m3 89 rfl) rfl
theorem q697 : (Jvm.Cond.privateMethod ({ cls := "SmokeWord$Parser", name := "goesOn", desc := "()Z" } : Jvm.MethodName)) ∈ lw_tbl := lw_at lw_m3 90 rfl
theorem q698 : (Jvm.Cond.instanceMethod ({ cls := "SmokeWord$Parser", name := "goesOn", desc := "()Z" } : Jvm.MethodName)) ∈ lw_all := lw_g (lw_at lw_m3 91 rfl) rfl
theorem q699 : (Jvm.Cond.code ({ cls := "SmokeWord$Parser", name := "goesOn", desc := "()Z" } : Jvm.MethodName) prog_10_method_23_code (2 : Nat) (Option.some Jvm.ClassFile.FieldType.boolean)) ∈ lw_all := lw_g (lw_at lw_m3 92 rfl) rfl
theorem q700 : (Jvm.Cond.methodLink "SmokeWord$Parser" (224 : Nat) ({ cls := "SmokeWord$Valley", name := "ends", desc := "()V" } : Jvm.MethodName)) ∈ lw_all := lw_g (lw_at lw_m3 93 rfl) rfl
theorem q734 : (Jvm.Cond.instanceMethod ({ cls := "SmokeWord$Parser", name := "rule", desc := "()I" } : Jvm.MethodName)) ∈ lw_all := lw_g (lw_at lw_m3 127 rfl) rfl
theorem q735 : (Jvm.Cond.selects "SmokeWord$Parser" ({ cls := "SmokeWord$Parser", name := "rule", desc := "()I" } : Jvm.MethodName) ({ cls := "SmokeWord$Parser", name := "rule", desc := "()I" } : Jvm.MethodName)) ∈ lw_all := lw_g (lw_at lw_m3 128 rfl) rfl
theorem q736 : (Jvm.Cond.code ({ cls := "SmokeWord$Parser", name := "rule", desc := "()I" } : Jvm.MethodName) prog_10_method_25_code (2 : Nat) (Option.some Jvm.ClassFile.FieldType.int)) ∈ lw_all := lw_g (lw_at lw_m3 129 rfl) rfl
theorem q737 : (Jvm.Cond.classLink "SmokeWord$Parser" (206 : Nat) "SmokeWord$Rule") ∈ lw_all := lw_g (lw_at lw_m3 130 rfl) rfl
theorem q739 : (Jvm.Cond.methodLinkNest "SmokeWord$Parser" (227 : Nat) ({ cls := "SmokeWord$Rule", name := "<init>", desc := "()V" } : Jvm.MethodName) "SmokeWord") ∈ lw_tbl := lw_at lw_m3 132 rfl
theorem q746 : (Jvm.Cond.fieldLinkNest "SmokeWord$Parser" (205 : Nat) "SmokeWord$Rule" "all" "Ljava/util/ArrayList;" "SmokeWord") ∈ lw_tbl := lw_at lw_m3 139 rfl
theorem q750 : (Jvm.Cond.methodLink "SmokeWord$Parser" (228 : Nat) ({ cls := "SmokeWord$Parser", name := "clause", desc := "(LSmokeWord$Rule;)V" } : Jvm.MethodName)) ∈ lw_all := lw_g (lw_at lw_m3 143 rfl) rfl
theorem q751 : (Jvm.Cond.privateMethod ({ cls := "SmokeWord$Parser", name := "clause", desc := "(LSmokeWord$Rule;)V" } : Jvm.MethodName)) ∈ lw_tbl := lw_at lw_m3 144 rfl
theorem q752 : (Jvm.Cond.instanceMethod ({ cls := "SmokeWord$Parser", name := "clause", desc := "(LSmokeWord$Rule;)V" } : Jvm.MethodName)) ∈ lw_all := lw_g (lw_at lw_m3 145 rfl) rfl
theorem q753 : (Jvm.Cond.code ({ cls := "SmokeWord$Parser", name := "clause", desc := "(LSmokeWord$Rule;)V" } : Jvm.MethodName) prog_10_method_22_code (3 : Nat) (Option.none : Option Jvm.ClassFile.FieldType)) ∈ lw_all := lw_g (lw_at lw_m3 146 rfl) rfl
theorem q754 : (Jvm.Cond.stringRef "SmokeWord$Parser" (203 : Nat) "go") ∈ lw_tbl := lw_at lw_m3 147 rfl
theorem q755 : (Jvm.Cond.methodLink "SmokeWord$Parser" (124 : Nat) ({ cls := "SmokeWord$Parser", name := "sum", desc := "()LSmokeWord$Value;" } : Jvm.MethodName)) ∈ lw_all := lw_g (lw_at lw_m3 148 rfl) rfl
theorem q756 : (Jvm.Cond.privateMethod ({ cls := "SmokeWord$Parser", name := "sum", desc := "()LSmokeWord$Value;" } : Jvm.MethodName)) ∈ lw_tbl := lw_at lw_m3 149 rfl
theorem q757 : (Jvm.Cond.instanceMethod ({ cls := "SmokeWord$Parser", name := "sum", desc := "()LSmokeWord$Value;" } : Jvm.MethodName)) ∈ lw_all := lw_g (lw_at lw_m3 150 rfl) rfl
theorem q758 : (Jvm.Cond.code ({ cls := "SmokeWord$Parser", name := "sum", desc := "()LSmokeWord$Value;" } : Jvm.MethodName) prog_10_method_12_code (3 : Nat) (Option.some (Jvm.ClassFile.FieldType.object "SmokeWord$Value"))) ∈ lw_all := lw_g (lw_at lw_m3 151 rfl) rfl
theorem q759 : (Jvm.Cond.methodLink "SmokeWord$Parser" (104 : Nat) ({ cls := "SmokeWord$Parser", name := "term", desc := "()LSmokeWord$Value;" } : Jvm.MethodName)) ∈ lw_all := lw_g (lw_at lw_m3 152 rfl) rfl
theorem q760 : (Jvm.Cond.privateMethod ({ cls := "SmokeWord$Parser", name := "term", desc := "()LSmokeWord$Value;" } : Jvm.MethodName)) ∈ lw_tbl := lw_at lw_m3 153 rfl
theorem q761 : (Jvm.Cond.instanceMethod ({ cls := "SmokeWord$Parser", name := "term", desc := "()LSmokeWord$Value;" } : Jvm.MethodName)) ∈ lw_all := lw_g (lw_at lw_m3 154 rfl) rfl
theorem q762 : (Jvm.Cond.code ({ cls := "SmokeWord$Parser", name := "term", desc := "()LSmokeWord$Value;" } : Jvm.MethodName) prog_10_method_11_code (3 : Nat) (Option.some (Jvm.ClassFile.FieldType.object "SmokeWord$Value"))) ∈ lw_all := lw_g (lw_at lw_m3 155 rfl) rfl
theorem q763 : (Jvm.Cond.methodLink "SmokeWord$Parser" (95 : Nat) ({ cls := "SmokeWord$Parser", name := "value", desc := "()LSmokeWord$Value;" } : Jvm.MethodName)) ∈ lw_all := lw_g (lw_at lw_m3 156 rfl) rfl
theorem q764 : (Jvm.Cond.privateMethod ({ cls := "SmokeWord$Parser", name := "value", desc := "()LSmokeWord$Value;" } : Jvm.MethodName)) ∈ lw_tbl := lw_at lw_m3 157 rfl
theorem q765 : (Jvm.Cond.instanceMethod ({ cls := "SmokeWord$Parser", name := "value", desc := "()LSmokeWord$Value;" } : Jvm.MethodName)) ∈ lw_all := lw_g (lw_at lw_m3 158 rfl) rfl
theorem q766 : (Jvm.Cond.code ({ cls := "SmokeWord$Parser", name := "value", desc := "()LSmokeWord$Value;" } : Jvm.MethodName) prog_10_method_10_code (3 : Nat) (Option.some (Jvm.ClassFile.FieldType.object "SmokeWord$Value"))) ∈ lw_all := lw_g (lw_at lw_m3 159 rfl) rfl
theorem q767 : (Jvm.Cond.classLink "SmokeWord$Parser" (79 : Nat) "SmokeWord$Plain") ∈ lw_all := lw_g (lw_at lw_m3 160 rfl) rfl
theorem q769 : (Jvm.Cond.constant "SmokeWord$Parser" (81 : Nat) (99999 : Int32)) ∈ lw_all := lw_g (lw_at lw_m3 162 rfl) rfl
theorem q770 : (Jvm.Cond.methodLink "SmokeWord$Parser" (86 : Nat) ({ cls := "SmokeWord$Plain", name := "<init>", desc := "(I)V" } : Jvm.MethodName)) ∈ lw_all := lw_g (lw_at lw_m3 163 rfl) rfl
theorem q781 : (Jvm.Cond.methodLink "SmokeWord$Parser" (89 : Nat) ({ cls := "SmokeWord$Parser", name := "counts", desc := "(I)V" } : Jvm.MethodName)) ∈ lw_all := lw_g (lw_at lw_m3 174 rfl) rfl
theorem q782 : (Jvm.Cond.privateMethod ({ cls := "SmokeWord$Parser", name := "counts", desc := "(I)V" } : Jvm.MethodName)) ∈ lw_tbl := lw_at lw_m3 175 rfl
theorem q783 : (Jvm.Cond.instanceMethod ({ cls := "SmokeWord$Parser", name := "counts", desc := "(I)V" } : Jvm.MethodName)) ∈ lw_all := lw_g (lw_at lw_m3 176 rfl) rfl
theorem q784 : (Jvm.Cond.code ({ cls := "SmokeWord$Parser", name := "counts", desc := "(I)V" } : Jvm.MethodName) prog_10_method_8_code (2 : Nat) (Option.none : Option Jvm.ClassFile.FieldType)) ∈ lw_all := lw_g (lw_at lw_m3 177 rfl) rfl
theorem q785 : (Jvm.Cond.classLink "SmokeWord$Parser" (92 : Nat) "SmokeWord$Asked") ∈ lw_all := lw_g (lw_at lw_m3 178 rfl) rfl
theorem q787 : (Jvm.Cond.methodLink "SmokeWord$Parser" (94 : Nat) ({ cls := "SmokeWord$Asked", name := "<init>", desc := "(I)V" } : Jvm.MethodName)) ∈ lw_all := lw_g (lw_at lw_m3 180 rfl) rfl
theorem q795 : (Jvm.Cond.classLink "SmokeWord$Parser" (99 : Nat) "SmokeWord$Joined") ∈ lw_all := lw_g (lw_at lw_m3 188 rfl) rfl
theorem q797 : (Jvm.Cond.methodLink "SmokeWord$Parser" (101 : Nat) ({ cls := "SmokeWord$Joined", name := "<init>", desc := "(LSmokeWord$Value;LSmokeWord$Value;I)V" } : Jvm.MethodName)) ∈ lw_all := lw_g (lw_at lw_m3 190 rfl) rfl
theorem q811 : (Jvm.Cond.classLink "SmokeWord$Parser" (210 : Nat) "SmokeWord$Told") ∈ lw_all := lw_g (lw_at lw_m3 204 rfl) rfl
theorem q813 : (Jvm.Cond.stringRef "SmokeWord$Parser" (212 : Nat) "if") ∈ lw_tbl := lw_at lw_m3 206 rfl
theorem q814 : (Jvm.Cond.methodLink "SmokeWord$Parser" (134 : Nat) ({ cls := "SmokeWord$Parser", name := "takes", desc := "(Ljava/lang/String;)Z" } : Jvm.MethodName)) ∈ lw_all := lw_g (lw_at lw_m3 207 rfl) rfl
theorem q815 : (Jvm.Cond.privateMethod ({ cls := "SmokeWord$Parser", name := "takes", desc := "(Ljava/lang/String;)Z" } : Jvm.MethodName)) ∈ lw_tbl := lw_at lw_m3 208 rfl
theorem q816 : (Jvm.Cond.instanceMethod ({ cls := "SmokeWord$Parser", name := "takes", desc := "(Ljava/lang/String;)Z" } : Jvm.MethodName)) ∈ lw_all := lw_g (lw_at lw_m3 209 rfl) rfl
theorem q817 : (Jvm.Cond.code ({ cls := "SmokeWord$Parser", name := "takes", desc := "(Ljava/lang/String;)Z" } : Jvm.MethodName) prog_10_method_6_code (3 : Nat) (Option.some Jvm.ClassFile.FieldType.boolean)) ∈ lw_all := lw_g (lw_at lw_m3 210 rfl) rfl
theorem q818 : (Jvm.Cond.methodLink "SmokeWord$Parser" (121 : Nat) ({ cls := "SmokeWord$Parser", name := "test", desc := "()LSmokeWord$Condition;" } : Jvm.MethodName)) ∈ lw_all := lw_g (lw_at lw_m3 211 rfl) rfl
theorem q819 : (Jvm.Cond.privateMethod ({ cls := "SmokeWord$Parser", name := "test", desc := "()LSmokeWord$Condition;" } : Jvm.MethodName)) ∈ lw_tbl := lw_at lw_m3 212 rfl
theorem q820 : (Jvm.Cond.instanceMethod ({ cls := "SmokeWord$Parser", name := "test", desc := "()LSmokeWord$Condition;" } : Jvm.MethodName)) ∈ lw_all := lw_g (lw_at lw_m3 213 rfl) rfl
theorem q821 : (Jvm.Cond.code ({ cls := "SmokeWord$Parser", name := "test", desc := "()LSmokeWord$Condition;" } : Jvm.MethodName) prog_10_method_15_code (2 : Nat) (Option.some (Jvm.ClassFile.FieldType.object "SmokeWord$Condition"))) ∈ lw_all := lw_g (lw_at lw_m3 214 rfl) rfl
theorem q822 : (Jvm.Cond.methodLink "SmokeWord$Parser" (142 : Nat) ({ cls := "SmokeWord$Parser", name := "part", desc := "()LSmokeWord$Condition;" } : Jvm.MethodName)) ∈ lw_all := lw_g (lw_at lw_m3 215 rfl) rfl
theorem q823 : (Jvm.Cond.privateMethod ({ cls := "SmokeWord$Parser", name := "part", desc := "()LSmokeWord$Condition;" } : Jvm.MethodName)) ∈ lw_tbl := lw_at lw_m3 216 rfl
theorem q824 : (Jvm.Cond.instanceMethod ({ cls := "SmokeWord$Parser", name := "part", desc := "()LSmokeWord$Condition;" } : Jvm.MethodName)) ∈ lw_all := lw_g (lw_at lw_m3 217 rfl) rfl
theorem q825 : (Jvm.Cond.code ({ cls := "SmokeWord$Parser", name := "part", desc := "()LSmokeWord$Condition;" } : Jvm.MethodName) prog_10_method_14_code (2 : Nat) (Option.some (Jvm.ClassFile.FieldType.object "SmokeWord$Condition"))) ∈ lw_all := lw_g (lw_at lw_m3 218 rfl) rfl
theorem q826 : (Jvm.Cond.methodLink "SmokeWord$Parser" (114 : Nat) ({ cls := "SmokeWord$Parser", name := "fact", desc := "()LSmokeWord$Condition;" } : Jvm.MethodName)) ∈ lw_all := lw_g (lw_at lw_m3 219 rfl) rfl
theorem q827 : (Jvm.Cond.privateMethod ({ cls := "SmokeWord$Parser", name := "fact", desc := "()LSmokeWord$Condition;" } : Jvm.MethodName)) ∈ lw_tbl := lw_at lw_m3 220 rfl
theorem q828 : (Jvm.Cond.instanceMethod ({ cls := "SmokeWord$Parser", name := "fact", desc := "()LSmokeWord$Condition;" } : Jvm.MethodName)) ∈ lw_all := lw_g (lw_at lw_m3 221 rfl) rfl
theorem q829 : (Jvm.Cond.code ({ cls := "SmokeWord$Parser", name := "fact", desc := "()LSmokeWord$Condition;" } : Jvm.MethodName) prog_10_method_13_code (5 : Nat) (Option.some (Jvm.ClassFile.FieldType.object "SmokeWord$Condition"))) ∈ lw_all := lw_g (lw_at lw_m3 222 rfl) rfl
theorem q830 : (Jvm.Cond.stringRef "SmokeWord$Parser" (107 : Nat) "not") ∈ lw_tbl := lw_at lw_m3 223 rfl
theorem q831 : (Jvm.Cond.methodLink "SmokeWord$Parser" (109 : Nat) ({ cls := "SmokeWord$Parser", name := "goesDeeper", desc := "(I)V" } : Jvm.MethodName)) ∈ lw_all := lw_g (lw_at lw_m3 224 rfl) rfl
theorem q832 : (Jvm.Cond.privateMethod ({ cls := "SmokeWord$Parser", name := "goesDeeper", desc := "(I)V" } : Jvm.MethodName)) ∈ lw_tbl := lw_at lw_m3 225 rfl
theorem q833 : (Jvm.Cond.instanceMethod ({ cls := "SmokeWord$Parser", name := "goesDeeper", desc := "(I)V" } : Jvm.MethodName)) ∈ lw_all := lw_g (lw_at lw_m3 226 rfl) rfl
theorem q834 : (Jvm.Cond.code ({ cls := "SmokeWord$Parser", name := "goesDeeper", desc := "(I)V" } : Jvm.MethodName) prog_10_method_9_code (2 : Nat) (Option.none : Option Jvm.ClassFile.FieldType)) ∈ lw_all := lw_g (lw_at lw_m3 227 rfl) rfl
theorem q835 : (Jvm.Cond.classLink "SmokeWord$Parser" (112 : Nat) "SmokeWord$Not") ∈ lw_all := lw_g (lw_at lw_m3 228 rfl) rfl
theorem q837 : (Jvm.Cond.methodLink "SmokeWord$Parser" (118 : Nat) ({ cls := "SmokeWord$Not", name := "<init>", desc := "(LSmokeWord$Condition;)V" } : Jvm.MethodName)) ∈ lw_all := lw_g (lw_at lw_m3 230 rfl) rfl
theorem q848 : (Jvm.Cond.classLink "SmokeWord$Parser" (127 : Nat) "SmokeWord$Compared") ∈ lw_all := lw_g (lw_at lw_m4 1 rfl) rfl
theorem q850 : (Jvm.Cond.methodLink "SmokeWord$Parser" (129 : Nat) ({ cls := "SmokeWord$Compared", name := "<init>", desc := "(LSmokeWord$Value;LSmokeWord$Value;IZ)V" } : Jvm.MethodName)) ∈ lw_all := lw_g (lw_at lw_m4 3 rfl) rfl
theorem q867 : (Jvm.Cond.stringRef "SmokeWord$Parser" (132 : Nat) "and") ∈ lw_tbl := lw_at lw_m4 20 rfl
theorem q868 : (Jvm.Cond.classLink "SmokeWord$Parser" (137 : Nat) "SmokeWord$Both") ∈ lw_all := lw_g (lw_at lw_m4 21 rfl) rfl
theorem q870 : (Jvm.Cond.methodLink "SmokeWord$Parser" (139 : Nat) ({ cls := "SmokeWord$Both", name := "<init>", desc := "(LSmokeWord$Condition;LSmokeWord$Condition;Z)V" } : Jvm.MethodName)) ∈ lw_all := lw_g (lw_at lw_m4 23 rfl) rfl
theorem q884 : (Jvm.Cond.stringRef "SmokeWord$Parser" (145 : Nat) "or") ∈ lw_tbl := lw_at lw_m4 37 rfl
theorem q885 : (Jvm.Cond.methodLinkNest "SmokeWord$Parser" (214 : Nat) ({ cls := "SmokeWord$Told", name := "<init>", desc := "(LSmokeWord$Value;LSmokeWord$Condition;)V" } : Jvm.MethodName) "SmokeWord") ∈ lw_tbl := lw_at lw_m4 38 rfl
theorem q897 : (Jvm.Cond.methodLink "SmokeWord$Parser" (234 : Nat) ({ cls := "java/util/ArrayList", name := "size", desc := "()I" } : Jvm.MethodName)) ∈ lw_all := lw_g (lw_at lw_m4 50 rfl) rfl
theorem q1895 : (Jvm.Cond.castable "SmokeWord$Parser" "java/lang/Object") ∈ lw_tbl := lw_at lw_m8 88 rfl
theorem in_X5 : ∀ w ∈ wsX50, w ∈ lw_all := lw_in wsX50 [474, 476, 478, 480, 482, 484, 486] (by decide +kernel) (by decide +kernel)
/-! SmokeWord$House -/
set_option maxRecDepth 100000
def RX6 : String := "SmokeWord$House"
def TX6 : u_T := fun k => match k with
  | 0 => ("SmokeWord$House", "worth", "I", true)
  | 1 => ("SmokeWord$House", "heat", "I", true)
  | _ => ("SmokeWord$House", "says", "I", true)
def tyX6 : Nat → FieldType := fun k => match k with
  | 0 => .int
  | 1 => .int
  | _ => .int
abbrev wsX60 : List Cond := u_ws RX6 TX6 3
theorem nmX6 : ∀ a, a < 3 → ∀ b, b < 3 → a ≠ b → (TX6 a).2.1 ≠ (TX6 b).2.1 := by decide +kernel
theorem tyX6_ok : ∀ k, k < 3 → parseFieldDescriptor (TX6 k).2.2.1 = some (tyX6 k) := by decide +kernel
abbrev cX6_init : ByteArray := prog_6_method_1_code
def yX6_init : MethodName := ⟨RX6, "<init>", "(III)V"⟩
def dkwX6_init_0 : List UInt8 := [42, 183, 0, 1, 42, 27, 181, 0, 7, 42, 28, 181, 0, 13, 42, 29, 181, 0, 16, 177]
abbrev dktX6_init_0 : List UInt8 := dkwX6_init_0 ++ []
theorem dksX6_init_0 : cX6_init.data.toList.drop 0 = dktX6_init_0 := by decide +kernel
theorem dX6_init_0 : decode cX6_init 0 = .ok (.aload_n 0, 1) := dk_42 (dk_at dksX6_init_0 0 rfl rfl)
theorem dX6_init_1 : decode cX6_init 1 = .ok (.invokespecial 1, 3) := dk_183 0 1 (dk_at dksX6_init_0 1 rfl rfl)
theorem dX6_init_4 : decode cX6_init 4 = .ok (.aload_n 0, 1) := dk_42 (dk_at dksX6_init_0 4 rfl rfl)
theorem dX6_init_5 : decode cX6_init 5 = .ok (.iload_n 1, 1) := dk_27 (dk_at dksX6_init_0 5 rfl rfl)
theorem dX6_init_6 : decode cX6_init 6 = .ok (.putfield 7, 3) := dk_181 0 7 (dk_at dksX6_init_0 6 rfl rfl)
theorem dX6_init_9 : decode cX6_init 9 = .ok (.aload_n 0, 1) := dk_42 (dk_at dksX6_init_0 9 rfl rfl)
theorem dX6_init_10 : decode cX6_init 10 = .ok (.iload_n 2, 1) := dk_28 (dk_at dksX6_init_0 10 rfl rfl)
theorem dX6_init_11 : decode cX6_init 11 = .ok (.putfield 13, 3) := dk_181 0 13 (dk_at dksX6_init_0 11 rfl rfl)
theorem dX6_init_14 : decode cX6_init 14 = .ok (.aload_n 0, 1) := dk_42 (dk_at dksX6_init_0 14 rfl rfl)
theorem dX6_init_15 : decode cX6_init 15 = .ok (.iload_n 3, 1) := dk_29 (dk_at dksX6_init_0 15 rfl rfl)
theorem dX6_init_16 : decode cX6_init 16 = .ok (.putfield 16, 3) := dk_181 0 16 (dk_at dksX6_init_0 16 rfl rfl)
theorem dX6_init_19 : decode cX6_init 19 = .ok (.return_, 1) := dk_177 (dk_at dksX6_init_0 19 rfl rfl)
theorem q144 : (Jvm.Cond.initialized "SmokeWord$House") ∈ lw_all := lw_g (lw_at lw_m1 17 rfl) rfl
theorem q597 : (Jvm.Cond.instantiable "SmokeWord$House" (3 : Nat)) ∈ lw_all := lw_g (lw_at lw_m2 230 rfl) rfl
theorem q599 : (Jvm.Cond.instanceMethod ({ cls := "SmokeWord$House", name := "<init>", desc := "(III)V" } : Jvm.MethodName)) ∈ lw_all := lw_g (lw_at lw_m2 232 rfl) rfl
theorem q600 : (Jvm.Cond.code ({ cls := "SmokeWord$House", name := "<init>", desc := "(III)V" } : Jvm.MethodName) prog_6_method_1_code (4 : Nat) (Option.none : Option Jvm.ClassFile.FieldType)) ∈ lw_all := lw_g (lw_at lw_m2 233 rfl) rfl
theorem q601 : (Jvm.Cond.methodLink "SmokeWord$House" (1 : Nat) ({ cls := "java/lang/Record", name := "<init>", desc := "()V" } : Jvm.MethodName)) ∈ lw_all := lw_g (lw_at lw_m2 234 rfl) rfl
theorem q605 : (Jvm.Cond.fieldLink "SmokeWord$House" (7 : Nat) "SmokeWord$House" "worth" "I") ∈ lw_all := lw_g (lw_at lw_m2 238 rfl) rfl
theorem q607 : (Jvm.Cond.fieldLink "SmokeWord$House" (13 : Nat) "SmokeWord$House" "heat" "I") ∈ lw_all := lw_g (lw_at lw_m3 0 rfl) rfl
theorem q609 : (Jvm.Cond.fieldLink "SmokeWord$House" (16 : Nat) "SmokeWord$House" "says" "I") ∈ lw_all := lw_g (lw_at lw_m3 2 rfl) rfl
theorem q611 : (Jvm.Cond.laysFinal "SmokeWord$House" "SmokeWord$House" "worth" "I") ∈ lw_all := lw_g (lw_at lw_m3 4 rfl) rfl
theorem q612 : (Jvm.Cond.soleField "SmokeWord$House" "worth") ∈ lw_all := lw_g (lw_at lw_m3 5 rfl) rfl
theorem q613 : (Jvm.Cond.laysFinal "SmokeWord$House" "SmokeWord$House" "heat" "I") ∈ lw_all := lw_g (lw_at lw_m3 6 rfl) rfl
theorem q614 : (Jvm.Cond.soleField "SmokeWord$House" "heat") ∈ lw_all := lw_g (lw_at lw_m3 7 rfl) rfl
theorem q615 : (Jvm.Cond.laysFinal "SmokeWord$House" "SmokeWord$House" "says" "I") ∈ lw_all := lw_g (lw_at lw_m3 8 rfl) rfl
theorem q616 : (Jvm.Cond.soleField "SmokeWord$House" "says") ∈ lw_all := lw_g (lw_at lw_m3 9 rfl) rfl
theorem q617 : (Jvm.Cond.superclass "SmokeWord$House" "java/lang/Record") ∈ lw_all := lw_g (lw_at lw_m3 10 rfl) rfl
theorem q656 : (Jvm.Cond.selects "SmokeWord$House" ({ cls := "java/lang/Object", name := "getClass", desc := "()Ljava/lang/Class;" } : Jvm.MethodName) ({ cls := "java/lang/Object", name := "getClass", desc := "()Ljava/lang/Class;" } : Jvm.MethodName)) ∈ lw_all := lw_g (lw_at lw_m3 49 rfl) rfl
theorem q1896 : (Jvm.Cond.castable "SmokeWord$House" "java/lang/Object") ∈ lw_tbl := lw_at lw_m8 89 rfl
theorem in_X6 : ∀ w ∈ wsX60, w ∈ lw_all := lw_in wsX60 [611, 613, 615] (by decide +kernel) (by decide +kernel)
/-! SmokeWord$Rule -/
set_option maxRecDepth 100000
def RX7 : String := "SmokeWord$Rule"
def TX7 : u_T := fun k => match k with
  | _ => ("SmokeWord$Rule", "all", "Ljava/util/ArrayList;", true)
def tyX7 : Nat → FieldType := fun k => match k with
  | _ => .object "java/util/ArrayList"
abbrev wsX70 : List Cond := u_ws RX7 TX7 1
theorem nmX7 : ∀ a, a < 1 → ∀ b, b < 1 → a ≠ b → (TX7 a).2.1 ≠ (TX7 b).2.1 := by decide +kernel
theorem tyX7_ok : ∀ k, k < 1 → parseFieldDescriptor (TX7 k).2.2.1 = some (tyX7 k) := by decide +kernel
abbrev cX7_init : ByteArray := prog_12_method_1_code
def yX7_init : MethodName := ⟨RX7, "<init>", "()V"⟩
def dkwX7_init_0 : List UInt8 := [42, 183, 0, 1, 42, 187, 0, 7, 89, 5, 183, 0, 9, 181, 0, 12, 177]
abbrev dktX7_init_0 : List UInt8 := dkwX7_init_0 ++ []
theorem dksX7_init_0 : cX7_init.data.toList.drop 0 = dktX7_init_0 := by decide +kernel
theorem dX7_init_0 : decode cX7_init 0 = .ok (.aload_n 0, 1) := dk_42 (dk_at dksX7_init_0 0 rfl rfl)
theorem dX7_init_1 : decode cX7_init 1 = .ok (.invokespecial 1, 3) := dk_183 0 1 (dk_at dksX7_init_0 1 rfl rfl)
theorem dX7_init_4 : decode cX7_init 4 = .ok (.aload_n 0, 1) := dk_42 (dk_at dksX7_init_0 4 rfl rfl)
theorem dX7_init_5 : decode cX7_init 5 = .ok (.new 7, 3) := dk_187 0 7 (dk_at dksX7_init_0 5 rfl rfl)
theorem dX7_init_8 : decode cX7_init 8 = .ok (.dup, 1) := dk_89 (dk_at dksX7_init_0 8 rfl rfl)
theorem dX7_init_9 : decode cX7_init 9 = .ok (.iconst 2, 1) := dk_5 (dk_at dksX7_init_0 9 rfl rfl)
theorem dX7_init_10 : decode cX7_init 10 = .ok (.invokespecial 9, 3) := dk_183 0 9 (dk_at dksX7_init_0 10 rfl rfl)
theorem dX7_init_13 : decode cX7_init 13 = .ok (.putfield 12, 3) := dk_181 0 12 (dk_at dksX7_init_0 13 rfl rfl)
theorem dX7_init_16 : decode cX7_init 16 = .ok (.return_, 1) := dk_177 (dk_at dksX7_init_0 16 rfl rfl)
abbrev cX7_wants : ByteArray := prog_12_method_2_code
def yX7_wants : MethodName := ⟨RX7, "wants", "([J)J"⟩
def dkwX7_wants_2 : List UInt8 := [182, 0, 36, 173, 132, 2, 1, 167, 255, 205, 9, 173]
abbrev dktX7_wants_2 : List UInt8 := dkwX7_wants_2 ++ []
def dkwX7_wants_1 : List UInt8 := [43, 182, 0, 28, 153, 0, 22, 42, 180, 0, 12, 28, 182, 0, 22, 192, 0, 26, 180, 0, 32, 43]
abbrev dktX7_wants_1 : List UInt8 := dkwX7_wants_1 ++ dktX7_wants_2
def dkwX7_wants_0 : List UInt8 := [3, 61, 28, 42, 180, 0, 12, 182, 0, 18, 162, 0, 46, 42, 180, 0, 12, 28, 182, 0, 22, 192, 0, 26]
abbrev dktX7_wants_0 : List UInt8 := dkwX7_wants_0 ++ dktX7_wants_1
theorem dksX7_wants_0 : cX7_wants.data.toList.drop 0 = dktX7_wants_0 := by decide +kernel
theorem dksX7_wants_1 : cX7_wants.data.toList.drop 24 = dktX7_wants_1 := dk_seg dksX7_wants_0 24 rfl rfl
theorem dksX7_wants_2 : cX7_wants.data.toList.drop 46 = dktX7_wants_2 := dk_seg dksX7_wants_1 22 rfl rfl
theorem dX7_wants_0 : decode cX7_wants 0 = .ok (.iconst 0, 1) := dk_3 (dk_at dksX7_wants_0 0 rfl rfl)
theorem dX7_wants_1 : decode cX7_wants 1 = .ok (.istore_n 2, 1) := dk_61 (dk_at dksX7_wants_0 1 rfl rfl)
theorem dX7_wants_2 : decode cX7_wants 2 = .ok (.iload_n 2, 1) := dk_28 (dk_at dksX7_wants_0 2 rfl rfl)
theorem dX7_wants_3 : decode cX7_wants 3 = .ok (.aload_n 0, 1) := dk_42 (dk_at dksX7_wants_0 3 rfl rfl)
theorem dX7_wants_4 : decode cX7_wants 4 = .ok (.getfield 12, 3) := dk_180 0 12 (dk_at dksX7_wants_0 4 rfl rfl)
theorem dX7_wants_7 : decode cX7_wants 7 = .ok (.invokevirtual 18, 3) := dk_182 0 18 (dk_at dksX7_wants_0 7 rfl rfl)
theorem dX7_wants_10 : decode cX7_wants 10 = .ok (.if_icmp .ge 46, 3) := dk_162 0 46 (dk_at dksX7_wants_0 10 rfl rfl)
theorem dX7_wants_13 : decode cX7_wants 13 = .ok (.aload_n 0, 1) := dk_42 (dk_at dksX7_wants_0 13 rfl rfl)
theorem dX7_wants_14 : decode cX7_wants 14 = .ok (.getfield 12, 3) := dk_180 0 12 (dk_at dksX7_wants_0 14 rfl rfl)
theorem dX7_wants_17 : decode cX7_wants 17 = .ok (.iload_n 2, 1) := dk_28 (dk_at dksX7_wants_0 17 rfl rfl)
theorem dX7_wants_18 : decode cX7_wants 18 = .ok (.invokevirtual 22, 3) := dk_182 0 22 (dk_at dksX7_wants_0 18 rfl rfl)
theorem dX7_wants_21 : decode cX7_wants 21 = .ok (.checkcast 26, 3) := dk_192 0 26 (dk_at dksX7_wants_0 21 rfl rfl)
theorem dX7_wants_24 : decode cX7_wants 24 = .ok (.aload_n 1, 1) := dk_43 (dk_at dksX7_wants_1 0 rfl rfl)
theorem dX7_wants_25 : decode cX7_wants 25 = .ok (.invokevirtual 28, 3) := dk_182 0 28 (dk_at dksX7_wants_1 1 rfl rfl)
theorem dX7_wants_28 : decode cX7_wants 28 = .ok (.ifCond .eq 22, 3) := dk_153 0 22 (dk_at dksX7_wants_1 4 rfl rfl)
theorem dX7_wants_31 : decode cX7_wants 31 = .ok (.aload_n 0, 1) := dk_42 (dk_at dksX7_wants_1 7 rfl rfl)
theorem dX7_wants_32 : decode cX7_wants 32 = .ok (.getfield 12, 3) := dk_180 0 12 (dk_at dksX7_wants_1 8 rfl rfl)
theorem dX7_wants_35 : decode cX7_wants 35 = .ok (.iload_n 2, 1) := dk_28 (dk_at dksX7_wants_1 11 rfl rfl)
theorem dX7_wants_36 : decode cX7_wants 36 = .ok (.invokevirtual 22, 3) := dk_182 0 22 (dk_at dksX7_wants_1 12 rfl rfl)
theorem dX7_wants_39 : decode cX7_wants 39 = .ok (.checkcast 26, 3) := dk_192 0 26 (dk_at dksX7_wants_1 15 rfl rfl)
theorem dX7_wants_42 : decode cX7_wants 42 = .ok (.getfield 32, 3) := dk_180 0 32 (dk_at dksX7_wants_1 18 rfl rfl)
theorem dX7_wants_45 : decode cX7_wants 45 = .ok (.aload_n 1, 1) := dk_43 (dk_at dksX7_wants_1 21 rfl rfl)
theorem dX7_wants_46 : decode cX7_wants 46 = .ok (.invokevirtual 36, 3) := dk_182 0 36 (dk_at dksX7_wants_2 0 rfl rfl)
theorem dX7_wants_49 : decode cX7_wants 49 = .ok (.lreturn, 1) := dk_173 (dk_at dksX7_wants_2 3 rfl rfl)
theorem dX7_wants_50 : decode cX7_wants 50 = .ok (.iinc 2 1, 3) := dk_132 2 1 (dk_at dksX7_wants_2 4 rfl rfl)
theorem dX7_wants_53 : decode cX7_wants 53 = .ok (.goto (-51), 3) := dk_167 255 205 (dk_at dksX7_wants_2 7 rfl rfl)
theorem dX7_wants_56 : decode cX7_wants 56 = .ok (.lconst 0, 1) := dk_9 (dk_at dksX7_wants_2 10 rfl rfl)
theorem dX7_wants_57 : decode cX7_wants 57 = .ok (.lreturn, 1) := dk_173 (dk_at dksX7_wants_2 11 rfl rfl)
theorem q150 : (Jvm.Cond.initialized "SmokeWord$Rule") ∈ lw_all := lw_g (lw_at lw_m1 23 rfl) rfl
theorem q662 : (Jvm.Cond.selects "SmokeWord$Rule" ({ cls := "java/lang/Object", name := "getClass", desc := "()Ljava/lang/Class;" } : Jvm.MethodName) ({ cls := "java/lang/Object", name := "getClass", desc := "()Ljava/lang/Class;" } : Jvm.MethodName)) ∈ lw_all := lw_g (lw_at lw_m3 55 rfl) rfl
theorem q738 : (Jvm.Cond.instantiable "SmokeWord$Rule" (1 : Nat)) ∈ lw_all := lw_g (lw_at lw_m3 131 rfl) rfl
theorem q740 : (Jvm.Cond.instanceMethod ({ cls := "SmokeWord$Rule", name := "<init>", desc := "()V" } : Jvm.MethodName)) ∈ lw_all := lw_g (lw_at lw_m3 133 rfl) rfl
theorem q741 : (Jvm.Cond.code ({ cls := "SmokeWord$Rule", name := "<init>", desc := "()V" } : Jvm.MethodName) prog_12_method_1_code (1 : Nat) (Option.none : Option Jvm.ClassFile.FieldType)) ∈ lw_all := lw_g (lw_at lw_m3 134 rfl) rfl
theorem q742 : (Jvm.Cond.methodLink "SmokeWord$Rule" (1 : Nat) ({ cls := "java/lang/Object", name := "<init>", desc := "()V" } : Jvm.MethodName)) ∈ lw_all := lw_g (lw_at lw_m3 135 rfl) rfl
theorem q743 : (Jvm.Cond.classLink "SmokeWord$Rule" (7 : Nat) "java/util/ArrayList") ∈ lw_all := lw_g (lw_at lw_m3 136 rfl) rfl
theorem q744 : (Jvm.Cond.methodLink "SmokeWord$Rule" (9 : Nat) ({ cls := "java/util/ArrayList", name := "<init>", desc := "(I)V" } : Jvm.MethodName)) ∈ lw_all := lw_g (lw_at lw_m3 137 rfl) rfl
theorem q745 : (Jvm.Cond.fieldLink "SmokeWord$Rule" (12 : Nat) "SmokeWord$Rule" "all" "Ljava/util/ArrayList;") ∈ lw_all := lw_g (lw_at lw_m3 138 rfl) rfl
theorem q747 : (Jvm.Cond.laysFinal "SmokeWord$Rule" "SmokeWord$Rule" "all" "Ljava/util/ArrayList;") ∈ lw_all := lw_g (lw_at lw_m3 140 rfl) rfl
theorem q748 : (Jvm.Cond.soleField "SmokeWord$Rule" "all") ∈ lw_all := lw_g (lw_at lw_m3 141 rfl) rfl
theorem q749 : (Jvm.Cond.superclass "SmokeWord$Rule" "java/lang/Object") ∈ lw_all := lw_g (lw_at lw_m3 142 rfl) rfl
theorem q890 : (Jvm.Cond.fieldLinkNest "SmokeWord$Rule" (32 : Nat) "SmokeWord$Told" "sum" "LSmokeWord$Value;" "SmokeWord") ∈ lw_tbl := lw_at lw_m4 43 rfl
theorem q999 : (Jvm.Cond.instanceMethod ({ cls := "SmokeWord$Rule", name := "wants", desc := "([J)J" } : Jvm.MethodName)) ∈ lw_all := lw_g (lw_at lw_m4 152 rfl) rfl
theorem q1000 : (Jvm.Cond.selects "SmokeWord$Rule" ({ cls := "SmokeWord$Rule", name := "wants", desc := "([J)J" } : Jvm.MethodName) ({ cls := "SmokeWord$Rule", name := "wants", desc := "([J)J" } : Jvm.MethodName)) ∈ lw_all := lw_g (lw_at lw_m4 153 rfl) rfl
theorem q1001 : (Jvm.Cond.code ({ cls := "SmokeWord$Rule", name := "wants", desc := "([J)J" } : Jvm.MethodName) prog_12_method_2_code (3 : Nat) (Option.some Jvm.ClassFile.FieldType.long)) ∈ lw_all := lw_g (lw_at lw_m4 154 rfl) rfl
theorem q1002 : (Jvm.Cond.methodLink "SmokeWord$Rule" (18 : Nat) ({ cls := "java/util/ArrayList", name := "size", desc := "()I" } : Jvm.MethodName)) ∈ lw_all := lw_g (lw_at lw_m4 155 rfl) rfl
theorem q1003 : (Jvm.Cond.methodLink "SmokeWord$Rule" (22 : Nat) ({ cls := "java/util/ArrayList", name := "get", desc := "(I)Ljava/lang/Object;" } : Jvm.MethodName)) ∈ lw_all := lw_g (lw_at lw_m4 156 rfl) rfl
theorem q1004 : (Jvm.Cond.classLink "SmokeWord$Rule" (26 : Nat) "SmokeWord$Told") ∈ lw_all := lw_g (lw_at lw_m4 157 rfl) rfl
theorem q1005 : (Jvm.Cond.methodLink "SmokeWord$Rule" (28 : Nat) ({ cls := "SmokeWord$Told", name := "holds", desc := "([J)Z" } : Jvm.MethodName)) ∈ lw_all := lw_g (lw_at lw_m4 158 rfl) rfl
theorem q1036 : (Jvm.Cond.methodLink "SmokeWord$Rule" (36 : Nat) ({ cls := "SmokeWord$Value", name := "of", desc := "([J)J" } : Jvm.MethodName)) ∈ lw_all := lw_g (lw_at lw_m4 189 rfl) rfl
theorem q1897 : (Jvm.Cond.castable "SmokeWord$Rule" "java/lang/Object") ∈ lw_tbl := lw_at lw_m8 90 rfl
theorem in_X7 : ∀ w ∈ wsX70, w ∈ lw_all := lw_in wsX70 [747] (by decide +kernel) (by decide +kernel)
/-! SmokeWord$Value -/
set_option maxRecDepth 100000
def RX8 : String := "SmokeWord$Value"
abbrev cX8_init : ByteArray := prog_16_method_1_code
def yX8_init : MethodName := ⟨RX8, "<init>", "()V"⟩
theorem dX8_init_0 : decode cX8_init 0 = .ok (.aload_n 0, 1) := by decide +kernel
theorem dX8_init_1 : decode cX8_init 1 = .ok (.invokespecial 1, 3) := by decide +kernel
theorem dX8_init_4 : decode cX8_init 4 = .ok (.return_, 1) := by decide +kernel
theorem q151 : (Jvm.Cond.initialized "SmokeWord$Value") ∈ lw_all := lw_g (lw_at lw_m1 24 rfl) rfl
theorem q774 : (Jvm.Cond.instanceMethod ({ cls := "SmokeWord$Value", name := "<init>", desc := "()V" } : Jvm.MethodName)) ∈ lw_all := lw_g (lw_at lw_m3 167 rfl) rfl
theorem q775 : (Jvm.Cond.code ({ cls := "SmokeWord$Value", name := "<init>", desc := "()V" } : Jvm.MethodName) prog_16_method_1_code (1 : Nat) (Option.none : Option Jvm.ClassFile.FieldType)) ∈ lw_all := lw_g (lw_at lw_m3 168 rfl) rfl
theorem q776 : (Jvm.Cond.methodLink "SmokeWord$Value" (1 : Nat) ({ cls := "java/lang/Object", name := "<init>", desc := "()V" } : Jvm.MethodName)) ∈ lw_all := lw_g (lw_at lw_m3 169 rfl) rfl
theorem q1019 : (Jvm.Cond.declares ({ cls := "SmokeWord$Value", name := "of", desc := "([J)J" } : Jvm.MethodName)) ∈ lw_tbl := lw_at lw_m4 172 rfl
theorem q1020 : (Jvm.Cond.sameMethod "SmokeWord$Value" "SmokeWord$Value" "of" "([J)J") ∈ lw_all := lw_g (lw_at lw_m4 173 rfl) rfl
/-! SmokeWord$Plain -/
set_option maxRecDepth 100000
def RX9 : String := "SmokeWord$Plain"
def TX9 : u_T := fun k => match k with
  | _ => ("SmokeWord$Plain", "number", "I", true)
def tyX9 : Nat → FieldType := fun k => match k with
  | _ => .int
abbrev wsX90 : List Cond := u_ws RX9 TX9 1
theorem nmX9 : ∀ a, a < 1 → ∀ b, b < 1 → a ≠ b → (TX9 a).2.1 ≠ (TX9 b).2.1 := by decide +kernel
theorem tyX9_ok : ∀ k, k < 1 → parseFieldDescriptor (TX9 k).2.2.1 = some (tyX9 k) := by decide +kernel
abbrev cX9_init : ByteArray := prog_11_method_1_code
def yX9_init : MethodName := ⟨RX9, "<init>", "(I)V"⟩
def dkwX9_init_0 : List UInt8 := [42, 183, 0, 1, 42, 27, 181, 0, 7, 177]
abbrev dktX9_init_0 : List UInt8 := dkwX9_init_0 ++ []
theorem dksX9_init_0 : cX9_init.data.toList.drop 0 = dktX9_init_0 := by decide +kernel
theorem dX9_init_0 : decode cX9_init 0 = .ok (.aload_n 0, 1) := dk_42 (dk_at dksX9_init_0 0 rfl rfl)
theorem dX9_init_1 : decode cX9_init 1 = .ok (.invokespecial 1, 3) := dk_183 0 1 (dk_at dksX9_init_0 1 rfl rfl)
theorem dX9_init_4 : decode cX9_init 4 = .ok (.aload_n 0, 1) := dk_42 (dk_at dksX9_init_0 4 rfl rfl)
theorem dX9_init_5 : decode cX9_init 5 = .ok (.iload_n 1, 1) := dk_27 (dk_at dksX9_init_0 5 rfl rfl)
theorem dX9_init_6 : decode cX9_init 6 = .ok (.putfield 7, 3) := dk_181 0 7 (dk_at dksX9_init_0 6 rfl rfl)
theorem dX9_init_9 : decode cX9_init 9 = .ok (.return_, 1) := dk_177 (dk_at dksX9_init_0 9 rfl rfl)
abbrev cX9_of : ByteArray := prog_11_method_2_code
def yX9_of : MethodName := ⟨RX9, "of", "([J)J"⟩
def dkwX9_of_0 : List UInt8 := [42, 180, 0, 7, 133, 173]
abbrev dktX9_of_0 : List UInt8 := dkwX9_of_0 ++ []
theorem dksX9_of_0 : cX9_of.data.toList.drop 0 = dktX9_of_0 := by decide +kernel
theorem dX9_of_0 : decode cX9_of 0 = .ok (.aload_n 0, 1) := dk_42 (dk_at dksX9_of_0 0 rfl rfl)
theorem dX9_of_1 : decode cX9_of 1 = .ok (.getfield 7, 3) := dk_180 0 7 (dk_at dksX9_of_0 1 rfl rfl)
theorem dX9_of_4 : decode cX9_of 4 = .ok (.i2l, 1) := dk_133 (dk_at dksX9_of_0 4 rfl rfl)
theorem dX9_of_5 : decode cX9_of 5 = .ok (.lreturn, 1) := dk_173 (dk_at dksX9_of_0 5 rfl rfl)
theorem q152 : (Jvm.Cond.initialized "SmokeWord$Plain") ∈ lw_all := lw_g (lw_at lw_m1 25 rfl) rfl
theorem q661 : (Jvm.Cond.selects "SmokeWord$Plain" ({ cls := "java/lang/Object", name := "getClass", desc := "()Ljava/lang/Class;" } : Jvm.MethodName) ({ cls := "java/lang/Object", name := "getClass", desc := "()Ljava/lang/Class;" } : Jvm.MethodName)) ∈ lw_all := lw_g (lw_at lw_m3 54 rfl) rfl
theorem q768 : (Jvm.Cond.instantiable "SmokeWord$Plain" (1 : Nat)) ∈ lw_all := lw_g (lw_at lw_m3 161 rfl) rfl
theorem q771 : (Jvm.Cond.instanceMethod ({ cls := "SmokeWord$Plain", name := "<init>", desc := "(I)V" } : Jvm.MethodName)) ∈ lw_all := lw_g (lw_at lw_m3 164 rfl) rfl
theorem q772 : (Jvm.Cond.code ({ cls := "SmokeWord$Plain", name := "<init>", desc := "(I)V" } : Jvm.MethodName) prog_11_method_1_code (2 : Nat) (Option.none : Option Jvm.ClassFile.FieldType)) ∈ lw_all := lw_g (lw_at lw_m3 165 rfl) rfl
theorem q773 : (Jvm.Cond.methodLinkNest "SmokeWord$Plain" (1 : Nat) ({ cls := "SmokeWord$Value", name := "<init>", desc := "()V" } : Jvm.MethodName) "SmokeWord") ∈ lw_tbl := lw_at lw_m3 166 rfl
theorem q777 : (Jvm.Cond.fieldLink "SmokeWord$Plain" (7 : Nat) "SmokeWord$Plain" "number" "I") ∈ lw_all := lw_g (lw_at lw_m3 170 rfl) rfl
theorem q778 : (Jvm.Cond.laysFinal "SmokeWord$Plain" "SmokeWord$Plain" "number" "I") ∈ lw_all := lw_g (lw_at lw_m3 171 rfl) rfl
theorem q779 : (Jvm.Cond.soleField "SmokeWord$Plain" "number") ∈ lw_all := lw_g (lw_at lw_m3 172 rfl) rfl
theorem q780 : (Jvm.Cond.superclass "SmokeWord$Plain" "SmokeWord$Value") ∈ lw_all := lw_g (lw_at lw_m3 173 rfl) rfl
theorem q1028 : (Jvm.Cond.instanceMethod ({ cls := "SmokeWord$Plain", name := "of", desc := "([J)J" } : Jvm.MethodName)) ∈ lw_all := lw_g (lw_at lw_m4 181 rfl) rfl
theorem q1029 : (Jvm.Cond.code ({ cls := "SmokeWord$Plain", name := "of", desc := "([J)J" } : Jvm.MethodName) prog_11_method_2_code (2 : Nat) (Option.some Jvm.ClassFile.FieldType.long)) ∈ lw_all := lw_g (lw_at lw_m4 182 rfl) rfl
theorem q1030 : (Jvm.Cond.selects "SmokeWord$Plain" ({ cls := "SmokeWord$Value", name := "of", desc := "([J)J" } : Jvm.MethodName) ({ cls := "SmokeWord$Plain", name := "of", desc := "([J)J" } : Jvm.MethodName)) ∈ lw_all := lw_g (lw_at lw_m4 183 rfl) rfl
theorem q1898 : (Jvm.Cond.castable "SmokeWord$Plain" "java/lang/Object") ∈ lw_tbl := lw_at lw_m8 91 rfl
theorem in_X9 : ∀ w ∈ wsX90, w ∈ lw_all := lw_in wsX90 [778] (by decide +kernel) (by decide +kernel)
/-! SmokeWord$Asked -/
set_option maxRecDepth 100000
def RX10 : String := "SmokeWord$Asked"
def TX10 : u_T := fun k => match k with
  | _ => ("SmokeWord$Asked", "word", "I", true)
def tyX10 : Nat → FieldType := fun k => match k with
  | _ => .int
abbrev wsX100 : List Cond := u_ws RX10 TX10 1
theorem nmX10 : ∀ a, a < 1 → ∀ b, b < 1 → a ≠ b → (TX10 a).2.1 ≠ (TX10 b).2.1 := by decide +kernel
theorem tyX10_ok : ∀ k, k < 1 → parseFieldDescriptor (TX10 k).2.2.1 = some (tyX10 k) := by decide +kernel
abbrev cX10_init : ByteArray := prog_2_method_1_code
def yX10_init : MethodName := ⟨RX10, "<init>", "(I)V"⟩
def dkwX10_init_0 : List UInt8 := [42, 183, 0, 1, 42, 27, 181, 0, 7, 177]
abbrev dktX10_init_0 : List UInt8 := dkwX10_init_0 ++ []
theorem dksX10_init_0 : cX10_init.data.toList.drop 0 = dktX10_init_0 := by decide +kernel
theorem dX10_init_0 : decode cX10_init 0 = .ok (.aload_n 0, 1) := dk_42 (dk_at dksX10_init_0 0 rfl rfl)
theorem dX10_init_1 : decode cX10_init 1 = .ok (.invokespecial 1, 3) := dk_183 0 1 (dk_at dksX10_init_0 1 rfl rfl)
theorem dX10_init_4 : decode cX10_init 4 = .ok (.aload_n 0, 1) := dk_42 (dk_at dksX10_init_0 4 rfl rfl)
theorem dX10_init_5 : decode cX10_init 5 = .ok (.iload_n 1, 1) := dk_27 (dk_at dksX10_init_0 5 rfl rfl)
theorem dX10_init_6 : decode cX10_init 6 = .ok (.putfield 7, 3) := dk_181 0 7 (dk_at dksX10_init_0 6 rfl rfl)
theorem dX10_init_9 : decode cX10_init 9 = .ok (.return_, 1) := dk_177 (dk_at dksX10_init_0 9 rfl rfl)
abbrev cX10_of : ByteArray := prog_2_method_2_code
def yX10_of : MethodName := ⟨RX10, "of", "([J)J"⟩
def dkwX10_of_0 : List UInt8 := [43, 42, 180, 0, 7, 47, 173]
abbrev dktX10_of_0 : List UInt8 := dkwX10_of_0 ++ []
theorem dksX10_of_0 : cX10_of.data.toList.drop 0 = dktX10_of_0 := by decide +kernel
theorem dX10_of_0 : decode cX10_of 0 = .ok (.aload_n 1, 1) := dk_43 (dk_at dksX10_of_0 0 rfl rfl)
theorem dX10_of_1 : decode cX10_of 1 = .ok (.aload_n 0, 1) := dk_42 (dk_at dksX10_of_0 1 rfl rfl)
theorem dX10_of_2 : decode cX10_of 2 = .ok (.getfield 7, 3) := dk_180 0 7 (dk_at dksX10_of_0 2 rfl rfl)
theorem dX10_of_5 : decode cX10_of 5 = .ok (.laload, 1) := dk_47 (dk_at dksX10_of_0 5 rfl rfl)
theorem dX10_of_6 : decode cX10_of 6 = .ok (.lreturn, 1) := dk_173 (dk_at dksX10_of_0 6 rfl rfl)
theorem q153 : (Jvm.Cond.initialized "SmokeWord$Asked") ∈ lw_all := lw_g (lw_at lw_m1 26 rfl) rfl
theorem q653 : (Jvm.Cond.selects "SmokeWord$Asked" ({ cls := "java/lang/Object", name := "getClass", desc := "()Ljava/lang/Class;" } : Jvm.MethodName) ({ cls := "java/lang/Object", name := "getClass", desc := "()Ljava/lang/Class;" } : Jvm.MethodName)) ∈ lw_all := lw_g (lw_at lw_m3 46 rfl) rfl
theorem q786 : (Jvm.Cond.instantiable "SmokeWord$Asked" (1 : Nat)) ∈ lw_all := lw_g (lw_at lw_m3 179 rfl) rfl
theorem q788 : (Jvm.Cond.instanceMethod ({ cls := "SmokeWord$Asked", name := "<init>", desc := "(I)V" } : Jvm.MethodName)) ∈ lw_all := lw_g (lw_at lw_m3 181 rfl) rfl
theorem q789 : (Jvm.Cond.code ({ cls := "SmokeWord$Asked", name := "<init>", desc := "(I)V" } : Jvm.MethodName) prog_2_method_1_code (2 : Nat) (Option.none : Option Jvm.ClassFile.FieldType)) ∈ lw_all := lw_g (lw_at lw_m3 182 rfl) rfl
theorem q790 : (Jvm.Cond.methodLinkNest "SmokeWord$Asked" (1 : Nat) ({ cls := "SmokeWord$Value", name := "<init>", desc := "()V" } : Jvm.MethodName) "SmokeWord") ∈ lw_tbl := lw_at lw_m3 183 rfl
theorem q791 : (Jvm.Cond.fieldLink "SmokeWord$Asked" (7 : Nat) "SmokeWord$Asked" "word" "I") ∈ lw_all := lw_g (lw_at lw_m3 184 rfl) rfl
theorem q792 : (Jvm.Cond.laysFinal "SmokeWord$Asked" "SmokeWord$Asked" "word" "I") ∈ lw_all := lw_g (lw_at lw_m3 185 rfl) rfl
theorem q793 : (Jvm.Cond.soleField "SmokeWord$Asked" "word") ∈ lw_all := lw_g (lw_at lw_m3 186 rfl) rfl
theorem q794 : (Jvm.Cond.superclass "SmokeWord$Asked" "SmokeWord$Value") ∈ lw_all := lw_g (lw_at lw_m3 187 rfl) rfl
theorem q1021 : (Jvm.Cond.selects "SmokeWord$Asked" ({ cls := "SmokeWord$Value", name := "of", desc := "([J)J" } : Jvm.MethodName) ({ cls := "SmokeWord$Asked", name := "of", desc := "([J)J" } : Jvm.MethodName)) ∈ lw_all := lw_g (lw_at lw_m4 174 rfl) rfl
theorem q1022 : (Jvm.Cond.instanceMethod ({ cls := "SmokeWord$Asked", name := "of", desc := "([J)J" } : Jvm.MethodName)) ∈ lw_all := lw_g (lw_at lw_m4 175 rfl) rfl
theorem q1023 : (Jvm.Cond.code ({ cls := "SmokeWord$Asked", name := "of", desc := "([J)J" } : Jvm.MethodName) prog_2_method_2_code (2 : Nat) (Option.some Jvm.ClassFile.FieldType.long)) ∈ lw_all := lw_g (lw_at lw_m4 176 rfl) rfl
theorem q1899 : (Jvm.Cond.castable "SmokeWord$Asked" "java/lang/Object") ∈ lw_tbl := lw_at lw_m8 92 rfl
theorem in_X10 : ∀ w ∈ wsX100, w ∈ lw_all := lw_in wsX100 [792] (by decide +kernel) (by decide +kernel)
/-! SmokeWord$Joined -/
set_option maxRecDepth 100000
def RX11 : String := "SmokeWord$Joined"
def TX11 : u_T := fun k => match k with
  | 0 => ("SmokeWord$Joined", "a", "LSmokeWord$Value;", true)
  | 1 => ("SmokeWord$Joined", "b", "LSmokeWord$Value;", true)
  | _ => ("SmokeWord$Joined", "sign", "I", true)
def tyX11 : Nat → FieldType := fun k => match k with
  | 0 => .object "SmokeWord$Value"
  | 1 => .object "SmokeWord$Value"
  | _ => .int
abbrev wsX110 : List Cond := u_ws RX11 TX11 3
theorem nmX11 : ∀ a, a < 3 → ∀ b, b < 3 → a ≠ b → (TX11 a).2.1 ≠ (TX11 b).2.1 := by decide +kernel
theorem tyX11_ok : ∀ k, k < 3 → parseFieldDescriptor (TX11 k).2.2.1 = some (tyX11 k) := by decide +kernel
abbrev cX11_init : ByteArray := prog_8_method_1_code
def yX11_init : MethodName := ⟨RX11, "<init>", "(LSmokeWord$Value;LSmokeWord$Value;I)V"⟩
def dkwX11_init_0 : List UInt8 := [42, 183, 0, 1, 42, 43, 181, 0, 7, 42, 44, 181, 0, 13, 42, 29, 181, 0, 16, 177]
abbrev dktX11_init_0 : List UInt8 := dkwX11_init_0 ++ []
theorem dksX11_init_0 : cX11_init.data.toList.drop 0 = dktX11_init_0 := by decide +kernel
theorem dX11_init_0 : decode cX11_init 0 = .ok (.aload_n 0, 1) := dk_42 (dk_at dksX11_init_0 0 rfl rfl)
theorem dX11_init_1 : decode cX11_init 1 = .ok (.invokespecial 1, 3) := dk_183 0 1 (dk_at dksX11_init_0 1 rfl rfl)
theorem dX11_init_4 : decode cX11_init 4 = .ok (.aload_n 0, 1) := dk_42 (dk_at dksX11_init_0 4 rfl rfl)
theorem dX11_init_5 : decode cX11_init 5 = .ok (.aload_n 1, 1) := dk_43 (dk_at dksX11_init_0 5 rfl rfl)
theorem dX11_init_6 : decode cX11_init 6 = .ok (.putfield 7, 3) := dk_181 0 7 (dk_at dksX11_init_0 6 rfl rfl)
theorem dX11_init_9 : decode cX11_init 9 = .ok (.aload_n 0, 1) := dk_42 (dk_at dksX11_init_0 9 rfl rfl)
theorem dX11_init_10 : decode cX11_init 10 = .ok (.aload_n 2, 1) := dk_44 (dk_at dksX11_init_0 10 rfl rfl)
theorem dX11_init_11 : decode cX11_init 11 = .ok (.putfield 13, 3) := dk_181 0 13 (dk_at dksX11_init_0 11 rfl rfl)
theorem dX11_init_14 : decode cX11_init 14 = .ok (.aload_n 0, 1) := dk_42 (dk_at dksX11_init_0 14 rfl rfl)
theorem dX11_init_15 : decode cX11_init 15 = .ok (.iload_n 3, 1) := dk_29 (dk_at dksX11_init_0 15 rfl rfl)
theorem dX11_init_16 : decode cX11_init 16 = .ok (.putfield 16, 3) := dk_181 0 16 (dk_at dksX11_init_0 16 rfl rfl)
theorem dX11_init_19 : decode cX11_init 19 = .ok (.return_, 1) := dk_177 (dk_at dksX11_init_0 19 rfl rfl)
abbrev cX11_of : ByteArray := prog_8_method_2_code
def yX11_of : MethodName := ⟨RX11, "of", "([J)J"⟩
def dkwX11_of_4 : List UInt8 := [22, 4, 113, 173]
abbrev dktX11_of_4 : List UInt8 := dkwX11_of_4 ++ []
def dkwX11_of_3 : List UInt8 := [154, 0, 7, 9, 167, 0, 23, 42, 180, 0, 16, 16, 47, 160, 0, 10, 32, 22, 4, 109, 167, 0, 7, 32]
abbrev dktX11_of_3 : List UInt8 := dkwX11_of_3 ++ dktX11_of_4
def dkwX11_of_2 : List UInt8 := [101, 167, 0, 50, 42, 180, 0, 16, 16, 42, 160, 0, 10, 32, 22, 4, 105, 167, 0, 34, 22, 4, 9, 148]
abbrev dktX11_of_2 : List UInt8 := dkwX11_of_2 ++ dktX11_of_3
def dkwX11_of_1 : List UInt8 := [16, 43, 160, 0, 10, 32, 22, 4, 97, 167, 0, 66, 42, 180, 0, 16, 16, 45, 160, 0, 10, 32, 22, 4]
abbrev dktX11_of_1 : List UInt8 := dkwX11_of_1 ++ dktX11_of_2
def dkwX11_of_0 : List UInt8 := [42, 180, 0, 7, 43, 182, 0, 20, 65, 42, 180, 0, 13, 43, 182, 0, 20, 55, 4, 42, 180, 0, 16]
abbrev dktX11_of_0 : List UInt8 := dkwX11_of_0 ++ dktX11_of_1
theorem dksX11_of_0 : cX11_of.data.toList.drop 0 = dktX11_of_0 := by decide +kernel
theorem dksX11_of_1 : cX11_of.data.toList.drop 23 = dktX11_of_1 := dk_seg dksX11_of_0 23 rfl rfl
theorem dksX11_of_2 : cX11_of.data.toList.drop 47 = dktX11_of_2 := dk_seg dksX11_of_1 24 rfl rfl
theorem dksX11_of_3 : cX11_of.data.toList.drop 71 = dktX11_of_3 := dk_seg dksX11_of_2 24 rfl rfl
theorem dksX11_of_4 : cX11_of.data.toList.drop 95 = dktX11_of_4 := dk_seg dksX11_of_3 24 rfl rfl
theorem dX11_of_0 : decode cX11_of 0 = .ok (.aload_n 0, 1) := dk_42 (dk_at dksX11_of_0 0 rfl rfl)
theorem dX11_of_1 : decode cX11_of 1 = .ok (.getfield 7, 3) := dk_180 0 7 (dk_at dksX11_of_0 1 rfl rfl)
theorem dX11_of_4 : decode cX11_of 4 = .ok (.aload_n 1, 1) := dk_43 (dk_at dksX11_of_0 4 rfl rfl)
theorem dX11_of_5 : decode cX11_of 5 = .ok (.invokevirtual 20, 3) := dk_182 0 20 (dk_at dksX11_of_0 5 rfl rfl)
theorem dX11_of_8 : decode cX11_of 8 = .ok (.lstore_n 2, 1) := dk_65 (dk_at dksX11_of_0 8 rfl rfl)
theorem dX11_of_9 : decode cX11_of 9 = .ok (.aload_n 0, 1) := dk_42 (dk_at dksX11_of_0 9 rfl rfl)
theorem dX11_of_10 : decode cX11_of 10 = .ok (.getfield 13, 3) := dk_180 0 13 (dk_at dksX11_of_0 10 rfl rfl)
theorem dX11_of_13 : decode cX11_of 13 = .ok (.aload_n 1, 1) := dk_43 (dk_at dksX11_of_0 13 rfl rfl)
theorem dX11_of_14 : decode cX11_of 14 = .ok (.invokevirtual 20, 3) := dk_182 0 20 (dk_at dksX11_of_0 14 rfl rfl)
theorem dX11_of_17 : decode cX11_of 17 = .ok (.lstore 4, 2) := dk_55 4 (dk_at dksX11_of_0 17 rfl rfl)
theorem dX11_of_19 : decode cX11_of 19 = .ok (.aload_n 0, 1) := dk_42 (dk_at dksX11_of_0 19 rfl rfl)
theorem dX11_of_20 : decode cX11_of 20 = .ok (.getfield 16, 3) := dk_180 0 16 (dk_at dksX11_of_0 20 rfl rfl)
theorem dX11_of_23 : decode cX11_of 23 = .ok (.bipush 43, 2) := dk_16 43 (dk_at dksX11_of_1 0 rfl rfl)
theorem dX11_of_25 : decode cX11_of 25 = .ok (.if_icmp .ne 10, 3) := dk_160 0 10 (dk_at dksX11_of_1 2 rfl rfl)
theorem dX11_of_28 : decode cX11_of 28 = .ok (.lload_n 2, 1) := dk_32 (dk_at dksX11_of_1 5 rfl rfl)
theorem dX11_of_29 : decode cX11_of 29 = .ok (.lload 4, 2) := dk_22 4 (dk_at dksX11_of_1 6 rfl rfl)
theorem dX11_of_31 : decode cX11_of 31 = .ok (.ladd, 1) := dk_97 (dk_at dksX11_of_1 8 rfl rfl)
theorem dX11_of_32 : decode cX11_of 32 = .ok (.goto 66, 3) := dk_167 0 66 (dk_at dksX11_of_1 9 rfl rfl)
theorem dX11_of_35 : decode cX11_of 35 = .ok (.aload_n 0, 1) := dk_42 (dk_at dksX11_of_1 12 rfl rfl)
theorem dX11_of_36 : decode cX11_of 36 = .ok (.getfield 16, 3) := dk_180 0 16 (dk_at dksX11_of_1 13 rfl rfl)
theorem dX11_of_39 : decode cX11_of 39 = .ok (.bipush 45, 2) := dk_16 45 (dk_at dksX11_of_1 16 rfl rfl)
theorem dX11_of_41 : decode cX11_of 41 = .ok (.if_icmp .ne 10, 3) := dk_160 0 10 (dk_at dksX11_of_1 18 rfl rfl)
theorem dX11_of_44 : decode cX11_of 44 = .ok (.lload_n 2, 1) := dk_32 (dk_at dksX11_of_1 21 rfl rfl)
theorem dX11_of_45 : decode cX11_of 45 = .ok (.lload 4, 2) := dk_22 4 (dk_at dksX11_of_1 22 rfl rfl)
theorem dX11_of_47 : decode cX11_of 47 = .ok (.lsub, 1) := dk_101 (dk_at dksX11_of_2 0 rfl rfl)
theorem dX11_of_48 : decode cX11_of 48 = .ok (.goto 50, 3) := dk_167 0 50 (dk_at dksX11_of_2 1 rfl rfl)
theorem dX11_of_51 : decode cX11_of 51 = .ok (.aload_n 0, 1) := dk_42 (dk_at dksX11_of_2 4 rfl rfl)
theorem dX11_of_52 : decode cX11_of 52 = .ok (.getfield 16, 3) := dk_180 0 16 (dk_at dksX11_of_2 5 rfl rfl)
theorem dX11_of_55 : decode cX11_of 55 = .ok (.bipush 42, 2) := dk_16 42 (dk_at dksX11_of_2 8 rfl rfl)
theorem dX11_of_57 : decode cX11_of 57 = .ok (.if_icmp .ne 10, 3) := dk_160 0 10 (dk_at dksX11_of_2 10 rfl rfl)
theorem dX11_of_60 : decode cX11_of 60 = .ok (.lload_n 2, 1) := dk_32 (dk_at dksX11_of_2 13 rfl rfl)
theorem dX11_of_61 : decode cX11_of 61 = .ok (.lload 4, 2) := dk_22 4 (dk_at dksX11_of_2 14 rfl rfl)
theorem dX11_of_63 : decode cX11_of 63 = .ok (.lmul, 1) := dk_105 (dk_at dksX11_of_2 16 rfl rfl)
theorem dX11_of_64 : decode cX11_of 64 = .ok (.goto 34, 3) := dk_167 0 34 (dk_at dksX11_of_2 17 rfl rfl)
theorem dX11_of_67 : decode cX11_of 67 = .ok (.lload 4, 2) := dk_22 4 (dk_at dksX11_of_2 20 rfl rfl)
theorem dX11_of_69 : decode cX11_of 69 = .ok (.lconst 0, 1) := dk_9 (dk_at dksX11_of_2 22 rfl rfl)
theorem dX11_of_70 : decode cX11_of 70 = .ok (.lcmp, 1) := dk_148 (dk_at dksX11_of_2 23 rfl rfl)
theorem dX11_of_71 : decode cX11_of 71 = .ok (.ifCond .ne 7, 3) := dk_154 0 7 (dk_at dksX11_of_3 0 rfl rfl)
theorem dX11_of_74 : decode cX11_of 74 = .ok (.lconst 0, 1) := dk_9 (dk_at dksX11_of_3 3 rfl rfl)
theorem dX11_of_75 : decode cX11_of 75 = .ok (.goto 23, 3) := dk_167 0 23 (dk_at dksX11_of_3 4 rfl rfl)
theorem dX11_of_78 : decode cX11_of 78 = .ok (.aload_n 0, 1) := dk_42 (dk_at dksX11_of_3 7 rfl rfl)
theorem dX11_of_79 : decode cX11_of 79 = .ok (.getfield 16, 3) := dk_180 0 16 (dk_at dksX11_of_3 8 rfl rfl)
theorem dX11_of_82 : decode cX11_of 82 = .ok (.bipush 47, 2) := dk_16 47 (dk_at dksX11_of_3 11 rfl rfl)
theorem dX11_of_84 : decode cX11_of 84 = .ok (.if_icmp .ne 10, 3) := dk_160 0 10 (dk_at dksX11_of_3 13 rfl rfl)
theorem dX11_of_87 : decode cX11_of 87 = .ok (.lload_n 2, 1) := dk_32 (dk_at dksX11_of_3 16 rfl rfl)
theorem dX11_of_88 : decode cX11_of 88 = .ok (.lload 4, 2) := dk_22 4 (dk_at dksX11_of_3 17 rfl rfl)
theorem dX11_of_90 : decode cX11_of 90 = .ok (.ldiv, 1) := dk_109 (dk_at dksX11_of_3 19 rfl rfl)
theorem dX11_of_91 : decode cX11_of 91 = .ok (.goto 7, 3) := dk_167 0 7 (dk_at dksX11_of_3 20 rfl rfl)
theorem dX11_of_94 : decode cX11_of 94 = .ok (.lload_n 2, 1) := dk_32 (dk_at dksX11_of_3 23 rfl rfl)
theorem dX11_of_95 : decode cX11_of 95 = .ok (.lload 4, 2) := dk_22 4 (dk_at dksX11_of_4 0 rfl rfl)
theorem dX11_of_97 : decode cX11_of 97 = .ok (.lrem, 1) := dk_113 (dk_at dksX11_of_4 2 rfl rfl)
theorem dX11_of_98 : decode cX11_of 98 = .ok (.lreturn, 1) := dk_173 (dk_at dksX11_of_4 3 rfl rfl)
theorem q154 : (Jvm.Cond.initialized "SmokeWord$Joined") ∈ lw_all := lw_g (lw_at lw_m1 27 rfl) rfl
theorem q658 : (Jvm.Cond.selects "SmokeWord$Joined" ({ cls := "java/lang/Object", name := "getClass", desc := "()Ljava/lang/Class;" } : Jvm.MethodName) ({ cls := "java/lang/Object", name := "getClass", desc := "()Ljava/lang/Class;" } : Jvm.MethodName)) ∈ lw_all := lw_g (lw_at lw_m3 51 rfl) rfl
theorem q796 : (Jvm.Cond.instantiable "SmokeWord$Joined" (3 : Nat)) ∈ lw_all := lw_g (lw_at lw_m3 189 rfl) rfl
theorem q798 : (Jvm.Cond.instanceMethod ({ cls := "SmokeWord$Joined", name := "<init>", desc := "(LSmokeWord$Value;LSmokeWord$Value;I)V" } : Jvm.MethodName)) ∈ lw_all := lw_g (lw_at lw_m3 191 rfl) rfl
theorem q799 : (Jvm.Cond.code ({ cls := "SmokeWord$Joined", name := "<init>", desc := "(LSmokeWord$Value;LSmokeWord$Value;I)V" } : Jvm.MethodName) prog_8_method_1_code (4 : Nat) (Option.none : Option Jvm.ClassFile.FieldType)) ∈ lw_all := lw_g (lw_at lw_m3 192 rfl) rfl
theorem q800 : (Jvm.Cond.methodLinkNest "SmokeWord$Joined" (1 : Nat) ({ cls := "SmokeWord$Value", name := "<init>", desc := "()V" } : Jvm.MethodName) "SmokeWord") ∈ lw_tbl := lw_at lw_m3 193 rfl
theorem q801 : (Jvm.Cond.fieldLink "SmokeWord$Joined" (7 : Nat) "SmokeWord$Joined" "a" "LSmokeWord$Value;") ∈ lw_all := lw_g (lw_at lw_m3 194 rfl) rfl
theorem q802 : (Jvm.Cond.fieldLink "SmokeWord$Joined" (13 : Nat) "SmokeWord$Joined" "b" "LSmokeWord$Value;") ∈ lw_all := lw_g (lw_at lw_m3 195 rfl) rfl
theorem q803 : (Jvm.Cond.fieldLink "SmokeWord$Joined" (16 : Nat) "SmokeWord$Joined" "sign" "I") ∈ lw_all := lw_g (lw_at lw_m3 196 rfl) rfl
theorem q804 : (Jvm.Cond.laysFinal "SmokeWord$Joined" "SmokeWord$Joined" "a" "LSmokeWord$Value;") ∈ lw_all := lw_g (lw_at lw_m3 197 rfl) rfl
theorem q805 : (Jvm.Cond.soleField "SmokeWord$Joined" "a") ∈ lw_all := lw_g (lw_at lw_m3 198 rfl) rfl
theorem q806 : (Jvm.Cond.laysFinal "SmokeWord$Joined" "SmokeWord$Joined" "b" "LSmokeWord$Value;") ∈ lw_all := lw_g (lw_at lw_m3 199 rfl) rfl
theorem q807 : (Jvm.Cond.soleField "SmokeWord$Joined" "b") ∈ lw_all := lw_g (lw_at lw_m3 200 rfl) rfl
theorem q808 : (Jvm.Cond.laysFinal "SmokeWord$Joined" "SmokeWord$Joined" "sign" "I") ∈ lw_all := lw_g (lw_at lw_m3 201 rfl) rfl
theorem q809 : (Jvm.Cond.soleField "SmokeWord$Joined" "sign") ∈ lw_all := lw_g (lw_at lw_m3 202 rfl) rfl
theorem q810 : (Jvm.Cond.superclass "SmokeWord$Joined" "SmokeWord$Value") ∈ lw_all := lw_g (lw_at lw_m3 203 rfl) rfl
theorem q1024 : (Jvm.Cond.selects "SmokeWord$Joined" ({ cls := "SmokeWord$Value", name := "of", desc := "([J)J" } : Jvm.MethodName) ({ cls := "SmokeWord$Joined", name := "of", desc := "([J)J" } : Jvm.MethodName)) ∈ lw_all := lw_g (lw_at lw_m4 177 rfl) rfl
theorem q1025 : (Jvm.Cond.instanceMethod ({ cls := "SmokeWord$Joined", name := "of", desc := "([J)J" } : Jvm.MethodName)) ∈ lw_all := lw_g (lw_at lw_m4 178 rfl) rfl
theorem q1026 : (Jvm.Cond.code ({ cls := "SmokeWord$Joined", name := "of", desc := "([J)J" } : Jvm.MethodName) prog_8_method_2_code (6 : Nat) (Option.some Jvm.ClassFile.FieldType.long)) ∈ lw_all := lw_g (lw_at lw_m4 179 rfl) rfl
theorem q1027 : (Jvm.Cond.methodLink "SmokeWord$Joined" (20 : Nat) ({ cls := "SmokeWord$Value", name := "of", desc := "([J)J" } : Jvm.MethodName)) ∈ lw_all := lw_g (lw_at lw_m4 180 rfl) rfl
theorem q1900 : (Jvm.Cond.castable "SmokeWord$Joined" "java/lang/Object") ∈ lw_tbl := lw_at lw_m8 93 rfl
theorem in_X11 : ∀ w ∈ wsX110, w ∈ lw_all := lw_in wsX110 [804, 806, 808] (by decide +kernel) (by decide +kernel)
/-! SmokeWord$Told -/
set_option maxRecDepth 100000
def RX12 : String := "SmokeWord$Told"
def TX12 : u_T := fun k => match k with
  | 0 => ("SmokeWord$Told", "sum", "LSmokeWord$Value;", true)
  | _ => ("SmokeWord$Told", "when", "LSmokeWord$Condition;", true)
def tyX12 : Nat → FieldType := fun k => match k with
  | 0 => .object "SmokeWord$Value"
  | _ => .object "SmokeWord$Condition"
abbrev wsX120 : List Cond := u_ws RX12 TX12 2
theorem nmX12 : ∀ a, a < 2 → ∀ b, b < 2 → a ≠ b → (TX12 a).2.1 ≠ (TX12 b).2.1 := by decide +kernel
theorem tyX12_ok : ∀ k, k < 2 → parseFieldDescriptor (TX12 k).2.2.1 = some (tyX12 k) := by decide +kernel
abbrev cX12_init : ByteArray := prog_14_method_1_code
def yX12_init : MethodName := ⟨RX12, "<init>", "(LSmokeWord$Value;LSmokeWord$Condition;)V"⟩
def dkwX12_init_0 : List UInt8 := [42, 183, 0, 1, 42, 43, 181, 0, 7, 42, 44, 181, 0, 13, 177]
abbrev dktX12_init_0 : List UInt8 := dkwX12_init_0 ++ []
theorem dksX12_init_0 : cX12_init.data.toList.drop 0 = dktX12_init_0 := by decide +kernel
theorem dX12_init_0 : decode cX12_init 0 = .ok (.aload_n 0, 1) := dk_42 (dk_at dksX12_init_0 0 rfl rfl)
theorem dX12_init_1 : decode cX12_init 1 = .ok (.invokespecial 1, 3) := dk_183 0 1 (dk_at dksX12_init_0 1 rfl rfl)
theorem dX12_init_4 : decode cX12_init 4 = .ok (.aload_n 0, 1) := dk_42 (dk_at dksX12_init_0 4 rfl rfl)
theorem dX12_init_5 : decode cX12_init 5 = .ok (.aload_n 1, 1) := dk_43 (dk_at dksX12_init_0 5 rfl rfl)
theorem dX12_init_6 : decode cX12_init 6 = .ok (.putfield 7, 3) := dk_181 0 7 (dk_at dksX12_init_0 6 rfl rfl)
theorem dX12_init_9 : decode cX12_init 9 = .ok (.aload_n 0, 1) := dk_42 (dk_at dksX12_init_0 9 rfl rfl)
theorem dX12_init_10 : decode cX12_init 10 = .ok (.aload_n 2, 1) := dk_44 (dk_at dksX12_init_0 10 rfl rfl)
theorem dX12_init_11 : decode cX12_init 11 = .ok (.putfield 13, 3) := dk_181 0 13 (dk_at dksX12_init_0 11 rfl rfl)
theorem dX12_init_14 : decode cX12_init 14 = .ok (.return_, 1) := dk_177 (dk_at dksX12_init_0 14 rfl rfl)
abbrev cX12_holds : ByteArray := prog_14_method_2_code
def yX12_holds : MethodName := ⟨RX12, "holds", "([J)Z"⟩
def dkwX12_holds_0 : List UInt8 := [42, 180, 0, 13, 198, 0, 14, 42, 180, 0, 13, 43, 182, 0, 17, 153, 0, 7, 4, 167, 0, 4, 3, 172]
abbrev dktX12_holds_0 : List UInt8 := dkwX12_holds_0 ++ []
theorem dksX12_holds_0 : cX12_holds.data.toList.drop 0 = dktX12_holds_0 := by decide +kernel
theorem dX12_holds_0 : decode cX12_holds 0 = .ok (.aload_n 0, 1) := dk_42 (dk_at dksX12_holds_0 0 rfl rfl)
theorem dX12_holds_1 : decode cX12_holds 1 = .ok (.getfield 13, 3) := dk_180 0 13 (dk_at dksX12_holds_0 1 rfl rfl)
theorem dX12_holds_4 : decode cX12_holds 4 = .ok (.ifnull 14, 3) := dk_198 0 14 (dk_at dksX12_holds_0 4 rfl rfl)
theorem dX12_holds_7 : decode cX12_holds 7 = .ok (.aload_n 0, 1) := dk_42 (dk_at dksX12_holds_0 7 rfl rfl)
theorem dX12_holds_8 : decode cX12_holds 8 = .ok (.getfield 13, 3) := dk_180 0 13 (dk_at dksX12_holds_0 8 rfl rfl)
theorem dX12_holds_11 : decode cX12_holds 11 = .ok (.aload_n 1, 1) := dk_43 (dk_at dksX12_holds_0 11 rfl rfl)
theorem dX12_holds_12 : decode cX12_holds 12 = .ok (.invokevirtual 17, 3) := dk_182 0 17 (dk_at dksX12_holds_0 12 rfl rfl)
theorem dX12_holds_15 : decode cX12_holds 15 = .ok (.ifCond .eq 7, 3) := dk_153 0 7 (dk_at dksX12_holds_0 15 rfl rfl)
theorem dX12_holds_18 : decode cX12_holds 18 = .ok (.iconst 1, 1) := dk_4 (dk_at dksX12_holds_0 18 rfl rfl)
theorem dX12_holds_19 : decode cX12_holds 19 = .ok (.goto 4, 3) := dk_167 0 4 (dk_at dksX12_holds_0 19 rfl rfl)
theorem dX12_holds_22 : decode cX12_holds 22 = .ok (.iconst 0, 1) := dk_3 (dk_at dksX12_holds_0 22 rfl rfl)
theorem dX12_holds_23 : decode cX12_holds 23 = .ok (.ireturn, 1) := dk_172 (dk_at dksX12_holds_0 23 rfl rfl)
theorem q155 : (Jvm.Cond.initialized "SmokeWord$Told") ∈ lw_all := lw_g (lw_at lw_m1 28 rfl) rfl
theorem q664 : (Jvm.Cond.selects "SmokeWord$Told" ({ cls := "java/lang/Object", name := "getClass", desc := "()Ljava/lang/Class;" } : Jvm.MethodName) ({ cls := "java/lang/Object", name := "getClass", desc := "()Ljava/lang/Class;" } : Jvm.MethodName)) ∈ lw_all := lw_g (lw_at lw_m3 57 rfl) rfl
theorem q812 : (Jvm.Cond.instantiable "SmokeWord$Told" (2 : Nat)) ∈ lw_all := lw_g (lw_at lw_m3 205 rfl) rfl
theorem q886 : (Jvm.Cond.instanceMethod ({ cls := "SmokeWord$Told", name := "<init>", desc := "(LSmokeWord$Value;LSmokeWord$Condition;)V" } : Jvm.MethodName)) ∈ lw_all := lw_g (lw_at lw_m4 39 rfl) rfl
theorem q887 : (Jvm.Cond.code ({ cls := "SmokeWord$Told", name := "<init>", desc := "(LSmokeWord$Value;LSmokeWord$Condition;)V" } : Jvm.MethodName) prog_14_method_1_code (3 : Nat) (Option.none : Option Jvm.ClassFile.FieldType)) ∈ lw_all := lw_g (lw_at lw_m4 40 rfl) rfl
theorem q888 : (Jvm.Cond.methodLink "SmokeWord$Told" (1 : Nat) ({ cls := "java/lang/Record", name := "<init>", desc := "()V" } : Jvm.MethodName)) ∈ lw_all := lw_g (lw_at lw_m4 41 rfl) rfl
theorem q889 : (Jvm.Cond.fieldLink "SmokeWord$Told" (7 : Nat) "SmokeWord$Told" "sum" "LSmokeWord$Value;") ∈ lw_all := lw_g (lw_at lw_m4 42 rfl) rfl
theorem q891 : (Jvm.Cond.fieldLink "SmokeWord$Told" (13 : Nat) "SmokeWord$Told" "when" "LSmokeWord$Condition;") ∈ lw_all := lw_g (lw_at lw_m4 44 rfl) rfl
theorem q892 : (Jvm.Cond.laysFinal "SmokeWord$Told" "SmokeWord$Told" "sum" "LSmokeWord$Value;") ∈ lw_all := lw_g (lw_at lw_m4 45 rfl) rfl
theorem q893 : (Jvm.Cond.soleField "SmokeWord$Told" "sum") ∈ lw_all := lw_g (lw_at lw_m4 46 rfl) rfl
theorem q894 : (Jvm.Cond.laysFinal "SmokeWord$Told" "SmokeWord$Told" "when" "LSmokeWord$Condition;") ∈ lw_all := lw_g (lw_at lw_m4 47 rfl) rfl
theorem q895 : (Jvm.Cond.soleField "SmokeWord$Told" "when") ∈ lw_all := lw_g (lw_at lw_m4 48 rfl) rfl
theorem q896 : (Jvm.Cond.superclass "SmokeWord$Told" "java/lang/Record") ∈ lw_all := lw_g (lw_at lw_m4 49 rfl) rfl
theorem q1006 : (Jvm.Cond.instanceMethod ({ cls := "SmokeWord$Told", name := "holds", desc := "([J)Z" } : Jvm.MethodName)) ∈ lw_all := lw_g (lw_at lw_m4 159 rfl) rfl
theorem q1007 : (Jvm.Cond.selects "SmokeWord$Told" ({ cls := "SmokeWord$Told", name := "holds", desc := "([J)Z" } : Jvm.MethodName) ({ cls := "SmokeWord$Told", name := "holds", desc := "([J)Z" } : Jvm.MethodName)) ∈ lw_all := lw_g (lw_at lw_m4 160 rfl) rfl
theorem q1008 : (Jvm.Cond.code ({ cls := "SmokeWord$Told", name := "holds", desc := "([J)Z" } : Jvm.MethodName) prog_14_method_2_code (2 : Nat) (Option.some Jvm.ClassFile.FieldType.boolean)) ∈ lw_all := lw_g (lw_at lw_m4 161 rfl) rfl
theorem q1009 : (Jvm.Cond.methodLink "SmokeWord$Told" (17 : Nat) ({ cls := "SmokeWord$Condition", name := "is", desc := "([J)Z" } : Jvm.MethodName)) ∈ lw_all := lw_g (lw_at lw_m4 162 rfl) rfl
theorem q1901 : (Jvm.Cond.castable "SmokeWord$Told" "java/lang/Object") ∈ lw_tbl := lw_at lw_m8 94 rfl
theorem in_X12 : ∀ w ∈ wsX120, w ∈ lw_all := lw_in wsX120 [892, 894] (by decide +kernel) (by decide +kernel)
/-! SmokeWord$Condition -/
set_option maxRecDepth 100000
def RX13 : String := "SmokeWord$Condition"
abbrev cX13_init : ByteArray := prog_5_method_1_code
def yX13_init : MethodName := ⟨RX13, "<init>", "()V"⟩
theorem dX13_init_0 : decode cX13_init 0 = .ok (.aload_n 0, 1) := by decide +kernel
theorem dX13_init_1 : decode cX13_init 1 = .ok (.invokespecial 1, 3) := by decide +kernel
theorem dX13_init_4 : decode cX13_init 4 = .ok (.return_, 1) := by decide +kernel
theorem q156 : (Jvm.Cond.initialized "SmokeWord$Condition") ∈ lw_all := lw_g (lw_at lw_m1 29 rfl) rfl
theorem q841 : (Jvm.Cond.instanceMethod ({ cls := "SmokeWord$Condition", name := "<init>", desc := "()V" } : Jvm.MethodName)) ∈ lw_all := lw_g (lw_at lw_m3 234 rfl) rfl
theorem q842 : (Jvm.Cond.code ({ cls := "SmokeWord$Condition", name := "<init>", desc := "()V" } : Jvm.MethodName) prog_5_method_1_code (1 : Nat) (Option.none : Option Jvm.ClassFile.FieldType)) ∈ lw_all := lw_g (lw_at lw_m3 235 rfl) rfl
theorem q843 : (Jvm.Cond.methodLink "SmokeWord$Condition" (1 : Nat) ({ cls := "java/lang/Object", name := "<init>", desc := "()V" } : Jvm.MethodName)) ∈ lw_all := lw_g (lw_at lw_m3 236 rfl) rfl
theorem q1010 : (Jvm.Cond.declares ({ cls := "SmokeWord$Condition", name := "is", desc := "([J)Z" } : Jvm.MethodName)) ∈ lw_tbl := lw_at lw_m4 163 rfl
theorem q1011 : (Jvm.Cond.sameMethod "SmokeWord$Condition" "SmokeWord$Condition" "is" "([J)Z") ∈ lw_all := lw_g (lw_at lw_m4 164 rfl) rfl
/-! SmokeWord$Not -/
set_option maxRecDepth 100000
def RX14 : String := "SmokeWord$Not"
def TX14 : u_T := fun k => match k with
  | _ => ("SmokeWord$Not", "of", "LSmokeWord$Condition;", true)
def tyX14 : Nat → FieldType := fun k => match k with
  | _ => .object "SmokeWord$Condition"
abbrev wsX140 : List Cond := u_ws RX14 TX14 1
theorem nmX14 : ∀ a, a < 1 → ∀ b, b < 1 → a ≠ b → (TX14 a).2.1 ≠ (TX14 b).2.1 := by decide +kernel
theorem tyX14_ok : ∀ k, k < 1 → parseFieldDescriptor (TX14 k).2.2.1 = some (tyX14 k) := by decide +kernel
abbrev cX14_init : ByteArray := prog_9_method_1_code
def yX14_init : MethodName := ⟨RX14, "<init>", "(LSmokeWord$Condition;)V"⟩
def dkwX14_init_0 : List UInt8 := [42, 183, 0, 1, 42, 43, 181, 0, 7, 177]
abbrev dktX14_init_0 : List UInt8 := dkwX14_init_0 ++ []
theorem dksX14_init_0 : cX14_init.data.toList.drop 0 = dktX14_init_0 := by decide +kernel
theorem dX14_init_0 : decode cX14_init 0 = .ok (.aload_n 0, 1) := dk_42 (dk_at dksX14_init_0 0 rfl rfl)
theorem dX14_init_1 : decode cX14_init 1 = .ok (.invokespecial 1, 3) := dk_183 0 1 (dk_at dksX14_init_0 1 rfl rfl)
theorem dX14_init_4 : decode cX14_init 4 = .ok (.aload_n 0, 1) := dk_42 (dk_at dksX14_init_0 4 rfl rfl)
theorem dX14_init_5 : decode cX14_init 5 = .ok (.aload_n 1, 1) := dk_43 (dk_at dksX14_init_0 5 rfl rfl)
theorem dX14_init_6 : decode cX14_init 6 = .ok (.putfield 7, 3) := dk_181 0 7 (dk_at dksX14_init_0 6 rfl rfl)
theorem dX14_init_9 : decode cX14_init 9 = .ok (.return_, 1) := dk_177 (dk_at dksX14_init_0 9 rfl rfl)
abbrev cX14_is : ByteArray := prog_9_method_2_code
def yX14_is : MethodName := ⟨RX14, "is", "([J)Z"⟩
def dkwX14_is_0 : List UInt8 := [42, 180, 0, 7, 43, 182, 0, 13, 154, 0, 7, 4, 167, 0, 4, 3, 172]
abbrev dktX14_is_0 : List UInt8 := dkwX14_is_0 ++ []
theorem dksX14_is_0 : cX14_is.data.toList.drop 0 = dktX14_is_0 := by decide +kernel
theorem dX14_is_0 : decode cX14_is 0 = .ok (.aload_n 0, 1) := dk_42 (dk_at dksX14_is_0 0 rfl rfl)
theorem dX14_is_1 : decode cX14_is 1 = .ok (.getfield 7, 3) := dk_180 0 7 (dk_at dksX14_is_0 1 rfl rfl)
theorem dX14_is_4 : decode cX14_is 4 = .ok (.aload_n 1, 1) := dk_43 (dk_at dksX14_is_0 4 rfl rfl)
theorem dX14_is_5 : decode cX14_is 5 = .ok (.invokevirtual 13, 3) := dk_182 0 13 (dk_at dksX14_is_0 5 rfl rfl)
theorem dX14_is_8 : decode cX14_is 8 = .ok (.ifCond .ne 7, 3) := dk_154 0 7 (dk_at dksX14_is_0 8 rfl rfl)
theorem dX14_is_11 : decode cX14_is 11 = .ok (.iconst 1, 1) := dk_4 (dk_at dksX14_is_0 11 rfl rfl)
theorem dX14_is_12 : decode cX14_is 12 = .ok (.goto 4, 3) := dk_167 0 4 (dk_at dksX14_is_0 12 rfl rfl)
theorem dX14_is_15 : decode cX14_is 15 = .ok (.iconst 0, 1) := dk_3 (dk_at dksX14_is_0 15 rfl rfl)
theorem dX14_is_16 : decode cX14_is 16 = .ok (.ireturn, 1) := dk_172 (dk_at dksX14_is_0 16 rfl rfl)
theorem q157 : (Jvm.Cond.initialized "SmokeWord$Not") ∈ lw_all := lw_g (lw_at lw_m1 30 rfl) rfl
theorem q659 : (Jvm.Cond.selects "SmokeWord$Not" ({ cls := "java/lang/Object", name := "getClass", desc := "()Ljava/lang/Class;" } : Jvm.MethodName) ({ cls := "java/lang/Object", name := "getClass", desc := "()Ljava/lang/Class;" } : Jvm.MethodName)) ∈ lw_all := lw_g (lw_at lw_m3 52 rfl) rfl
theorem q836 : (Jvm.Cond.instantiable "SmokeWord$Not" (1 : Nat)) ∈ lw_all := lw_g (lw_at lw_m3 229 rfl) rfl
theorem q838 : (Jvm.Cond.instanceMethod ({ cls := "SmokeWord$Not", name := "<init>", desc := "(LSmokeWord$Condition;)V" } : Jvm.MethodName)) ∈ lw_all := lw_g (lw_at lw_m3 231 rfl) rfl
theorem q839 : (Jvm.Cond.code ({ cls := "SmokeWord$Not", name := "<init>", desc := "(LSmokeWord$Condition;)V" } : Jvm.MethodName) prog_9_method_1_code (2 : Nat) (Option.none : Option Jvm.ClassFile.FieldType)) ∈ lw_all := lw_g (lw_at lw_m3 232 rfl) rfl
theorem q840 : (Jvm.Cond.methodLinkNest "SmokeWord$Not" (1 : Nat) ({ cls := "SmokeWord$Condition", name := "<init>", desc := "()V" } : Jvm.MethodName) "SmokeWord") ∈ lw_tbl := lw_at lw_m3 233 rfl
theorem q844 : (Jvm.Cond.fieldLink "SmokeWord$Not" (7 : Nat) "SmokeWord$Not" "of" "LSmokeWord$Condition;") ∈ lw_all := lw_g (lw_at lw_m3 237 rfl) rfl
theorem q845 : (Jvm.Cond.laysFinal "SmokeWord$Not" "SmokeWord$Not" "of" "LSmokeWord$Condition;") ∈ lw_all := lw_g (lw_at lw_m3 238 rfl) rfl
theorem q846 : (Jvm.Cond.soleField "SmokeWord$Not" "of") ∈ lw_all := lw_g (lw_at lw_m3 239 rfl) rfl
theorem q847 : (Jvm.Cond.superclass "SmokeWord$Not" "SmokeWord$Condition") ∈ lw_all := lw_g (lw_at lw_m4 0 rfl) rfl
theorem q1031 : (Jvm.Cond.instanceMethod ({ cls := "SmokeWord$Not", name := "is", desc := "([J)Z" } : Jvm.MethodName)) ∈ lw_all := lw_g (lw_at lw_m4 184 rfl) rfl
theorem q1032 : (Jvm.Cond.code ({ cls := "SmokeWord$Not", name := "is", desc := "([J)Z" } : Jvm.MethodName) prog_9_method_2_code (2 : Nat) (Option.some Jvm.ClassFile.FieldType.boolean)) ∈ lw_all := lw_g (lw_at lw_m4 185 rfl) rfl
theorem q1033 : (Jvm.Cond.methodLink "SmokeWord$Not" (13 : Nat) ({ cls := "SmokeWord$Condition", name := "is", desc := "([J)Z" } : Jvm.MethodName)) ∈ lw_all := lw_g (lw_at lw_m4 186 rfl) rfl
theorem q1035 : (Jvm.Cond.selects "SmokeWord$Not" ({ cls := "SmokeWord$Condition", name := "is", desc := "([J)Z" } : Jvm.MethodName) ({ cls := "SmokeWord$Not", name := "is", desc := "([J)Z" } : Jvm.MethodName)) ∈ lw_all := lw_g (lw_at lw_m4 188 rfl) rfl
theorem q1902 : (Jvm.Cond.castable "SmokeWord$Not" "java/lang/Object") ∈ lw_tbl := lw_at lw_m8 95 rfl
theorem in_X14 : ∀ w ∈ wsX140, w ∈ lw_all := lw_in wsX140 [845] (by decide +kernel) (by decide +kernel)
/-! SmokeWord$Compared -/
set_option maxRecDepth 100000
def RX15 : String := "SmokeWord$Compared"
def TX15 : u_T := fun k => match k with
  | 0 => ("SmokeWord$Compared", "a", "LSmokeWord$Value;", true)
  | 1 => ("SmokeWord$Compared", "b", "LSmokeWord$Value;", true)
  | 2 => ("SmokeWord$Compared", "sign", "I", true)
  | _ => ("SmokeWord$Compared", "same", "Z", true)
def tyX15 : Nat → FieldType := fun k => match k with
  | 0 => .object "SmokeWord$Value"
  | 1 => .object "SmokeWord$Value"
  | 2 => .int
  | _ => .boolean
abbrev wsX150 : List Cond := u_ws RX15 TX15 4
theorem nmX15 : ∀ a, a < 4 → ∀ b, b < 4 → a ≠ b → (TX15 a).2.1 ≠ (TX15 b).2.1 := by decide +kernel
theorem tyX15_ok : ∀ k, k < 4 → parseFieldDescriptor (TX15 k).2.2.1 = some (tyX15 k) := by decide +kernel
abbrev cX15_init : ByteArray := prog_4_method_1_code
def yX15_init : MethodName := ⟨RX15, "<init>", "(LSmokeWord$Value;LSmokeWord$Value;IZ)V"⟩
def dkwX15_init_1 : List UInt8 := [181, 0, 20, 177]
abbrev dktX15_init_1 : List UInt8 := dkwX15_init_1 ++ []
def dkwX15_init_0 : List UInt8 := [42, 183, 0, 1, 42, 43, 181, 0, 7, 42, 44, 181, 0, 13, 42, 29, 181, 0, 16, 42, 21, 4]
abbrev dktX15_init_0 : List UInt8 := dkwX15_init_0 ++ dktX15_init_1
theorem dksX15_init_0 : cX15_init.data.toList.drop 0 = dktX15_init_0 := by decide +kernel
theorem dksX15_init_1 : cX15_init.data.toList.drop 22 = dktX15_init_1 := dk_seg dksX15_init_0 22 rfl rfl
theorem dX15_init_0 : decode cX15_init 0 = .ok (.aload_n 0, 1) := dk_42 (dk_at dksX15_init_0 0 rfl rfl)
theorem dX15_init_1 : decode cX15_init 1 = .ok (.invokespecial 1, 3) := dk_183 0 1 (dk_at dksX15_init_0 1 rfl rfl)
theorem dX15_init_4 : decode cX15_init 4 = .ok (.aload_n 0, 1) := dk_42 (dk_at dksX15_init_0 4 rfl rfl)
theorem dX15_init_5 : decode cX15_init 5 = .ok (.aload_n 1, 1) := dk_43 (dk_at dksX15_init_0 5 rfl rfl)
theorem dX15_init_6 : decode cX15_init 6 = .ok (.putfield 7, 3) := dk_181 0 7 (dk_at dksX15_init_0 6 rfl rfl)
theorem dX15_init_9 : decode cX15_init 9 = .ok (.aload_n 0, 1) := dk_42 (dk_at dksX15_init_0 9 rfl rfl)
theorem dX15_init_10 : decode cX15_init 10 = .ok (.aload_n 2, 1) := dk_44 (dk_at dksX15_init_0 10 rfl rfl)
theorem dX15_init_11 : decode cX15_init 11 = .ok (.putfield 13, 3) := dk_181 0 13 (dk_at dksX15_init_0 11 rfl rfl)
theorem dX15_init_14 : decode cX15_init 14 = .ok (.aload_n 0, 1) := dk_42 (dk_at dksX15_init_0 14 rfl rfl)
theorem dX15_init_15 : decode cX15_init 15 = .ok (.iload_n 3, 1) := dk_29 (dk_at dksX15_init_0 15 rfl rfl)
theorem dX15_init_16 : decode cX15_init 16 = .ok (.putfield 16, 3) := dk_181 0 16 (dk_at dksX15_init_0 16 rfl rfl)
theorem dX15_init_19 : decode cX15_init 19 = .ok (.aload_n 0, 1) := dk_42 (dk_at dksX15_init_0 19 rfl rfl)
theorem dX15_init_20 : decode cX15_init 20 = .ok (.iload 4, 2) := dk_21 4 (dk_at dksX15_init_0 20 rfl rfl)
theorem dX15_init_22 : decode cX15_init 22 = .ok (.putfield 20, 3) := dk_181 0 20 (dk_at dksX15_init_1 0 rfl rfl)
theorem dX15_init_25 : decode cX15_init 25 = .ok (.return_, 1) := dk_177 (dk_at dksX15_init_1 3 rfl rfl)
abbrev cX15_is : ByteArray := prog_4_method_2_code
def yX15_is : MethodName := ⟨RX15, "is", "([J)Z"⟩
def dkwX15_is_3 : List UInt8 := [16, 62, 160, 0, 14, 32, 22, 4, 148, 158, 0, 7, 4, 167, 0, 4, 3, 172]
abbrev dktX15_is_3 : List UInt8 := dkwX15_is_3 ++ []
def dkwX15_is_2 : List UInt8 := [167, 0, 40, 42, 180, 0, 16, 16, 60, 160, 0, 10, 32, 22, 4, 148, 155, 0, 19, 42, 180, 0, 16]
abbrev dktX15_is_2 : List UInt8 := dkwX15_is_2 ++ dktX15_is_3
def dkwX15_is_1 : List UInt8 := [154, 0, 27, 42, 180, 0, 16, 16, 61, 159, 0, 10, 42, 180, 0, 20, 153, 0, 7, 4, 167, 0, 44, 3]
abbrev dktX15_is_1 : List UInt8 := dkwX15_is_1 ++ dktX15_is_2
def dkwX15_is_0 : List UInt8 := [42, 180, 0, 7, 43, 182, 0, 24, 65, 42, 180, 0, 13, 43, 182, 0, 24, 55, 4, 32, 22, 4, 148]
abbrev dktX15_is_0 : List UInt8 := dkwX15_is_0 ++ dktX15_is_1
theorem dksX15_is_0 : cX15_is.data.toList.drop 0 = dktX15_is_0 := by decide +kernel
theorem dksX15_is_1 : cX15_is.data.toList.drop 23 = dktX15_is_1 := dk_seg dksX15_is_0 23 rfl rfl
theorem dksX15_is_2 : cX15_is.data.toList.drop 47 = dktX15_is_2 := dk_seg dksX15_is_1 24 rfl rfl
theorem dksX15_is_3 : cX15_is.data.toList.drop 70 = dktX15_is_3 := dk_seg dksX15_is_2 23 rfl rfl
theorem dX15_is_0 : decode cX15_is 0 = .ok (.aload_n 0, 1) := dk_42 (dk_at dksX15_is_0 0 rfl rfl)
theorem dX15_is_1 : decode cX15_is 1 = .ok (.getfield 7, 3) := dk_180 0 7 (dk_at dksX15_is_0 1 rfl rfl)
theorem dX15_is_4 : decode cX15_is 4 = .ok (.aload_n 1, 1) := dk_43 (dk_at dksX15_is_0 4 rfl rfl)
theorem dX15_is_5 : decode cX15_is 5 = .ok (.invokevirtual 24, 3) := dk_182 0 24 (dk_at dksX15_is_0 5 rfl rfl)
theorem dX15_is_8 : decode cX15_is 8 = .ok (.lstore_n 2, 1) := dk_65 (dk_at dksX15_is_0 8 rfl rfl)
theorem dX15_is_9 : decode cX15_is 9 = .ok (.aload_n 0, 1) := dk_42 (dk_at dksX15_is_0 9 rfl rfl)
theorem dX15_is_10 : decode cX15_is 10 = .ok (.getfield 13, 3) := dk_180 0 13 (dk_at dksX15_is_0 10 rfl rfl)
theorem dX15_is_13 : decode cX15_is 13 = .ok (.aload_n 1, 1) := dk_43 (dk_at dksX15_is_0 13 rfl rfl)
theorem dX15_is_14 : decode cX15_is 14 = .ok (.invokevirtual 24, 3) := dk_182 0 24 (dk_at dksX15_is_0 14 rfl rfl)
theorem dX15_is_17 : decode cX15_is 17 = .ok (.lstore 4, 2) := dk_55 4 (dk_at dksX15_is_0 17 rfl rfl)
theorem dX15_is_19 : decode cX15_is 19 = .ok (.lload_n 2, 1) := dk_32 (dk_at dksX15_is_0 19 rfl rfl)
theorem dX15_is_20 : decode cX15_is 20 = .ok (.lload 4, 2) := dk_22 4 (dk_at dksX15_is_0 20 rfl rfl)
theorem dX15_is_22 : decode cX15_is 22 = .ok (.lcmp, 1) := dk_148 (dk_at dksX15_is_0 22 rfl rfl)
theorem dX15_is_23 : decode cX15_is 23 = .ok (.ifCond .ne 27, 3) := dk_154 0 27 (dk_at dksX15_is_1 0 rfl rfl)
theorem dX15_is_26 : decode cX15_is 26 = .ok (.aload_n 0, 1) := dk_42 (dk_at dksX15_is_1 3 rfl rfl)
theorem dX15_is_27 : decode cX15_is 27 = .ok (.getfield 16, 3) := dk_180 0 16 (dk_at dksX15_is_1 4 rfl rfl)
theorem dX15_is_30 : decode cX15_is 30 = .ok (.bipush 61, 2) := dk_16 61 (dk_at dksX15_is_1 7 rfl rfl)
theorem dX15_is_32 : decode cX15_is 32 = .ok (.if_icmp .eq 10, 3) := dk_159 0 10 (dk_at dksX15_is_1 9 rfl rfl)
theorem dX15_is_35 : decode cX15_is 35 = .ok (.aload_n 0, 1) := dk_42 (dk_at dksX15_is_1 12 rfl rfl)
theorem dX15_is_36 : decode cX15_is 36 = .ok (.getfield 20, 3) := dk_180 0 20 (dk_at dksX15_is_1 13 rfl rfl)
theorem dX15_is_39 : decode cX15_is 39 = .ok (.ifCond .eq 7, 3) := dk_153 0 7 (dk_at dksX15_is_1 16 rfl rfl)
theorem dX15_is_42 : decode cX15_is 42 = .ok (.iconst 1, 1) := dk_4 (dk_at dksX15_is_1 19 rfl rfl)
theorem dX15_is_43 : decode cX15_is 43 = .ok (.goto 44, 3) := dk_167 0 44 (dk_at dksX15_is_1 20 rfl rfl)
theorem dX15_is_46 : decode cX15_is 46 = .ok (.iconst 0, 1) := dk_3 (dk_at dksX15_is_1 23 rfl rfl)
theorem dX15_is_47 : decode cX15_is 47 = .ok (.goto 40, 3) := dk_167 0 40 (dk_at dksX15_is_2 0 rfl rfl)
theorem dX15_is_50 : decode cX15_is 50 = .ok (.aload_n 0, 1) := dk_42 (dk_at dksX15_is_2 3 rfl rfl)
theorem dX15_is_51 : decode cX15_is 51 = .ok (.getfield 16, 3) := dk_180 0 16 (dk_at dksX15_is_2 4 rfl rfl)
theorem dX15_is_54 : decode cX15_is 54 = .ok (.bipush 60, 2) := dk_16 60 (dk_at dksX15_is_2 7 rfl rfl)
theorem dX15_is_56 : decode cX15_is 56 = .ok (.if_icmp .ne 10, 3) := dk_160 0 10 (dk_at dksX15_is_2 9 rfl rfl)
theorem dX15_is_59 : decode cX15_is 59 = .ok (.lload_n 2, 1) := dk_32 (dk_at dksX15_is_2 12 rfl rfl)
theorem dX15_is_60 : decode cX15_is 60 = .ok (.lload 4, 2) := dk_22 4 (dk_at dksX15_is_2 13 rfl rfl)
theorem dX15_is_62 : decode cX15_is 62 = .ok (.lcmp, 1) := dk_148 (dk_at dksX15_is_2 15 rfl rfl)
theorem dX15_is_63 : decode cX15_is 63 = .ok (.ifCond .lt 19, 3) := dk_155 0 19 (dk_at dksX15_is_2 16 rfl rfl)
theorem dX15_is_66 : decode cX15_is 66 = .ok (.aload_n 0, 1) := dk_42 (dk_at dksX15_is_2 19 rfl rfl)
theorem dX15_is_67 : decode cX15_is 67 = .ok (.getfield 16, 3) := dk_180 0 16 (dk_at dksX15_is_2 20 rfl rfl)
theorem dX15_is_70 : decode cX15_is 70 = .ok (.bipush 62, 2) := dk_16 62 (dk_at dksX15_is_3 0 rfl rfl)
theorem dX15_is_72 : decode cX15_is 72 = .ok (.if_icmp .ne 14, 3) := dk_160 0 14 (dk_at dksX15_is_3 2 rfl rfl)
theorem dX15_is_75 : decode cX15_is 75 = .ok (.lload_n 2, 1) := dk_32 (dk_at dksX15_is_3 5 rfl rfl)
theorem dX15_is_76 : decode cX15_is 76 = .ok (.lload 4, 2) := dk_22 4 (dk_at dksX15_is_3 6 rfl rfl)
theorem dX15_is_78 : decode cX15_is 78 = .ok (.lcmp, 1) := dk_148 (dk_at dksX15_is_3 8 rfl rfl)
theorem dX15_is_79 : decode cX15_is 79 = .ok (.ifCond .le 7, 3) := dk_158 0 7 (dk_at dksX15_is_3 9 rfl rfl)
theorem dX15_is_82 : decode cX15_is 82 = .ok (.iconst 1, 1) := dk_4 (dk_at dksX15_is_3 12 rfl rfl)
theorem dX15_is_83 : decode cX15_is 83 = .ok (.goto 4, 3) := dk_167 0 4 (dk_at dksX15_is_3 13 rfl rfl)
theorem dX15_is_86 : decode cX15_is 86 = .ok (.iconst 0, 1) := dk_3 (dk_at dksX15_is_3 16 rfl rfl)
theorem dX15_is_87 : decode cX15_is 87 = .ok (.ireturn, 1) := dk_172 (dk_at dksX15_is_3 17 rfl rfl)
theorem q158 : (Jvm.Cond.initialized "SmokeWord$Compared") ∈ lw_all := lw_g (lw_at lw_m1 31 rfl) rfl
theorem q655 : (Jvm.Cond.selects "SmokeWord$Compared" ({ cls := "java/lang/Object", name := "getClass", desc := "()Ljava/lang/Class;" } : Jvm.MethodName) ({ cls := "java/lang/Object", name := "getClass", desc := "()Ljava/lang/Class;" } : Jvm.MethodName)) ∈ lw_all := lw_g (lw_at lw_m3 48 rfl) rfl
theorem q849 : (Jvm.Cond.instantiable "SmokeWord$Compared" (4 : Nat)) ∈ lw_all := lw_g (lw_at lw_m4 2 rfl) rfl
theorem q851 : (Jvm.Cond.instanceMethod ({ cls := "SmokeWord$Compared", name := "<init>", desc := "(LSmokeWord$Value;LSmokeWord$Value;IZ)V" } : Jvm.MethodName)) ∈ lw_all := lw_g (lw_at lw_m4 4 rfl) rfl
theorem q852 : (Jvm.Cond.code ({ cls := "SmokeWord$Compared", name := "<init>", desc := "(LSmokeWord$Value;LSmokeWord$Value;IZ)V" } : Jvm.MethodName) prog_4_method_1_code (5 : Nat) (Option.none : Option Jvm.ClassFile.FieldType)) ∈ lw_all := lw_g (lw_at lw_m4 5 rfl) rfl
theorem q853 : (Jvm.Cond.methodLinkNest "SmokeWord$Compared" (1 : Nat) ({ cls := "SmokeWord$Condition", name := "<init>", desc := "()V" } : Jvm.MethodName) "SmokeWord") ∈ lw_tbl := lw_at lw_m4 6 rfl
theorem q854 : (Jvm.Cond.fieldLink "SmokeWord$Compared" (7 : Nat) "SmokeWord$Compared" "a" "LSmokeWord$Value;") ∈ lw_all := lw_g (lw_at lw_m4 7 rfl) rfl
theorem q855 : (Jvm.Cond.fieldLink "SmokeWord$Compared" (13 : Nat) "SmokeWord$Compared" "b" "LSmokeWord$Value;") ∈ lw_all := lw_g (lw_at lw_m4 8 rfl) rfl
theorem q856 : (Jvm.Cond.fieldLink "SmokeWord$Compared" (16 : Nat) "SmokeWord$Compared" "sign" "I") ∈ lw_all := lw_g (lw_at lw_m4 9 rfl) rfl
theorem q857 : (Jvm.Cond.fieldLink "SmokeWord$Compared" (20 : Nat) "SmokeWord$Compared" "same" "Z") ∈ lw_all := lw_g (lw_at lw_m4 10 rfl) rfl
theorem q858 : (Jvm.Cond.laysFinal "SmokeWord$Compared" "SmokeWord$Compared" "a" "LSmokeWord$Value;") ∈ lw_all := lw_g (lw_at lw_m4 11 rfl) rfl
theorem q859 : (Jvm.Cond.soleField "SmokeWord$Compared" "a") ∈ lw_all := lw_g (lw_at lw_m4 12 rfl) rfl
theorem q860 : (Jvm.Cond.laysFinal "SmokeWord$Compared" "SmokeWord$Compared" "b" "LSmokeWord$Value;") ∈ lw_all := lw_g (lw_at lw_m4 13 rfl) rfl
theorem q861 : (Jvm.Cond.soleField "SmokeWord$Compared" "b") ∈ lw_all := lw_g (lw_at lw_m4 14 rfl) rfl
theorem q862 : (Jvm.Cond.laysFinal "SmokeWord$Compared" "SmokeWord$Compared" "sign" "I") ∈ lw_all := lw_g (lw_at lw_m4 15 rfl) rfl
theorem q863 : (Jvm.Cond.soleField "SmokeWord$Compared" "sign") ∈ lw_all := lw_g (lw_at lw_m4 16 rfl) rfl
theorem q864 : (Jvm.Cond.laysFinal "SmokeWord$Compared" "SmokeWord$Compared" "same" "Z") ∈ lw_all := lw_g (lw_at lw_m4 17 rfl) rfl
theorem q865 : (Jvm.Cond.soleField "SmokeWord$Compared" "same") ∈ lw_all := lw_g (lw_at lw_m4 18 rfl) rfl
theorem q866 : (Jvm.Cond.superclass "SmokeWord$Compared" "SmokeWord$Condition") ∈ lw_all := lw_g (lw_at lw_m4 19 rfl) rfl
theorem q1016 : (Jvm.Cond.instanceMethod ({ cls := "SmokeWord$Compared", name := "is", desc := "([J)Z" } : Jvm.MethodName)) ∈ lw_all := lw_g (lw_at lw_m4 169 rfl) rfl
theorem q1017 : (Jvm.Cond.code ({ cls := "SmokeWord$Compared", name := "is", desc := "([J)Z" } : Jvm.MethodName) prog_4_method_2_code (6 : Nat) (Option.some Jvm.ClassFile.FieldType.boolean)) ∈ lw_all := lw_g (lw_at lw_m4 170 rfl) rfl
theorem q1018 : (Jvm.Cond.methodLink "SmokeWord$Compared" (24 : Nat) ({ cls := "SmokeWord$Value", name := "of", desc := "([J)J" } : Jvm.MethodName)) ∈ lw_all := lw_g (lw_at lw_m4 171 rfl) rfl
theorem q1034 : (Jvm.Cond.selects "SmokeWord$Compared" ({ cls := "SmokeWord$Condition", name := "is", desc := "([J)Z" } : Jvm.MethodName) ({ cls := "SmokeWord$Compared", name := "is", desc := "([J)Z" } : Jvm.MethodName)) ∈ lw_all := lw_g (lw_at lw_m4 187 rfl) rfl
theorem q1903 : (Jvm.Cond.castable "SmokeWord$Compared" "java/lang/Object") ∈ lw_tbl := lw_at lw_m8 96 rfl
theorem in_X15 : ∀ w ∈ wsX150, w ∈ lw_all := lw_in wsX150 [858, 860, 862, 864] (by decide +kernel) (by decide +kernel)
/-! SmokeWord$Both -/
set_option maxRecDepth 100000
def RX16 : String := "SmokeWord$Both"
def TX16 : u_T := fun k => match k with
  | 0 => ("SmokeWord$Both", "a", "LSmokeWord$Condition;", true)
  | 1 => ("SmokeWord$Both", "b", "LSmokeWord$Condition;", true)
  | _ => ("SmokeWord$Both", "or", "Z", true)
def tyX16 : Nat → FieldType := fun k => match k with
  | 0 => .object "SmokeWord$Condition"
  | 1 => .object "SmokeWord$Condition"
  | _ => .boolean
abbrev wsX160 : List Cond := u_ws RX16 TX16 3
theorem nmX16 : ∀ a, a < 3 → ∀ b, b < 3 → a ≠ b → (TX16 a).2.1 ≠ (TX16 b).2.1 := by decide +kernel
theorem tyX16_ok : ∀ k, k < 3 → parseFieldDescriptor (TX16 k).2.2.1 = some (tyX16 k) := by decide +kernel
abbrev cX16_init : ByteArray := prog_3_method_1_code
def yX16_init : MethodName := ⟨RX16, "<init>", "(LSmokeWord$Condition;LSmokeWord$Condition;Z)V"⟩
def dkwX16_init_0 : List UInt8 := [42, 183, 0, 1, 42, 43, 181, 0, 7, 42, 44, 181, 0, 13, 42, 29, 181, 0, 16, 177]
abbrev dktX16_init_0 : List UInt8 := dkwX16_init_0 ++ []
theorem dksX16_init_0 : cX16_init.data.toList.drop 0 = dktX16_init_0 := by decide +kernel
theorem dX16_init_0 : decode cX16_init 0 = .ok (.aload_n 0, 1) := dk_42 (dk_at dksX16_init_0 0 rfl rfl)
theorem dX16_init_1 : decode cX16_init 1 = .ok (.invokespecial 1, 3) := dk_183 0 1 (dk_at dksX16_init_0 1 rfl rfl)
theorem dX16_init_4 : decode cX16_init 4 = .ok (.aload_n 0, 1) := dk_42 (dk_at dksX16_init_0 4 rfl rfl)
theorem dX16_init_5 : decode cX16_init 5 = .ok (.aload_n 1, 1) := dk_43 (dk_at dksX16_init_0 5 rfl rfl)
theorem dX16_init_6 : decode cX16_init 6 = .ok (.putfield 7, 3) := dk_181 0 7 (dk_at dksX16_init_0 6 rfl rfl)
theorem dX16_init_9 : decode cX16_init 9 = .ok (.aload_n 0, 1) := dk_42 (dk_at dksX16_init_0 9 rfl rfl)
theorem dX16_init_10 : decode cX16_init 10 = .ok (.aload_n 2, 1) := dk_44 (dk_at dksX16_init_0 10 rfl rfl)
theorem dX16_init_11 : decode cX16_init 11 = .ok (.putfield 13, 3) := dk_181 0 13 (dk_at dksX16_init_0 11 rfl rfl)
theorem dX16_init_14 : decode cX16_init 14 = .ok (.aload_n 0, 1) := dk_42 (dk_at dksX16_init_0 14 rfl rfl)
theorem dX16_init_15 : decode cX16_init 15 = .ok (.iload_n 3, 1) := dk_29 (dk_at dksX16_init_0 15 rfl rfl)
theorem dX16_init_16 : decode cX16_init 16 = .ok (.putfield 16, 3) := dk_181 0 16 (dk_at dksX16_init_0 16 rfl rfl)
theorem dX16_init_19 : decode cX16_init 19 = .ok (.return_, 1) := dk_177 (dk_at dksX16_init_0 19 rfl rfl)
abbrev cX16_is : ByteArray := prog_3_method_2_code
def yX16_is : MethodName := ⟨RX16, "is", "([J)Z"⟩
def dkwX16_is_2 : List UInt8 := [153, 0, 18, 42, 180, 0, 13, 43, 182, 0, 20, 153, 0, 7, 4, 167, 0, 4, 3, 172]
abbrev dktX16_is_2 : List UInt8 := dkwX16_is_2 ++ []
def dkwX16_is_1 : List UInt8 := [182, 0, 20, 153, 0, 7, 4, 167, 0, 34, 3, 167, 0, 30, 42, 180, 0, 7, 43, 182, 0, 20]
abbrev dktX16_is_1 : List UInt8 := dkwX16_is_1 ++ dktX16_is_2
def dkwX16_is_0 : List UInt8 := [42, 180, 0, 16, 153, 0, 33, 42, 180, 0, 7, 43, 182, 0, 20, 154, 0, 14, 42, 180, 0, 13, 43]
abbrev dktX16_is_0 : List UInt8 := dkwX16_is_0 ++ dktX16_is_1
theorem dksX16_is_0 : cX16_is.data.toList.drop 0 = dktX16_is_0 := by decide +kernel
theorem dksX16_is_1 : cX16_is.data.toList.drop 23 = dktX16_is_1 := dk_seg dksX16_is_0 23 rfl rfl
theorem dksX16_is_2 : cX16_is.data.toList.drop 45 = dktX16_is_2 := dk_seg dksX16_is_1 22 rfl rfl
theorem dX16_is_0 : decode cX16_is 0 = .ok (.aload_n 0, 1) := dk_42 (dk_at dksX16_is_0 0 rfl rfl)
theorem dX16_is_1 : decode cX16_is 1 = .ok (.getfield 16, 3) := dk_180 0 16 (dk_at dksX16_is_0 1 rfl rfl)
theorem dX16_is_4 : decode cX16_is 4 = .ok (.ifCond .eq 33, 3) := dk_153 0 33 (dk_at dksX16_is_0 4 rfl rfl)
theorem dX16_is_7 : decode cX16_is 7 = .ok (.aload_n 0, 1) := dk_42 (dk_at dksX16_is_0 7 rfl rfl)
theorem dX16_is_8 : decode cX16_is 8 = .ok (.getfield 7, 3) := dk_180 0 7 (dk_at dksX16_is_0 8 rfl rfl)
theorem dX16_is_11 : decode cX16_is 11 = .ok (.aload_n 1, 1) := dk_43 (dk_at dksX16_is_0 11 rfl rfl)
theorem dX16_is_12 : decode cX16_is 12 = .ok (.invokevirtual 20, 3) := dk_182 0 20 (dk_at dksX16_is_0 12 rfl rfl)
theorem dX16_is_15 : decode cX16_is 15 = .ok (.ifCond .ne 14, 3) := dk_154 0 14 (dk_at dksX16_is_0 15 rfl rfl)
theorem dX16_is_18 : decode cX16_is 18 = .ok (.aload_n 0, 1) := dk_42 (dk_at dksX16_is_0 18 rfl rfl)
theorem dX16_is_19 : decode cX16_is 19 = .ok (.getfield 13, 3) := dk_180 0 13 (dk_at dksX16_is_0 19 rfl rfl)
theorem dX16_is_22 : decode cX16_is 22 = .ok (.aload_n 1, 1) := dk_43 (dk_at dksX16_is_0 22 rfl rfl)
theorem dX16_is_23 : decode cX16_is 23 = .ok (.invokevirtual 20, 3) := dk_182 0 20 (dk_at dksX16_is_1 0 rfl rfl)
theorem dX16_is_26 : decode cX16_is 26 = .ok (.ifCond .eq 7, 3) := dk_153 0 7 (dk_at dksX16_is_1 3 rfl rfl)
theorem dX16_is_29 : decode cX16_is 29 = .ok (.iconst 1, 1) := dk_4 (dk_at dksX16_is_1 6 rfl rfl)
theorem dX16_is_30 : decode cX16_is 30 = .ok (.goto 34, 3) := dk_167 0 34 (dk_at dksX16_is_1 7 rfl rfl)
theorem dX16_is_33 : decode cX16_is 33 = .ok (.iconst 0, 1) := dk_3 (dk_at dksX16_is_1 10 rfl rfl)
theorem dX16_is_34 : decode cX16_is 34 = .ok (.goto 30, 3) := dk_167 0 30 (dk_at dksX16_is_1 11 rfl rfl)
theorem dX16_is_37 : decode cX16_is 37 = .ok (.aload_n 0, 1) := dk_42 (dk_at dksX16_is_1 14 rfl rfl)
theorem dX16_is_38 : decode cX16_is 38 = .ok (.getfield 7, 3) := dk_180 0 7 (dk_at dksX16_is_1 15 rfl rfl)
theorem dX16_is_41 : decode cX16_is 41 = .ok (.aload_n 1, 1) := dk_43 (dk_at dksX16_is_1 18 rfl rfl)
theorem dX16_is_42 : decode cX16_is 42 = .ok (.invokevirtual 20, 3) := dk_182 0 20 (dk_at dksX16_is_1 19 rfl rfl)
theorem dX16_is_45 : decode cX16_is 45 = .ok (.ifCond .eq 18, 3) := dk_153 0 18 (dk_at dksX16_is_2 0 rfl rfl)
theorem dX16_is_48 : decode cX16_is 48 = .ok (.aload_n 0, 1) := dk_42 (dk_at dksX16_is_2 3 rfl rfl)
theorem dX16_is_49 : decode cX16_is 49 = .ok (.getfield 13, 3) := dk_180 0 13 (dk_at dksX16_is_2 4 rfl rfl)
theorem dX16_is_52 : decode cX16_is 52 = .ok (.aload_n 1, 1) := dk_43 (dk_at dksX16_is_2 7 rfl rfl)
theorem dX16_is_53 : decode cX16_is 53 = .ok (.invokevirtual 20, 3) := dk_182 0 20 (dk_at dksX16_is_2 8 rfl rfl)
theorem dX16_is_56 : decode cX16_is 56 = .ok (.ifCond .eq 7, 3) := dk_153 0 7 (dk_at dksX16_is_2 11 rfl rfl)
theorem dX16_is_59 : decode cX16_is 59 = .ok (.iconst 1, 1) := dk_4 (dk_at dksX16_is_2 14 rfl rfl)
theorem dX16_is_60 : decode cX16_is 60 = .ok (.goto 4, 3) := dk_167 0 4 (dk_at dksX16_is_2 15 rfl rfl)
theorem dX16_is_63 : decode cX16_is 63 = .ok (.iconst 0, 1) := dk_3 (dk_at dksX16_is_2 18 rfl rfl)
theorem dX16_is_64 : decode cX16_is 64 = .ok (.ireturn, 1) := dk_172 (dk_at dksX16_is_2 19 rfl rfl)
theorem q159 : (Jvm.Cond.initialized "SmokeWord$Both") ∈ lw_all := lw_g (lw_at lw_m1 32 rfl) rfl
theorem q654 : (Jvm.Cond.selects "SmokeWord$Both" ({ cls := "java/lang/Object", name := "getClass", desc := "()Ljava/lang/Class;" } : Jvm.MethodName) ({ cls := "java/lang/Object", name := "getClass", desc := "()Ljava/lang/Class;" } : Jvm.MethodName)) ∈ lw_all := lw_g (lw_at lw_m3 47 rfl) rfl
theorem q869 : (Jvm.Cond.instantiable "SmokeWord$Both" (3 : Nat)) ∈ lw_all := lw_g (lw_at lw_m4 22 rfl) rfl
theorem q871 : (Jvm.Cond.instanceMethod ({ cls := "SmokeWord$Both", name := "<init>", desc := "(LSmokeWord$Condition;LSmokeWord$Condition;Z)V" } : Jvm.MethodName)) ∈ lw_all := lw_g (lw_at lw_m4 24 rfl) rfl
theorem q872 : (Jvm.Cond.code ({ cls := "SmokeWord$Both", name := "<init>", desc := "(LSmokeWord$Condition;LSmokeWord$Condition;Z)V" } : Jvm.MethodName) prog_3_method_1_code (4 : Nat) (Option.none : Option Jvm.ClassFile.FieldType)) ∈ lw_all := lw_g (lw_at lw_m4 25 rfl) rfl
theorem q873 : (Jvm.Cond.methodLinkNest "SmokeWord$Both" (1 : Nat) ({ cls := "SmokeWord$Condition", name := "<init>", desc := "()V" } : Jvm.MethodName) "SmokeWord") ∈ lw_tbl := lw_at lw_m4 26 rfl
theorem q874 : (Jvm.Cond.fieldLink "SmokeWord$Both" (7 : Nat) "SmokeWord$Both" "a" "LSmokeWord$Condition;") ∈ lw_all := lw_g (lw_at lw_m4 27 rfl) rfl
theorem q875 : (Jvm.Cond.fieldLink "SmokeWord$Both" (13 : Nat) "SmokeWord$Both" "b" "LSmokeWord$Condition;") ∈ lw_all := lw_g (lw_at lw_m4 28 rfl) rfl
theorem q876 : (Jvm.Cond.fieldLink "SmokeWord$Both" (16 : Nat) "SmokeWord$Both" "or" "Z") ∈ lw_all := lw_g (lw_at lw_m4 29 rfl) rfl
theorem q877 : (Jvm.Cond.laysFinal "SmokeWord$Both" "SmokeWord$Both" "a" "LSmokeWord$Condition;") ∈ lw_all := lw_g (lw_at lw_m4 30 rfl) rfl
theorem q878 : (Jvm.Cond.soleField "SmokeWord$Both" "a") ∈ lw_all := lw_g (lw_at lw_m4 31 rfl) rfl
theorem q879 : (Jvm.Cond.laysFinal "SmokeWord$Both" "SmokeWord$Both" "b" "LSmokeWord$Condition;") ∈ lw_all := lw_g (lw_at lw_m4 32 rfl) rfl
theorem q880 : (Jvm.Cond.soleField "SmokeWord$Both" "b") ∈ lw_all := lw_g (lw_at lw_m4 33 rfl) rfl
theorem q881 : (Jvm.Cond.laysFinal "SmokeWord$Both" "SmokeWord$Both" "or" "Z") ∈ lw_all := lw_g (lw_at lw_m4 34 rfl) rfl
theorem q882 : (Jvm.Cond.soleField "SmokeWord$Both" "or") ∈ lw_all := lw_g (lw_at lw_m4 35 rfl) rfl
theorem q883 : (Jvm.Cond.superclass "SmokeWord$Both" "SmokeWord$Condition") ∈ lw_all := lw_g (lw_at lw_m4 36 rfl) rfl
theorem q1012 : (Jvm.Cond.selects "SmokeWord$Both" ({ cls := "SmokeWord$Condition", name := "is", desc := "([J)Z" } : Jvm.MethodName) ({ cls := "SmokeWord$Both", name := "is", desc := "([J)Z" } : Jvm.MethodName)) ∈ lw_all := lw_g (lw_at lw_m4 165 rfl) rfl
theorem q1013 : (Jvm.Cond.instanceMethod ({ cls := "SmokeWord$Both", name := "is", desc := "([J)Z" } : Jvm.MethodName)) ∈ lw_all := lw_g (lw_at lw_m4 166 rfl) rfl
theorem q1014 : (Jvm.Cond.code ({ cls := "SmokeWord$Both", name := "is", desc := "([J)Z" } : Jvm.MethodName) prog_3_method_2_code (2 : Nat) (Option.some Jvm.ClassFile.FieldType.boolean)) ∈ lw_all := lw_g (lw_at lw_m4 167 rfl) rfl
theorem q1015 : (Jvm.Cond.methodLink "SmokeWord$Both" (20 : Nat) ({ cls := "SmokeWord$Condition", name := "is", desc := "([J)Z" } : Jvm.MethodName)) ∈ lw_all := lw_g (lw_at lw_m4 168 rfl) rfl
theorem q1904 : (Jvm.Cond.castable "SmokeWord$Both" "java/lang/Object") ∈ lw_tbl := lw_at lw_m8 97 rfl
theorem in_X16 : ∀ w ∈ wsX160, w ∈ lw_all := lw_in wsX160 [877, 879, 881] (by decide +kernel) (by decide +kernel)
/-! SmokeWord$Image -/
set_option maxRecDepth 100000
def RX17 : String := "SmokeWord$Image"
def TX17 : u_T := fun k => match k with
  | 0 => ("SmokeWord$Image", "its", "LSmokeWord$Valley;", false)
  | 1 => ("SmokeWord$Image", "stood", "LSmokeWord$State;", true)
  | 2 => ("SmokeWord$Image", "when", "[I", true)
  | 3 => ("SmokeWord$Image", "where", "[I", true)
  | 4 => ("SmokeWord$Image", "many", "I", false)
  | 5 => ("SmokeWord$Image", "force", "I", false)
  | 6 => ("SmokeWord$Image", "x", "I", false)
  | _ => ("SmokeWord$Image", "this$0", "LSmokeWord;", true)
def tyX17 : Nat → FieldType := fun k => match k with
  | 0 => .object "SmokeWord$Valley"
  | 1 => .object "SmokeWord$State"
  | 2 => .array .int
  | 3 => .array .int
  | 4 => .int
  | 5 => .int
  | 6 => .int
  | _ => .object "SmokeWord"
abbrev wsX170 : List Cond := u_ws RX17 TX17 8
theorem nmX17 : ∀ a, a < 8 → ∀ b, b < 8 → a ≠ b → (TX17 a).2.1 ≠ (TX17 b).2.1 := by decide +kernel
theorem tyX17_ok : ∀ k, k < 8 → parseFieldDescriptor (TX17 k).2.2.1 = some (tyX17 k) := by decide +kernel
abbrev cX17_init : ByteArray := prog_7_method_1_code
def yX17_init : MethodName := ⟨RX17, "<init>", "(LSmokeWord;)V"⟩
def dkwX17_init_1 : List UInt8 := [188, 10, 181, 0, 22, 42, 16, 10, 188, 10, 181, 0, 26, 177]
abbrev dktX17_init_1 : List UInt8 := dkwX17_init_1 ++ []
def dkwX17_init_0 : List UInt8 := [42, 43, 181, 0, 3, 42, 183, 0, 9, 42, 187, 0, 15, 89, 183, 0, 17, 181, 0, 18, 42, 16, 10]
abbrev dktX17_init_0 : List UInt8 := dkwX17_init_0 ++ dktX17_init_1
theorem dksX17_init_0 : cX17_init.data.toList.drop 0 = dktX17_init_0 := by decide +kernel
theorem dksX17_init_1 : cX17_init.data.toList.drop 23 = dktX17_init_1 := dk_seg dksX17_init_0 23 rfl rfl
theorem dX17_init_0 : decode cX17_init 0 = .ok (.aload_n 0, 1) := dk_42 (dk_at dksX17_init_0 0 rfl rfl)
theorem dX17_init_1 : decode cX17_init 1 = .ok (.aload_n 1, 1) := dk_43 (dk_at dksX17_init_0 1 rfl rfl)
theorem dX17_init_2 : decode cX17_init 2 = .ok (.putfield 3, 3) := dk_181 0 3 (dk_at dksX17_init_0 2 rfl rfl)
theorem dX17_init_5 : decode cX17_init 5 = .ok (.aload_n 0, 1) := dk_42 (dk_at dksX17_init_0 5 rfl rfl)
theorem dX17_init_6 : decode cX17_init 6 = .ok (.invokespecial 9, 3) := dk_183 0 9 (dk_at dksX17_init_0 6 rfl rfl)
theorem dX17_init_9 : decode cX17_init 9 = .ok (.aload_n 0, 1) := dk_42 (dk_at dksX17_init_0 9 rfl rfl)
theorem dX17_init_10 : decode cX17_init 10 = .ok (.new 15, 3) := dk_187 0 15 (dk_at dksX17_init_0 10 rfl rfl)
theorem dX17_init_13 : decode cX17_init 13 = .ok (.dup, 1) := dk_89 (dk_at dksX17_init_0 13 rfl rfl)
theorem dX17_init_14 : decode cX17_init 14 = .ok (.invokespecial 17, 3) := dk_183 0 17 (dk_at dksX17_init_0 14 rfl rfl)
theorem dX17_init_17 : decode cX17_init 17 = .ok (.putfield 18, 3) := dk_181 0 18 (dk_at dksX17_init_0 17 rfl rfl)
theorem dX17_init_20 : decode cX17_init 20 = .ok (.aload_n 0, 1) := dk_42 (dk_at dksX17_init_0 20 rfl rfl)
theorem dX17_init_21 : decode cX17_init 21 = .ok (.bipush 10, 2) := dk_16 10 (dk_at dksX17_init_0 21 rfl rfl)
theorem dX17_init_23 : decode cX17_init 23 = .ok (.newarray .int, 2) := dk_188_10 (dk_at dksX17_init_1 0 rfl rfl)
theorem dX17_init_25 : decode cX17_init 25 = .ok (.putfield 22, 3) := dk_181 0 22 (dk_at dksX17_init_1 2 rfl rfl)
theorem dX17_init_28 : decode cX17_init 28 = .ok (.aload_n 0, 1) := dk_42 (dk_at dksX17_init_1 5 rfl rfl)
theorem dX17_init_29 : decode cX17_init 29 = .ok (.bipush 10, 2) := dk_16 10 (dk_at dksX17_init_1 6 rfl rfl)
theorem dX17_init_31 : decode cX17_init 31 = .ok (.newarray .int, 2) := dk_188_10 (dk_at dksX17_init_1 8 rfl rfl)
theorem dX17_init_33 : decode cX17_init 33 = .ok (.putfield 26, 3) := dk_181 0 26 (dk_at dksX17_init_1 10 rfl rfl)
theorem dX17_init_36 : decode cX17_init 36 = .ok (.return_, 1) := dk_177 (dk_at dksX17_init_1 13 rfl rfl)
abbrev cX17_keep : ByteArray := prog_7_method_2_code
def yX17_keep : MethodName := ⟨RX17, "keep", "()V"⟩
def dkwX17_keep_4 : List UInt8 := [180, 0, 3, 180, 0, 62, 181, 0, 65, 177]
abbrev dktX17_keep_4 : List UInt8 := dkwX17_keep_4 ++ []
def dkwX17_keep_3 : List UInt8 := [42, 180, 0, 3, 180, 0, 49, 181, 0, 53, 42, 42, 180, 0, 3, 180, 0, 56, 181, 0, 59, 42, 42]
abbrev dktX17_keep_3 : List UInt8 := dkwX17_keep_3 ++ dktX17_keep_4
def dkwX17_keep_2 : List UInt8 := [46, 79, 42, 180, 0, 26, 27, 42, 180, 0, 3, 180, 0, 46, 27, 46, 79, 132, 1, 1, 167, 255, 217, 42]
abbrev dktX17_keep_2 : List UInt8 := dkwX17_keep_2 ++ dktX17_keep_3
def dkwX17_keep_1 : List UInt8 := [182, 0, 39, 3, 60, 27, 16, 10, 162, 0, 39, 42, 180, 0, 22, 27, 42, 180, 0, 3, 180, 0, 43, 27]
abbrev dktX17_keep_1 : List UInt8 := dkwX17_keep_1 ++ dktX17_keep_2
def dkwX17_keep_0 : List UInt8 := [42, 42, 180, 0, 3, 180, 0, 29, 181, 0, 33, 42, 180, 0, 18, 42, 180, 0, 3, 180, 0, 36]
abbrev dktX17_keep_0 : List UInt8 := dkwX17_keep_0 ++ dktX17_keep_1
theorem dksX17_keep_0 : cX17_keep.data.toList.drop 0 = dktX17_keep_0 := by decide +kernel
theorem dksX17_keep_1 : cX17_keep.data.toList.drop 22 = dktX17_keep_1 := dk_seg dksX17_keep_0 22 rfl rfl
theorem dksX17_keep_2 : cX17_keep.data.toList.drop 46 = dktX17_keep_2 := dk_seg dksX17_keep_1 24 rfl rfl
theorem dksX17_keep_3 : cX17_keep.data.toList.drop 70 = dktX17_keep_3 := dk_seg dksX17_keep_2 24 rfl rfl
theorem dksX17_keep_4 : cX17_keep.data.toList.drop 93 = dktX17_keep_4 := dk_seg dksX17_keep_3 23 rfl rfl
theorem dX17_keep_0 : decode cX17_keep 0 = .ok (.aload_n 0, 1) := dk_42 (dk_at dksX17_keep_0 0 rfl rfl)
theorem dX17_keep_1 : decode cX17_keep 1 = .ok (.aload_n 0, 1) := dk_42 (dk_at dksX17_keep_0 1 rfl rfl)
theorem dX17_keep_2 : decode cX17_keep 2 = .ok (.getfield 3, 3) := dk_180 0 3 (dk_at dksX17_keep_0 2 rfl rfl)
theorem dX17_keep_5 : decode cX17_keep 5 = .ok (.getfield 29, 3) := dk_180 0 29 (dk_at dksX17_keep_0 5 rfl rfl)
theorem dX17_keep_8 : decode cX17_keep 8 = .ok (.putfield 33, 3) := dk_181 0 33 (dk_at dksX17_keep_0 8 rfl rfl)
theorem dX17_keep_11 : decode cX17_keep 11 = .ok (.aload_n 0, 1) := dk_42 (dk_at dksX17_keep_0 11 rfl rfl)
theorem dX17_keep_12 : decode cX17_keep 12 = .ok (.getfield 18, 3) := dk_180 0 18 (dk_at dksX17_keep_0 12 rfl rfl)
theorem dX17_keep_15 : decode cX17_keep 15 = .ok (.aload_n 0, 1) := dk_42 (dk_at dksX17_keep_0 15 rfl rfl)
theorem dX17_keep_16 : decode cX17_keep 16 = .ok (.getfield 3, 3) := dk_180 0 3 (dk_at dksX17_keep_0 16 rfl rfl)
theorem dX17_keep_19 : decode cX17_keep 19 = .ok (.getfield 36, 3) := dk_180 0 36 (dk_at dksX17_keep_0 19 rfl rfl)
theorem dX17_keep_22 : decode cX17_keep 22 = .ok (.invokevirtual 39, 3) := dk_182 0 39 (dk_at dksX17_keep_1 0 rfl rfl)
theorem dX17_keep_25 : decode cX17_keep 25 = .ok (.iconst 0, 1) := dk_3 (dk_at dksX17_keep_1 3 rfl rfl)
theorem dX17_keep_26 : decode cX17_keep 26 = .ok (.istore_n 1, 1) := dk_60 (dk_at dksX17_keep_1 4 rfl rfl)
theorem dX17_keep_27 : decode cX17_keep 27 = .ok (.iload_n 1, 1) := dk_27 (dk_at dksX17_keep_1 5 rfl rfl)
theorem dX17_keep_28 : decode cX17_keep 28 = .ok (.bipush 10, 2) := dk_16 10 (dk_at dksX17_keep_1 6 rfl rfl)
theorem dX17_keep_30 : decode cX17_keep 30 = .ok (.if_icmp .ge 39, 3) := dk_162 0 39 (dk_at dksX17_keep_1 8 rfl rfl)
theorem dX17_keep_33 : decode cX17_keep 33 = .ok (.aload_n 0, 1) := dk_42 (dk_at dksX17_keep_1 11 rfl rfl)
theorem dX17_keep_34 : decode cX17_keep 34 = .ok (.getfield 22, 3) := dk_180 0 22 (dk_at dksX17_keep_1 12 rfl rfl)
theorem dX17_keep_37 : decode cX17_keep 37 = .ok (.iload_n 1, 1) := dk_27 (dk_at dksX17_keep_1 15 rfl rfl)
theorem dX17_keep_38 : decode cX17_keep 38 = .ok (.aload_n 0, 1) := dk_42 (dk_at dksX17_keep_1 16 rfl rfl)
theorem dX17_keep_39 : decode cX17_keep 39 = .ok (.getfield 3, 3) := dk_180 0 3 (dk_at dksX17_keep_1 17 rfl rfl)
theorem dX17_keep_42 : decode cX17_keep 42 = .ok (.getfield 43, 3) := dk_180 0 43 (dk_at dksX17_keep_1 20 rfl rfl)
theorem dX17_keep_45 : decode cX17_keep 45 = .ok (.iload_n 1, 1) := dk_27 (dk_at dksX17_keep_1 23 rfl rfl)
theorem dX17_keep_46 : decode cX17_keep 46 = .ok (.iaload, 1) := dk_46 (dk_at dksX17_keep_2 0 rfl rfl)
theorem dX17_keep_47 : decode cX17_keep 47 = .ok (.iastore, 1) := dk_79 (dk_at dksX17_keep_2 1 rfl rfl)
theorem dX17_keep_48 : decode cX17_keep 48 = .ok (.aload_n 0, 1) := dk_42 (dk_at dksX17_keep_2 2 rfl rfl)
theorem dX17_keep_49 : decode cX17_keep 49 = .ok (.getfield 26, 3) := dk_180 0 26 (dk_at dksX17_keep_2 3 rfl rfl)
theorem dX17_keep_52 : decode cX17_keep 52 = .ok (.iload_n 1, 1) := dk_27 (dk_at dksX17_keep_2 6 rfl rfl)
theorem dX17_keep_53 : decode cX17_keep 53 = .ok (.aload_n 0, 1) := dk_42 (dk_at dksX17_keep_2 7 rfl rfl)
theorem dX17_keep_54 : decode cX17_keep 54 = .ok (.getfield 3, 3) := dk_180 0 3 (dk_at dksX17_keep_2 8 rfl rfl)
theorem dX17_keep_57 : decode cX17_keep 57 = .ok (.getfield 46, 3) := dk_180 0 46 (dk_at dksX17_keep_2 11 rfl rfl)
theorem dX17_keep_60 : decode cX17_keep 60 = .ok (.iload_n 1, 1) := dk_27 (dk_at dksX17_keep_2 14 rfl rfl)
theorem dX17_keep_61 : decode cX17_keep 61 = .ok (.iaload, 1) := dk_46 (dk_at dksX17_keep_2 15 rfl rfl)
theorem dX17_keep_62 : decode cX17_keep 62 = .ok (.iastore, 1) := dk_79 (dk_at dksX17_keep_2 16 rfl rfl)
theorem dX17_keep_63 : decode cX17_keep 63 = .ok (.iinc 1 1, 3) := dk_132 1 1 (dk_at dksX17_keep_2 17 rfl rfl)
theorem dX17_keep_66 : decode cX17_keep 66 = .ok (.goto (-39), 3) := dk_167 255 217 (dk_at dksX17_keep_2 20 rfl rfl)
theorem dX17_keep_69 : decode cX17_keep 69 = .ok (.aload_n 0, 1) := dk_42 (dk_at dksX17_keep_2 23 rfl rfl)
theorem dX17_keep_70 : decode cX17_keep 70 = .ok (.aload_n 0, 1) := dk_42 (dk_at dksX17_keep_3 0 rfl rfl)
theorem dX17_keep_71 : decode cX17_keep 71 = .ok (.getfield 3, 3) := dk_180 0 3 (dk_at dksX17_keep_3 1 rfl rfl)
theorem dX17_keep_74 : decode cX17_keep 74 = .ok (.getfield 49, 3) := dk_180 0 49 (dk_at dksX17_keep_3 4 rfl rfl)
theorem dX17_keep_77 : decode cX17_keep 77 = .ok (.putfield 53, 3) := dk_181 0 53 (dk_at dksX17_keep_3 7 rfl rfl)
theorem dX17_keep_80 : decode cX17_keep 80 = .ok (.aload_n 0, 1) := dk_42 (dk_at dksX17_keep_3 10 rfl rfl)
theorem dX17_keep_81 : decode cX17_keep 81 = .ok (.aload_n 0, 1) := dk_42 (dk_at dksX17_keep_3 11 rfl rfl)
theorem dX17_keep_82 : decode cX17_keep 82 = .ok (.getfield 3, 3) := dk_180 0 3 (dk_at dksX17_keep_3 12 rfl rfl)
theorem dX17_keep_85 : decode cX17_keep 85 = .ok (.getfield 56, 3) := dk_180 0 56 (dk_at dksX17_keep_3 15 rfl rfl)
theorem dX17_keep_88 : decode cX17_keep 88 = .ok (.putfield 59, 3) := dk_181 0 59 (dk_at dksX17_keep_3 18 rfl rfl)
theorem dX17_keep_91 : decode cX17_keep 91 = .ok (.aload_n 0, 1) := dk_42 (dk_at dksX17_keep_3 21 rfl rfl)
theorem dX17_keep_92 : decode cX17_keep 92 = .ok (.aload_n 0, 1) := dk_42 (dk_at dksX17_keep_3 22 rfl rfl)
theorem dX17_keep_93 : decode cX17_keep 93 = .ok (.getfield 3, 3) := dk_180 0 3 (dk_at dksX17_keep_4 0 rfl rfl)
theorem dX17_keep_96 : decode cX17_keep 96 = .ok (.getfield 62, 3) := dk_180 0 62 (dk_at dksX17_keep_4 3 rfl rfl)
theorem dX17_keep_99 : decode cX17_keep 99 = .ok (.putfield 65, 3) := dk_181 0 65 (dk_at dksX17_keep_4 6 rfl rfl)
theorem dX17_keep_102 : decode cX17_keep 102 = .ok (.return_, 1) := dk_177 (dk_at dksX17_keep_4 9 rfl rfl)
abbrev cX17_back : ByteArray := prog_7_method_3_code
def yX17_back : MethodName := ⟨RX17, "back", "()V"⟩
def dkwX17_back_4 : List UInt8 := [180, 0, 3, 42, 180, 0, 65, 181, 0, 62, 42, 180, 0, 3, 3, 181, 0, 68, 177]
abbrev dktX17_back_4 : List UInt8 := dkwX17_back_4 ++ []
def dkwX17_back_3 : List UInt8 := [180, 0, 3, 42, 180, 0, 53, 181, 0, 49, 42, 180, 0, 3, 42, 180, 0, 59, 181, 0, 56, 42]
abbrev dktX17_back_3 : List UInt8 := dkwX17_back_3 ++ dktX17_back_4
def dkwX17_back_2 : List UInt8 := [46, 79, 42, 180, 0, 3, 180, 0, 46, 27, 42, 180, 0, 26, 27, 46, 79, 132, 1, 1, 167, 255, 217, 42]
abbrev dktX17_back_2 : List UInt8 := dkwX17_back_2 ++ dktX17_back_3
def dkwX17_back_1 : List UInt8 := [182, 0, 39, 3, 60, 27, 16, 10, 162, 0, 39, 42, 180, 0, 3, 180, 0, 43, 27, 42, 180, 0, 22, 27]
abbrev dktX17_back_1 : List UInt8 := dkwX17_back_1 ++ dktX17_back_2
def dkwX17_back_0 : List UInt8 := [42, 180, 0, 3, 42, 180, 0, 33, 181, 0, 29, 42, 180, 0, 3, 180, 0, 36, 42, 180, 0, 18]
abbrev dktX17_back_0 : List UInt8 := dkwX17_back_0 ++ dktX17_back_1
theorem dksX17_back_0 : cX17_back.data.toList.drop 0 = dktX17_back_0 := by decide +kernel
theorem dksX17_back_1 : cX17_back.data.toList.drop 22 = dktX17_back_1 := dk_seg dksX17_back_0 22 rfl rfl
theorem dksX17_back_2 : cX17_back.data.toList.drop 46 = dktX17_back_2 := dk_seg dksX17_back_1 24 rfl rfl
theorem dksX17_back_3 : cX17_back.data.toList.drop 70 = dktX17_back_3 := dk_seg dksX17_back_2 24 rfl rfl
theorem dksX17_back_4 : cX17_back.data.toList.drop 92 = dktX17_back_4 := dk_seg dksX17_back_3 22 rfl rfl
theorem dX17_back_0 : decode cX17_back 0 = .ok (.aload_n 0, 1) := dk_42 (dk_at dksX17_back_0 0 rfl rfl)
theorem dX17_back_1 : decode cX17_back 1 = .ok (.getfield 3, 3) := dk_180 0 3 (dk_at dksX17_back_0 1 rfl rfl)
theorem dX17_back_4 : decode cX17_back 4 = .ok (.aload_n 0, 1) := dk_42 (dk_at dksX17_back_0 4 rfl rfl)
theorem dX17_back_5 : decode cX17_back 5 = .ok (.getfield 33, 3) := dk_180 0 33 (dk_at dksX17_back_0 5 rfl rfl)
theorem dX17_back_8 : decode cX17_back 8 = .ok (.putfield 29, 3) := dk_181 0 29 (dk_at dksX17_back_0 8 rfl rfl)
theorem dX17_back_11 : decode cX17_back 11 = .ok (.aload_n 0, 1) := dk_42 (dk_at dksX17_back_0 11 rfl rfl)
theorem dX17_back_12 : decode cX17_back 12 = .ok (.getfield 3, 3) := dk_180 0 3 (dk_at dksX17_back_0 12 rfl rfl)
theorem dX17_back_15 : decode cX17_back 15 = .ok (.getfield 36, 3) := dk_180 0 36 (dk_at dksX17_back_0 15 rfl rfl)
theorem dX17_back_18 : decode cX17_back 18 = .ok (.aload_n 0, 1) := dk_42 (dk_at dksX17_back_0 18 rfl rfl)
theorem dX17_back_19 : decode cX17_back 19 = .ok (.getfield 18, 3) := dk_180 0 18 (dk_at dksX17_back_0 19 rfl rfl)
theorem dX17_back_22 : decode cX17_back 22 = .ok (.invokevirtual 39, 3) := dk_182 0 39 (dk_at dksX17_back_1 0 rfl rfl)
theorem dX17_back_25 : decode cX17_back 25 = .ok (.iconst 0, 1) := dk_3 (dk_at dksX17_back_1 3 rfl rfl)
theorem dX17_back_26 : decode cX17_back 26 = .ok (.istore_n 1, 1) := dk_60 (dk_at dksX17_back_1 4 rfl rfl)
theorem dX17_back_27 : decode cX17_back 27 = .ok (.iload_n 1, 1) := dk_27 (dk_at dksX17_back_1 5 rfl rfl)
theorem dX17_back_28 : decode cX17_back 28 = .ok (.bipush 10, 2) := dk_16 10 (dk_at dksX17_back_1 6 rfl rfl)
theorem dX17_back_30 : decode cX17_back 30 = .ok (.if_icmp .ge 39, 3) := dk_162 0 39 (dk_at dksX17_back_1 8 rfl rfl)
theorem dX17_back_33 : decode cX17_back 33 = .ok (.aload_n 0, 1) := dk_42 (dk_at dksX17_back_1 11 rfl rfl)
theorem dX17_back_34 : decode cX17_back 34 = .ok (.getfield 3, 3) := dk_180 0 3 (dk_at dksX17_back_1 12 rfl rfl)
theorem dX17_back_37 : decode cX17_back 37 = .ok (.getfield 43, 3) := dk_180 0 43 (dk_at dksX17_back_1 15 rfl rfl)
theorem dX17_back_40 : decode cX17_back 40 = .ok (.iload_n 1, 1) := dk_27 (dk_at dksX17_back_1 18 rfl rfl)
theorem dX17_back_41 : decode cX17_back 41 = .ok (.aload_n 0, 1) := dk_42 (dk_at dksX17_back_1 19 rfl rfl)
theorem dX17_back_42 : decode cX17_back 42 = .ok (.getfield 22, 3) := dk_180 0 22 (dk_at dksX17_back_1 20 rfl rfl)
theorem dX17_back_45 : decode cX17_back 45 = .ok (.iload_n 1, 1) := dk_27 (dk_at dksX17_back_1 23 rfl rfl)
theorem dX17_back_46 : decode cX17_back 46 = .ok (.iaload, 1) := dk_46 (dk_at dksX17_back_2 0 rfl rfl)
theorem dX17_back_47 : decode cX17_back 47 = .ok (.iastore, 1) := dk_79 (dk_at dksX17_back_2 1 rfl rfl)
theorem dX17_back_48 : decode cX17_back 48 = .ok (.aload_n 0, 1) := dk_42 (dk_at dksX17_back_2 2 rfl rfl)
theorem dX17_back_49 : decode cX17_back 49 = .ok (.getfield 3, 3) := dk_180 0 3 (dk_at dksX17_back_2 3 rfl rfl)
theorem dX17_back_52 : decode cX17_back 52 = .ok (.getfield 46, 3) := dk_180 0 46 (dk_at dksX17_back_2 6 rfl rfl)
theorem dX17_back_55 : decode cX17_back 55 = .ok (.iload_n 1, 1) := dk_27 (dk_at dksX17_back_2 9 rfl rfl)
theorem dX17_back_56 : decode cX17_back 56 = .ok (.aload_n 0, 1) := dk_42 (dk_at dksX17_back_2 10 rfl rfl)
theorem dX17_back_57 : decode cX17_back 57 = .ok (.getfield 26, 3) := dk_180 0 26 (dk_at dksX17_back_2 11 rfl rfl)
theorem dX17_back_60 : decode cX17_back 60 = .ok (.iload_n 1, 1) := dk_27 (dk_at dksX17_back_2 14 rfl rfl)
theorem dX17_back_61 : decode cX17_back 61 = .ok (.iaload, 1) := dk_46 (dk_at dksX17_back_2 15 rfl rfl)
theorem dX17_back_62 : decode cX17_back 62 = .ok (.iastore, 1) := dk_79 (dk_at dksX17_back_2 16 rfl rfl)
theorem dX17_back_63 : decode cX17_back 63 = .ok (.iinc 1 1, 3) := dk_132 1 1 (dk_at dksX17_back_2 17 rfl rfl)
theorem dX17_back_66 : decode cX17_back 66 = .ok (.goto (-39), 3) := dk_167 255 217 (dk_at dksX17_back_2 20 rfl rfl)
theorem dX17_back_69 : decode cX17_back 69 = .ok (.aload_n 0, 1) := dk_42 (dk_at dksX17_back_2 23 rfl rfl)
theorem dX17_back_70 : decode cX17_back 70 = .ok (.getfield 3, 3) := dk_180 0 3 (dk_at dksX17_back_3 0 rfl rfl)
theorem dX17_back_73 : decode cX17_back 73 = .ok (.aload_n 0, 1) := dk_42 (dk_at dksX17_back_3 3 rfl rfl)
theorem dX17_back_74 : decode cX17_back 74 = .ok (.getfield 53, 3) := dk_180 0 53 (dk_at dksX17_back_3 4 rfl rfl)
theorem dX17_back_77 : decode cX17_back 77 = .ok (.putfield 49, 3) := dk_181 0 49 (dk_at dksX17_back_3 7 rfl rfl)
theorem dX17_back_80 : decode cX17_back 80 = .ok (.aload_n 0, 1) := dk_42 (dk_at dksX17_back_3 10 rfl rfl)
theorem dX17_back_81 : decode cX17_back 81 = .ok (.getfield 3, 3) := dk_180 0 3 (dk_at dksX17_back_3 11 rfl rfl)
theorem dX17_back_84 : decode cX17_back 84 = .ok (.aload_n 0, 1) := dk_42 (dk_at dksX17_back_3 14 rfl rfl)
theorem dX17_back_85 : decode cX17_back 85 = .ok (.getfield 59, 3) := dk_180 0 59 (dk_at dksX17_back_3 15 rfl rfl)
theorem dX17_back_88 : decode cX17_back 88 = .ok (.putfield 56, 3) := dk_181 0 56 (dk_at dksX17_back_3 18 rfl rfl)
theorem dX17_back_91 : decode cX17_back 91 = .ok (.aload_n 0, 1) := dk_42 (dk_at dksX17_back_3 21 rfl rfl)
theorem dX17_back_92 : decode cX17_back 92 = .ok (.getfield 3, 3) := dk_180 0 3 (dk_at dksX17_back_4 0 rfl rfl)
theorem dX17_back_95 : decode cX17_back 95 = .ok (.aload_n 0, 1) := dk_42 (dk_at dksX17_back_4 3 rfl rfl)
theorem dX17_back_96 : decode cX17_back 96 = .ok (.getfield 65, 3) := dk_180 0 65 (dk_at dksX17_back_4 4 rfl rfl)
theorem dX17_back_99 : decode cX17_back 99 = .ok (.putfield 62, 3) := dk_181 0 62 (dk_at dksX17_back_4 7 rfl rfl)
theorem dX17_back_102 : decode cX17_back 102 = .ok (.aload_n 0, 1) := dk_42 (dk_at dksX17_back_4 10 rfl rfl)
theorem dX17_back_103 : decode cX17_back 103 = .ok (.getfield 3, 3) := dk_180 0 3 (dk_at dksX17_back_4 11 rfl rfl)
theorem dX17_back_106 : decode cX17_back 106 = .ok (.iconst 0, 1) := dk_3 (dk_at dksX17_back_4 14 rfl rfl)
theorem dX17_back_107 : decode cX17_back 107 = .ok (.putfield 68, 3) := dk_181 0 68 (dk_at dksX17_back_4 15 rfl rfl)
theorem dX17_back_110 : decode cX17_back 110 = .ok (.return_, 1) := dk_177 (dk_at dksX17_back_4 18 rfl rfl)
theorem q161 : (Jvm.Cond.initialized "SmokeWord$Image") ∈ lw_all := lw_g (lw_at lw_m1 34 rfl) rfl
theorem q347 : (Jvm.Cond.fieldLinkNest "SmokeWord$Image" (29 : Nat) "SmokeWord" "valley" "LSmokeWord$Valley;" "SmokeWord") ∈ lw_tbl := lw_at lw_m1 220 rfl
theorem q349 : (Jvm.Cond.fieldLinkNest "SmokeWord$Image" (36 : Nat) "SmokeWord" "state" "LSmokeWord$State;" "SmokeWord") ∈ lw_tbl := lw_at lw_m1 222 rfl
theorem q354 : (Jvm.Cond.fieldLinkNest "SmokeWord$Image" (56 : Nat) "SmokeWord" "inForce" "I" "SmokeWord") ∈ lw_tbl := lw_at lw_m1 227 rfl
theorem q361 : (Jvm.Cond.fieldLinkNest "SmokeWord$Image" (43 : Nat) "SmokeWord" "noteWhen" "[I" "SmokeWord") ∈ lw_tbl := lw_at lw_m1 234 rfl
theorem q363 : (Jvm.Cond.fieldLinkNest "SmokeWord$Image" (46 : Nat) "SmokeWord" "noteWhere" "[I" "SmokeWord") ∈ lw_tbl := lw_at lw_m1 236 rfl
theorem q365 : (Jvm.Cond.fieldLinkNest "SmokeWord$Image" (49 : Nat) "SmokeWord" "notes" "I" "SmokeWord") ∈ lw_tbl := lw_at lw_m1 238 rfl
theorem q367 : (Jvm.Cond.fieldLinkNest "SmokeWord$Image" (62 : Nat) "SmokeWord" "draw" "I" "SmokeWord") ∈ lw_tbl := lw_at lw_m2 0 rfl
theorem q377 : (Jvm.Cond.fieldLinkNest "SmokeWord$Image" (68 : Nat) "SmokeWord" "pastMany" "I" "SmokeWord") ∈ lw_tbl := lw_at lw_m2 10 rfl
theorem q657 : (Jvm.Cond.selects "SmokeWord$Image" ({ cls := "java/lang/Object", name := "getClass", desc := "()Ljava/lang/Class;" } : Jvm.MethodName) ({ cls := "java/lang/Object", name := "getClass", desc := "()Ljava/lang/Class;" } : Jvm.MethodName)) ∈ lw_all := lw_g (lw_at lw_m3 50 rfl) rfl
theorem q1208 : (Jvm.Cond.instantiable "SmokeWord$Image" (8 : Nat)) ∈ lw_all := lw_g (lw_at lw_m5 121 rfl) rfl
theorem q1210 : (Jvm.Cond.instanceMethod ({ cls := "SmokeWord$Image", name := "<init>", desc := "(LSmokeWord;)V" } : Jvm.MethodName)) ∈ lw_all := lw_g (lw_at lw_m5 123 rfl) rfl
theorem q1211 : (Jvm.Cond.code ({ cls := "SmokeWord$Image", name := "<init>", desc := "(LSmokeWord;)V" } : Jvm.MethodName) prog_7_method_1_code (2 : Nat) (Option.none : Option Jvm.ClassFile.FieldType)) ∈ lw_all := lw_g (lw_at lw_m5 124 rfl) rfl
theorem q1212 : (Jvm.Cond.methodLink "SmokeWord$Image" (9 : Nat) ({ cls := "java/lang/Object", name := "<init>", desc := "()V" } : Jvm.MethodName)) ∈ lw_all := lw_g (lw_at lw_m5 125 rfl) rfl
theorem q1213 : (Jvm.Cond.classLink "SmokeWord$Image" (15 : Nat) "SmokeWord$State") ∈ lw_all := lw_g (lw_at lw_m5 126 rfl) rfl
theorem q1214 : (Jvm.Cond.methodLinkNest "SmokeWord$Image" (17 : Nat) ({ cls := "SmokeWord$State", name := "<init>", desc := "()V" } : Jvm.MethodName) "SmokeWord") ∈ lw_tbl := lw_at lw_m5 127 rfl
theorem q1215 : (Jvm.Cond.fieldLink "SmokeWord$Image" (33 : Nat) "SmokeWord$Image" "its" "LSmokeWord$Valley;") ∈ lw_all := lw_g (lw_at lw_m5 128 rfl) rfl
theorem q1216 : (Jvm.Cond.fieldLink "SmokeWord$Image" (18 : Nat) "SmokeWord$Image" "stood" "LSmokeWord$State;") ∈ lw_all := lw_g (lw_at lw_m5 129 rfl) rfl
theorem q1217 : (Jvm.Cond.fieldLink "SmokeWord$Image" (22 : Nat) "SmokeWord$Image" "when" "[I") ∈ lw_all := lw_g (lw_at lw_m5 130 rfl) rfl
theorem q1218 : (Jvm.Cond.fieldLink "SmokeWord$Image" (26 : Nat) "SmokeWord$Image" "where" "[I") ∈ lw_all := lw_g (lw_at lw_m5 131 rfl) rfl
theorem q1219 : (Jvm.Cond.fieldLink "SmokeWord$Image" (53 : Nat) "SmokeWord$Image" "many" "I") ∈ lw_all := lw_g (lw_at lw_m5 132 rfl) rfl
theorem q1220 : (Jvm.Cond.fieldLink "SmokeWord$Image" (59 : Nat) "SmokeWord$Image" "force" "I") ∈ lw_all := lw_g (lw_at lw_m5 133 rfl) rfl
theorem q1221 : (Jvm.Cond.fieldLink "SmokeWord$Image" (65 : Nat) "SmokeWord$Image" "x" "I") ∈ lw_all := lw_g (lw_at lw_m5 134 rfl) rfl
theorem q1222 : (Jvm.Cond.fieldLink "SmokeWord$Image" (3 : Nat) "SmokeWord$Image" "this$0" "LSmokeWord;") ∈ lw_all := lw_g (lw_at lw_m5 135 rfl) rfl
theorem q1223 : (Jvm.Cond.lays "SmokeWord$Image" "SmokeWord$Image" "its" "LSmokeWord$Valley;") ∈ lw_all := lw_g (lw_at lw_m5 136 rfl) rfl
theorem q1224 : (Jvm.Cond.soleField "SmokeWord$Image" "its") ∈ lw_all := lw_g (lw_at lw_m5 137 rfl) rfl
theorem q1225 : (Jvm.Cond.laysFinal "SmokeWord$Image" "SmokeWord$Image" "stood" "LSmokeWord$State;") ∈ lw_all := lw_g (lw_at lw_m5 138 rfl) rfl
theorem q1226 : (Jvm.Cond.soleField "SmokeWord$Image" "stood") ∈ lw_all := lw_g (lw_at lw_m5 139 rfl) rfl
theorem q1227 : (Jvm.Cond.laysFinal "SmokeWord$Image" "SmokeWord$Image" "when" "[I") ∈ lw_all := lw_g (lw_at lw_m5 140 rfl) rfl
theorem q1228 : (Jvm.Cond.soleField "SmokeWord$Image" "when") ∈ lw_all := lw_g (lw_at lw_m5 141 rfl) rfl
theorem q1229 : (Jvm.Cond.laysFinal "SmokeWord$Image" "SmokeWord$Image" "where" "[I") ∈ lw_all := lw_g (lw_at lw_m5 142 rfl) rfl
theorem q1230 : (Jvm.Cond.soleField "SmokeWord$Image" "where") ∈ lw_all := lw_g (lw_at lw_m5 143 rfl) rfl
theorem q1231 : (Jvm.Cond.lays "SmokeWord$Image" "SmokeWord$Image" "many" "I") ∈ lw_all := lw_g (lw_at lw_m5 144 rfl) rfl
theorem q1232 : (Jvm.Cond.soleField "SmokeWord$Image" "many") ∈ lw_all := lw_g (lw_at lw_m5 145 rfl) rfl
theorem q1233 : (Jvm.Cond.lays "SmokeWord$Image" "SmokeWord$Image" "force" "I") ∈ lw_all := lw_g (lw_at lw_m5 146 rfl) rfl
theorem q1234 : (Jvm.Cond.soleField "SmokeWord$Image" "force") ∈ lw_all := lw_g (lw_at lw_m5 147 rfl) rfl
theorem q1235 : (Jvm.Cond.lays "SmokeWord$Image" "SmokeWord$Image" "x" "I") ∈ lw_all := lw_g (lw_at lw_m5 148 rfl) rfl
theorem q1236 : (Jvm.Cond.soleField "SmokeWord$Image" "x") ∈ lw_all := lw_g (lw_at lw_m5 149 rfl) rfl
theorem q1237 : (Jvm.Cond.laysFinal "SmokeWord$Image" "SmokeWord$Image" "this$0" "LSmokeWord;") ∈ lw_all := lw_g (lw_at lw_m5 150 rfl) rfl
theorem q1238 : (Jvm.Cond.soleField "SmokeWord$Image" "this$0") ∈ lw_all := lw_g (lw_at lw_m5 151 rfl) rfl
theorem q1239 : (Jvm.Cond.superclass "SmokeWord$Image" "java/lang/Object") ∈ lw_all := lw_g (lw_at lw_m5 152 rfl) rfl
theorem q1241 : (Jvm.Cond.instanceMethod ({ cls := "SmokeWord$Image", name := "keep", desc := "()V" } : Jvm.MethodName)) ∈ lw_all := lw_g (lw_at lw_m5 154 rfl) rfl
theorem q1242 : (Jvm.Cond.selects "SmokeWord$Image" ({ cls := "SmokeWord$Image", name := "keep", desc := "()V" } : Jvm.MethodName) ({ cls := "SmokeWord$Image", name := "keep", desc := "()V" } : Jvm.MethodName)) ∈ lw_all := lw_g (lw_at lw_m5 155 rfl) rfl
theorem q1243 : (Jvm.Cond.code ({ cls := "SmokeWord$Image", name := "keep", desc := "()V" } : Jvm.MethodName) prog_7_method_2_code (2 : Nat) (Option.none : Option Jvm.ClassFile.FieldType)) ∈ lw_all := lw_g (lw_at lw_m5 156 rfl) rfl
theorem q1244 : (Jvm.Cond.methodLink "SmokeWord$Image" (39 : Nat) ({ cls := "SmokeWord$State", name := "copyFrom", desc := "(LSmokeWord$State;)V" } : Jvm.MethodName)) ∈ lw_all := lw_g (lw_at lw_m5 157 rfl) rfl
theorem q1250 : (Jvm.Cond.instanceMethod ({ cls := "SmokeWord$Image", name := "back", desc := "()V" } : Jvm.MethodName)) ∈ lw_all := lw_g (lw_at lw_m5 163 rfl) rfl
theorem q1251 : (Jvm.Cond.selects "SmokeWord$Image" ({ cls := "SmokeWord$Image", name := "back", desc := "()V" } : Jvm.MethodName) ({ cls := "SmokeWord$Image", name := "back", desc := "()V" } : Jvm.MethodName)) ∈ lw_all := lw_g (lw_at lw_m5 164 rfl) rfl
theorem q1252 : (Jvm.Cond.code ({ cls := "SmokeWord$Image", name := "back", desc := "()V" } : Jvm.MethodName) prog_7_method_3_code (2 : Nat) (Option.none : Option Jvm.ClassFile.FieldType)) ∈ lw_all := lw_g (lw_at lw_m5 165 rfl) rfl
theorem q1888 : (Jvm.Cond.castable "SmokeWord$Image" "java/lang/Object") ∈ lw_tbl := lw_at lw_m8 81 rfl
theorem in_X17 : ∀ w ∈ wsX170, w ∈ lw_all := lw_in wsX170 [1223, 1225, 1227, 1229, 1231, 1233, 1235, 1237] (by decide +kernel) (by decide +kernel)
