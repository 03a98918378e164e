/-! FountainParkModel -/
set_option maxRecDepth 100000
def RX5 : String := "FountainParkModel"
def TX5 : u_T := fun k => match k with
  | 0 => ("FountainParkModel", "thrown", "I", false)
  | 1 => ("FountainParkModel", "s", "[I", true)
  | 2 => ("FountainParkModel", "aside", "[I", true)
  | 3 => ("FountainParkModel", "saved", "[I", true)
  | 4 => ("FountainParkModel", "savedMany", "I", false)
  | 5 => ("FountainParkModel", "buffer", "[I", true)
  | 6 => ("FountainParkModel", "length", "I", false)
  | 7 => ("FountainParkModel", "flows", "[I", true)
  | 8 => ("FountainParkModel", "isDone", "[Z", true)
  | 9 => ("FountainParkModel", "isAsked", "[Z", true)
  | 10 => ("FountainParkModel", "at", "I", false)
  | 11 => ("FountainParkModel", "isWell", "Z", false)
  | 12 => ("FountainParkModel", "told", "[I", true)
  | 13 => ("FountainParkModel", "toldMany", "I", false)
  | _ => ("FountainParkModel", "hash", "J", false)
def tyX5 : Nat → FieldType := fun k => match k with
  | 0 => .int
  | 1 => .array .int
  | 2 => .array .int
  | 3 => .array .int
  | 4 => .int
  | 5 => .array .int
  | 6 => .int
  | 7 => .array .int
  | 8 => .array .boolean
  | 9 => .array .boolean
  | 10 => .int
  | 11 => .boolean
  | 12 => .array .int
  | 13 => .int
  | _ => .long
abbrev wsX50 : List Cond := u_ws RX5 TX5 15
set_option maxRecDepth 100000 in
theorem nmX5 : ∀ a, a < 15 → ∀ b, b < 15 → a ≠ b → (TX5 a).2.1 ≠ (TX5 b).2.1 := by decide +kernel
set_option maxRecDepth 100000 in
theorem tyX5_ok : ∀ k, k < 15 → parseFieldDescriptor (TX5 k).2.2.1 = some (tyX5 k) := by decide +kernel
abbrev cX5_init : ByteArray := prog_8_method_1_code
def yX5_init : MethodName := ⟨RX5, "<init>", "()V"⟩
def dkwX5_init_4 : List UInt8 := [8, 79, 42, 180, 0, 7, 7, 16, 10, 79, 177]
abbrev dktX5_init_4 : List UInt8 := dkwX5_init_4 ++ []
def dkwX5_init_3 : List UInt8 := [42, 3, 181, 0, 35, 42, 180, 0, 7, 3, 7, 79, 42, 180, 0, 7, 5, 5, 79, 42, 180, 0, 7, 6]
abbrev dktX5_init_3 : List UInt8 := dkwX5_init_3 ++ dktX5_init_4
def dkwX5_init_2 : List UInt8 := [42, 16, 17, 188, 4, 181, 0, 25, 42, 16, 8, 188, 4, 181, 0, 29, 42, 16, 96, 188, 10, 181, 0, 32]
abbrev dktX5_init_2 : List UInt8 := dkwX5_init_2 ++ dktX5_init_3
def dkwX5_init_1 : List UInt8 := [17, 4, 200, 188, 10, 181, 0, 16, 42, 16, 60, 188, 10, 181, 0, 19, 42, 16, 8, 188, 10, 181, 0, 22]
abbrev dktX5_init_1 : List UInt8 := dkwX5_init_1 ++ dktX5_init_2
def dkwX5_init_0 : List UInt8 := [42, 183, 0, 1, 42, 17, 0, 204, 188, 10, 181, 0, 7, 42, 17, 0, 204, 188, 10, 181, 0, 13, 42]
abbrev dktX5_init_0 : List UInt8 := dkwX5_init_0 ++ dktX5_init_1
theorem dksX5_init_0 : cX5_init.data.toList.drop 0 = dktX5_init_0 := by decide +kernel
theorem dksX5_init_1 : cX5_init.data.toList.drop 23 = dktX5_init_1 := dk_seg dksX5_init_0 23 rfl rfl
theorem dksX5_init_2 : cX5_init.data.toList.drop 47 = dktX5_init_2 := dk_seg dksX5_init_1 24 rfl rfl
theorem dksX5_init_3 : cX5_init.data.toList.drop 71 = dktX5_init_3 := dk_seg dksX5_init_2 24 rfl rfl
theorem dksX5_init_4 : cX5_init.data.toList.drop 95 = dktX5_init_4 := dk_seg dksX5_init_3 24 rfl rfl
theorem dX5_init_0 : decode cX5_init 0 = .ok (.aload_n 0, 1) := dk_42 (dk_at dksX5_init_0 0 rfl rfl)
theorem dX5_init_1 : decode cX5_init 1 = .ok (.invokespecial 1, 3) := dk_183 0 1 (dk_at dksX5_init_0 1 rfl rfl)
theorem dX5_init_4 : decode cX5_init 4 = .ok (.aload_n 0, 1) := dk_42 (dk_at dksX5_init_0 4 rfl rfl)
theorem dX5_init_5 : decode cX5_init 5 = .ok (.sipush 204, 3) := dk_17 0 204 (dk_at dksX5_init_0 5 rfl rfl)
theorem dX5_init_8 : decode cX5_init 8 = .ok (.newarray .int, 2) := dk_188_10 (dk_at dksX5_init_0 8 rfl rfl)
theorem dX5_init_10 : decode cX5_init 10 = .ok (.putfield 7, 3) := dk_181 0 7 (dk_at dksX5_init_0 10 rfl rfl)
theorem dX5_init_13 : decode cX5_init 13 = .ok (.aload_n 0, 1) := dk_42 (dk_at dksX5_init_0 13 rfl rfl)
theorem dX5_init_14 : decode cX5_init 14 = .ok (.sipush 204, 3) := dk_17 0 204 (dk_at dksX5_init_0 14 rfl rfl)
theorem dX5_init_17 : decode cX5_init 17 = .ok (.newarray .int, 2) := dk_188_10 (dk_at dksX5_init_0 17 rfl rfl)
theorem dX5_init_19 : decode cX5_init 19 = .ok (.putfield 13, 3) := dk_181 0 13 (dk_at dksX5_init_0 19 rfl rfl)
theorem dX5_init_22 : decode cX5_init 22 = .ok (.aload_n 0, 1) := dk_42 (dk_at dksX5_init_0 22 rfl rfl)
theorem dX5_init_23 : decode cX5_init 23 = .ok (.sipush 1224, 3) := dk_17 4 200 (dk_at dksX5_init_1 0 rfl rfl)
theorem dX5_init_26 : decode cX5_init 26 = .ok (.newarray .int, 2) := dk_188_10 (dk_at dksX5_init_1 3 rfl rfl)
theorem dX5_init_28 : decode cX5_init 28 = .ok (.putfield 16, 3) := dk_181 0 16 (dk_at dksX5_init_1 5 rfl rfl)
theorem dX5_init_31 : decode cX5_init 31 = .ok (.aload_n 0, 1) := dk_42 (dk_at dksX5_init_1 8 rfl rfl)
theorem dX5_init_32 : decode cX5_init 32 = .ok (.bipush 60, 2) := dk_16 60 (dk_at dksX5_init_1 9 rfl rfl)
theorem dX5_init_34 : decode cX5_init 34 = .ok (.newarray .int, 2) := dk_188_10 (dk_at dksX5_init_1 11 rfl rfl)
theorem dX5_init_36 : decode cX5_init 36 = .ok (.putfield 19, 3) := dk_181 0 19 (dk_at dksX5_init_1 13 rfl rfl)
theorem dX5_init_39 : decode cX5_init 39 = .ok (.aload_n 0, 1) := dk_42 (dk_at dksX5_init_1 16 rfl rfl)
theorem dX5_init_40 : decode cX5_init 40 = .ok (.bipush 8, 2) := dk_16 8 (dk_at dksX5_init_1 17 rfl rfl)
theorem dX5_init_42 : decode cX5_init 42 = .ok (.newarray .int, 2) := dk_188_10 (dk_at dksX5_init_1 19 rfl rfl)
theorem dX5_init_44 : decode cX5_init 44 = .ok (.putfield 22, 3) := dk_181 0 22 (dk_at dksX5_init_1 21 rfl rfl)
theorem dX5_init_47 : decode cX5_init 47 = .ok (.aload_n 0, 1) := dk_42 (dk_at dksX5_init_2 0 rfl rfl)
theorem dX5_init_48 : decode cX5_init 48 = .ok (.bipush 17, 2) := dk_16 17 (dk_at dksX5_init_2 1 rfl rfl)
theorem dX5_init_50 : decode cX5_init 50 = .ok (.newarray .boolean, 2) := dk_188_4 (dk_at dksX5_init_2 3 rfl rfl)
theorem dX5_init_52 : decode cX5_init 52 = .ok (.putfield 25, 3) := dk_181 0 25 (dk_at dksX5_init_2 5 rfl rfl)
theorem dX5_init_55 : decode cX5_init 55 = .ok (.aload_n 0, 1) := dk_42 (dk_at dksX5_init_2 8 rfl rfl)
theorem dX5_init_56 : decode cX5_init 56 = .ok (.bipush 8, 2) := dk_16 8 (dk_at dksX5_init_2 9 rfl rfl)
theorem dX5_init_58 : decode cX5_init 58 = .ok (.newarray .boolean, 2) := dk_188_4 (dk_at dksX5_init_2 11 rfl rfl)
theorem dX5_init_60 : decode cX5_init 60 = .ok (.putfield 29, 3) := dk_181 0 29 (dk_at dksX5_init_2 13 rfl rfl)
theorem dX5_init_63 : decode cX5_init 63 = .ok (.aload_n 0, 1) := dk_42 (dk_at dksX5_init_2 16 rfl rfl)
theorem dX5_init_64 : decode cX5_init 64 = .ok (.bipush 96, 2) := dk_16 96 (dk_at dksX5_init_2 17 rfl rfl)
theorem dX5_init_66 : decode cX5_init 66 = .ok (.newarray .int, 2) := dk_188_10 (dk_at dksX5_init_2 19 rfl rfl)
theorem dX5_init_68 : decode cX5_init 68 = .ok (.putfield 32, 3) := dk_181 0 32 (dk_at dksX5_init_2 21 rfl rfl)
theorem dX5_init_71 : decode cX5_init 71 = .ok (.aload_n 0, 1) := dk_42 (dk_at dksX5_init_3 0 rfl rfl)
theorem dX5_init_72 : decode cX5_init 72 = .ok (.iconst 0, 1) := dk_3 (dk_at dksX5_init_3 1 rfl rfl)
theorem dX5_init_73 : decode cX5_init 73 = .ok (.putfield 35, 3) := dk_181 0 35 (dk_at dksX5_init_3 2 rfl rfl)
theorem dX5_init_76 : decode cX5_init 76 = .ok (.aload_n 0, 1) := dk_42 (dk_at dksX5_init_3 5 rfl rfl)
theorem dX5_init_77 : decode cX5_init 77 = .ok (.getfield 7, 3) := dk_180 0 7 (dk_at dksX5_init_3 6 rfl rfl)
theorem dX5_init_80 : decode cX5_init 80 = .ok (.iconst 0, 1) := dk_3 (dk_at dksX5_init_3 9 rfl rfl)
theorem dX5_init_81 : decode cX5_init 81 = .ok (.iconst 4, 1) := dk_7 (dk_at dksX5_init_3 10 rfl rfl)
theorem dX5_init_82 : decode cX5_init 82 = .ok (.iastore, 1) := dk_79 (dk_at dksX5_init_3 11 rfl rfl)
theorem dX5_init_83 : decode cX5_init 83 = .ok (.aload_n 0, 1) := dk_42 (dk_at dksX5_init_3 12 rfl rfl)
theorem dX5_init_84 : decode cX5_init 84 = .ok (.getfield 7, 3) := dk_180 0 7 (dk_at dksX5_init_3 13 rfl rfl)
theorem dX5_init_87 : decode cX5_init 87 = .ok (.iconst 2, 1) := dk_5 (dk_at dksX5_init_3 16 rfl rfl)
theorem dX5_init_88 : decode cX5_init 88 = .ok (.iconst 2, 1) := dk_5 (dk_at dksX5_init_3 17 rfl rfl)
theorem dX5_init_89 : decode cX5_init 89 = .ok (.iastore, 1) := dk_79 (dk_at dksX5_init_3 18 rfl rfl)
theorem dX5_init_90 : decode cX5_init 90 = .ok (.aload_n 0, 1) := dk_42 (dk_at dksX5_init_3 19 rfl rfl)
theorem dX5_init_91 : decode cX5_init 91 = .ok (.getfield 7, 3) := dk_180 0 7 (dk_at dksX5_init_3 20 rfl rfl)
theorem dX5_init_94 : decode cX5_init 94 = .ok (.iconst 3, 1) := dk_6 (dk_at dksX5_init_3 23 rfl rfl)
theorem dX5_init_95 : decode cX5_init 95 = .ok (.iconst 5, 1) := dk_8 (dk_at dksX5_init_4 0 rfl rfl)
theorem dX5_init_96 : decode cX5_init 96 = .ok (.iastore, 1) := dk_79 (dk_at dksX5_init_4 1 rfl rfl)
theorem dX5_init_97 : decode cX5_init 97 = .ok (.aload_n 0, 1) := dk_42 (dk_at dksX5_init_4 2 rfl rfl)
theorem dX5_init_98 : decode cX5_init 98 = .ok (.getfield 7, 3) := dk_180 0 7 (dk_at dksX5_init_4 3 rfl rfl)
theorem dX5_init_101 : decode cX5_init 101 = .ok (.iconst 4, 1) := dk_7 (dk_at dksX5_init_4 6 rfl rfl)
theorem dX5_init_102 : decode cX5_init 102 = .ok (.bipush 10, 2) := dk_16 10 (dk_at dksX5_init_4 7 rfl rfl)
theorem dX5_init_104 : decode cX5_init 104 = .ok (.iastore, 1) := dk_79 (dk_at dksX5_init_4 9 rfl rfl)
theorem dX5_init_105 : decode cX5_init 105 = .ok (.return_, 1) := dk_177 (dk_at dksX5_init_4 10 rfl rfl)
abbrev cX5_thrown : ByteArray := prog_8_method_2_code
def yX5_thrown : MethodName := ⟨RX5, "thrown", "()I"⟩
theorem dX5_thrown_0 : decode cX5_thrown 0 = .ok (.aload_n 0, 1) := by decide +kernel
theorem dX5_thrown_1 : decode cX5_thrown 1 = .ok (.getfield 35, 3) := by decide +kernel
theorem dX5_thrown_4 : decode cX5_thrown 4 = .ok (.ireturn, 1) := by decide +kernel
abbrev cX5_build : ByteArray := prog_8_method_35_code
def yX5_build : MethodName := ⟨RX5, "build", "(IIIZ)I"⟩
def dkwX5_build_4 : List UInt8 := [21, 4, 153, 0, 7, 4, 167, 0, 4, 3, 182, 0, 65, 42, 182, 0, 130, 172]
abbrev dktX5_build_4 : List UInt8 := dkwX5_build_4 ++ []
def dkwX5_build_3 : List UInt8 := [16, 6, 4, 182, 0, 65, 42, 27, 3, 28, 182, 0, 65, 42, 27, 4, 29, 182, 0, 65, 42, 27, 6]
abbrev dktX5_build_3 : List UInt8 := dkwX5_build_3 ++ dktX5_build_4
def dkwX5_build_2 : List UInt8 := [42, 27, 16, 6, 182, 0, 46, 4, 160, 0, 9, 42, 6, 182, 0, 124, 172, 42, 182, 0, 127, 42, 27]
abbrev dktX5_build_2 : List UInt8 := dkwX5_build_2 ++ dktX5_build_3
def dkwX5_build_1 : List UInt8 := [184, 0, 39, 153, 0, 15, 29, 16, 10, 17, 3, 132, 184, 0, 39, 154, 0, 9, 42, 5, 182, 0, 124, 172]
abbrev dktX5_build_1 : List UInt8 := dkwX5_build_1 ++ dktX5_build_2
def dkwX5_build_0 : List UInt8 := [42, 3, 181, 0, 35, 27, 184, 0, 121, 154, 0, 9, 42, 4, 182, 0, 124, 172, 28, 4, 16, 90]
abbrev dktX5_build_0 : List UInt8 := dkwX5_build_0 ++ dktX5_build_1
theorem dksX5_build_0 : cX5_build.data.toList.drop 0 = dktX5_build_0 := by decide +kernel
theorem dksX5_build_1 : cX5_build.data.toList.drop 22 = dktX5_build_1 := dk_seg dksX5_build_0 22 rfl rfl
theorem dksX5_build_2 : cX5_build.data.toList.drop 46 = dktX5_build_2 := dk_seg dksX5_build_1 24 rfl rfl
theorem dksX5_build_3 : cX5_build.data.toList.drop 69 = dktX5_build_3 := dk_seg dksX5_build_2 23 rfl rfl
theorem dksX5_build_4 : cX5_build.data.toList.drop 92 = dktX5_build_4 := dk_seg dksX5_build_3 23 rfl rfl
theorem dX5_build_0 : decode cX5_build 0 = .ok (.aload_n 0, 1) := dk_42 (dk_at dksX5_build_0 0 rfl rfl)
theorem dX5_build_1 : decode cX5_build 1 = .ok (.iconst 0, 1) := dk_3 (dk_at dksX5_build_0 1 rfl rfl)
theorem dX5_build_2 : decode cX5_build 2 = .ok (.putfield 35, 3) := dk_181 0 35 (dk_at dksX5_build_0 2 rfl rfl)
theorem dX5_build_5 : decode cX5_build 5 = .ok (.iload_n 1, 1) := dk_27 (dk_at dksX5_build_0 5 rfl rfl)
theorem dX5_build_6 : decode cX5_build 6 = .ok (.invokestatic 121, 3) := dk_184 0 121 (dk_at dksX5_build_0 6 rfl rfl)
theorem dX5_build_9 : decode cX5_build 9 = .ok (.ifCond .ne 9, 3) := dk_154 0 9 (dk_at dksX5_build_0 9 rfl rfl)
theorem dX5_build_12 : decode cX5_build 12 = .ok (.aload_n 0, 1) := dk_42 (dk_at dksX5_build_0 12 rfl rfl)
theorem dX5_build_13 : decode cX5_build 13 = .ok (.iconst 1, 1) := dk_4 (dk_at dksX5_build_0 13 rfl rfl)
theorem dX5_build_14 : decode cX5_build 14 = .ok (.invokevirtual 124, 3) := dk_182 0 124 (dk_at dksX5_build_0 14 rfl rfl)
theorem dX5_build_17 : decode cX5_build 17 = .ok (.ireturn, 1) := dk_172 (dk_at dksX5_build_0 17 rfl rfl)
theorem dX5_build_18 : decode cX5_build 18 = .ok (.iload_n 2, 1) := dk_28 (dk_at dksX5_build_0 18 rfl rfl)
theorem dX5_build_19 : decode cX5_build 19 = .ok (.iconst 1, 1) := dk_4 (dk_at dksX5_build_0 19 rfl rfl)
theorem dX5_build_20 : decode cX5_build 20 = .ok (.bipush 90, 2) := dk_16 90 (dk_at dksX5_build_0 20 rfl rfl)
theorem dX5_build_22 : decode cX5_build 22 = .ok (.invokestatic 39, 3) := dk_184 0 39 (dk_at dksX5_build_1 0 rfl rfl)
theorem dX5_build_25 : decode cX5_build 25 = .ok (.ifCond .eq 15, 3) := dk_153 0 15 (dk_at dksX5_build_1 3 rfl rfl)
theorem dX5_build_28 : decode cX5_build 28 = .ok (.iload_n 3, 1) := dk_29 (dk_at dksX5_build_1 6 rfl rfl)
theorem dX5_build_29 : decode cX5_build 29 = .ok (.bipush 10, 2) := dk_16 10 (dk_at dksX5_build_1 7 rfl rfl)
theorem dX5_build_31 : decode cX5_build 31 = .ok (.sipush 900, 3) := dk_17 3 132 (dk_at dksX5_build_1 9 rfl rfl)
theorem dX5_build_34 : decode cX5_build 34 = .ok (.invokestatic 39, 3) := dk_184 0 39 (dk_at dksX5_build_1 12 rfl rfl)
theorem dX5_build_37 : decode cX5_build 37 = .ok (.ifCond .ne 9, 3) := dk_154 0 9 (dk_at dksX5_build_1 15 rfl rfl)
theorem dX5_build_40 : decode cX5_build 40 = .ok (.aload_n 0, 1) := dk_42 (dk_at dksX5_build_1 18 rfl rfl)
theorem dX5_build_41 : decode cX5_build 41 = .ok (.iconst 2, 1) := dk_5 (dk_at dksX5_build_1 19 rfl rfl)
theorem dX5_build_42 : decode cX5_build 42 = .ok (.invokevirtual 124, 3) := dk_182 0 124 (dk_at dksX5_build_1 20 rfl rfl)
theorem dX5_build_45 : decode cX5_build 45 = .ok (.ireturn, 1) := dk_172 (dk_at dksX5_build_1 23 rfl rfl)
theorem dX5_build_46 : decode cX5_build 46 = .ok (.aload_n 0, 1) := dk_42 (dk_at dksX5_build_2 0 rfl rfl)
theorem dX5_build_47 : decode cX5_build 47 = .ok (.iload_n 1, 1) := dk_27 (dk_at dksX5_build_2 1 rfl rfl)
theorem dX5_build_48 : decode cX5_build 48 = .ok (.bipush 6, 2) := dk_16 6 (dk_at dksX5_build_2 2 rfl rfl)
theorem dX5_build_50 : decode cX5_build 50 = .ok (.invokevirtual 46, 3) := dk_182 0 46 (dk_at dksX5_build_2 4 rfl rfl)
theorem dX5_build_53 : decode cX5_build 53 = .ok (.iconst 1, 1) := dk_4 (dk_at dksX5_build_2 7 rfl rfl)
theorem dX5_build_54 : decode cX5_build 54 = .ok (.if_icmp .ne 9, 3) := dk_160 0 9 (dk_at dksX5_build_2 8 rfl rfl)
theorem dX5_build_57 : decode cX5_build 57 = .ok (.aload_n 0, 1) := dk_42 (dk_at dksX5_build_2 11 rfl rfl)
theorem dX5_build_58 : decode cX5_build 58 = .ok (.iconst 3, 1) := dk_6 (dk_at dksX5_build_2 12 rfl rfl)
theorem dX5_build_59 : decode cX5_build 59 = .ok (.invokevirtual 124, 3) := dk_182 0 124 (dk_at dksX5_build_2 13 rfl rfl)
theorem dX5_build_62 : decode cX5_build 62 = .ok (.ireturn, 1) := dk_172 (dk_at dksX5_build_2 16 rfl rfl)
theorem dX5_build_63 : decode cX5_build 63 = .ok (.aload_n 0, 1) := dk_42 (dk_at dksX5_build_2 17 rfl rfl)
theorem dX5_build_64 : decode cX5_build 64 = .ok (.invokevirtual 127, 3) := dk_182 0 127 (dk_at dksX5_build_2 18 rfl rfl)
theorem dX5_build_67 : decode cX5_build 67 = .ok (.aload_n 0, 1) := dk_42 (dk_at dksX5_build_2 21 rfl rfl)
theorem dX5_build_68 : decode cX5_build 68 = .ok (.iload_n 1, 1) := dk_27 (dk_at dksX5_build_2 22 rfl rfl)
theorem dX5_build_69 : decode cX5_build 69 = .ok (.bipush 6, 2) := dk_16 6 (dk_at dksX5_build_3 0 rfl rfl)
theorem dX5_build_71 : decode cX5_build 71 = .ok (.iconst 1, 1) := dk_4 (dk_at dksX5_build_3 2 rfl rfl)
theorem dX5_build_72 : decode cX5_build 72 = .ok (.invokevirtual 65, 3) := dk_182 0 65 (dk_at dksX5_build_3 3 rfl rfl)
theorem dX5_build_75 : decode cX5_build 75 = .ok (.aload_n 0, 1) := dk_42 (dk_at dksX5_build_3 6 rfl rfl)
theorem dX5_build_76 : decode cX5_build 76 = .ok (.iload_n 1, 1) := dk_27 (dk_at dksX5_build_3 7 rfl rfl)
theorem dX5_build_77 : decode cX5_build 77 = .ok (.iconst 0, 1) := dk_3 (dk_at dksX5_build_3 8 rfl rfl)
theorem dX5_build_78 : decode cX5_build 78 = .ok (.iload_n 2, 1) := dk_28 (dk_at dksX5_build_3 9 rfl rfl)
theorem dX5_build_79 : decode cX5_build 79 = .ok (.invokevirtual 65, 3) := dk_182 0 65 (dk_at dksX5_build_3 10 rfl rfl)
theorem dX5_build_82 : decode cX5_build 82 = .ok (.aload_n 0, 1) := dk_42 (dk_at dksX5_build_3 13 rfl rfl)
theorem dX5_build_83 : decode cX5_build 83 = .ok (.iload_n 1, 1) := dk_27 (dk_at dksX5_build_3 14 rfl rfl)
theorem dX5_build_84 : decode cX5_build 84 = .ok (.iconst 1, 1) := dk_4 (dk_at dksX5_build_3 15 rfl rfl)
theorem dX5_build_85 : decode cX5_build 85 = .ok (.iload_n 3, 1) := dk_29 (dk_at dksX5_build_3 16 rfl rfl)
theorem dX5_build_86 : decode cX5_build 86 = .ok (.invokevirtual 65, 3) := dk_182 0 65 (dk_at dksX5_build_3 17 rfl rfl)
theorem dX5_build_89 : decode cX5_build 89 = .ok (.aload_n 0, 1) := dk_42 (dk_at dksX5_build_3 20 rfl rfl)
theorem dX5_build_90 : decode cX5_build 90 = .ok (.iload_n 1, 1) := dk_27 (dk_at dksX5_build_3 21 rfl rfl)
theorem dX5_build_91 : decode cX5_build 91 = .ok (.iconst 3, 1) := dk_6 (dk_at dksX5_build_3 22 rfl rfl)
theorem dX5_build_92 : decode cX5_build 92 = .ok (.iload 4, 2) := dk_21 4 (dk_at dksX5_build_4 0 rfl rfl)
theorem dX5_build_94 : decode cX5_build 94 = .ok (.ifCond .eq 7, 3) := dk_153 0 7 (dk_at dksX5_build_4 2 rfl rfl)
theorem dX5_build_97 : decode cX5_build 97 = .ok (.iconst 1, 1) := dk_4 (dk_at dksX5_build_4 5 rfl rfl)
theorem dX5_build_98 : decode cX5_build 98 = .ok (.goto 4, 3) := dk_167 0 4 (dk_at dksX5_build_4 6 rfl rfl)
theorem dX5_build_101 : decode cX5_build 101 = .ok (.iconst 0, 1) := dk_3 (dk_at dksX5_build_4 9 rfl rfl)
theorem dX5_build_102 : decode cX5_build 102 = .ok (.invokevirtual 65, 3) := dk_182 0 65 (dk_at dksX5_build_4 10 rfl rfl)
theorem dX5_build_105 : decode cX5_build 105 = .ok (.aload_n 0, 1) := dk_42 (dk_at dksX5_build_4 13 rfl rfl)
theorem dX5_build_106 : decode cX5_build 106 = .ok (.invokevirtual 130, 3) := dk_182 0 130 (dk_at dksX5_build_4 14 rfl rfl)
theorem dX5_build_109 : decode cX5_build 109 = .ok (.ireturn, 1) := dk_172 (dk_at dksX5_build_4 17 rfl rfl)
abbrev cX5_isPlace : ByteArray := prog_8_method_5_code
def yX5_isPlace : MethodName := ⟨RX5, "isPlace", "(I)Z"⟩
def dkwX5_isPlace_0 : List UInt8 := [26, 3, 16, 7, 184, 0, 39, 172]
abbrev dktX5_isPlace_0 : List UInt8 := dkwX5_isPlace_0 ++ []
theorem dksX5_isPlace_0 : cX5_isPlace.data.toList.drop 0 = dktX5_isPlace_0 := by decide +kernel
theorem dX5_isPlace_0 : decode cX5_isPlace 0 = .ok (.iload_n 0, 1) := dk_26 (dk_at dksX5_isPlace_0 0 rfl rfl)
theorem dX5_isPlace_1 : decode cX5_isPlace 1 = .ok (.iconst 0, 1) := dk_3 (dk_at dksX5_isPlace_0 1 rfl rfl)
theorem dX5_isPlace_2 : decode cX5_isPlace 2 = .ok (.bipush 7, 2) := dk_16 7 (dk_at dksX5_isPlace_0 2 rfl rfl)
theorem dX5_isPlace_4 : decode cX5_isPlace 4 = .ok (.invokestatic 39, 3) := dk_184 0 39 (dk_at dksX5_isPlace_0 4 rfl rfl)
theorem dX5_isPlace_7 : decode cX5_isPlace 7 = .ok (.ireturn, 1) := dk_172 (dk_at dksX5_isPlace_0 7 rfl rfl)
abbrev cX5_in : ByteArray := prog_8_method_3_code
def yX5_in : MethodName := ⟨RX5, "in", "(III)Z"⟩
def dkwX5_in_0 : List UInt8 := [26, 27, 161, 0, 12, 26, 28, 163, 0, 7, 4, 167, 0, 4, 3, 172]
abbrev dktX5_in_0 : List UInt8 := dkwX5_in_0 ++ []
theorem dksX5_in_0 : cX5_in.data.toList.drop 0 = dktX5_in_0 := by decide +kernel
theorem dX5_in_0 : decode cX5_in 0 = .ok (.iload_n 0, 1) := dk_26 (dk_at dksX5_in_0 0 rfl rfl)
theorem dX5_in_1 : decode cX5_in 1 = .ok (.iload_n 1, 1) := dk_27 (dk_at dksX5_in_0 1 rfl rfl)
theorem dX5_in_2 : decode cX5_in 2 = .ok (.if_icmp .lt 12, 3) := dk_161 0 12 (dk_at dksX5_in_0 2 rfl rfl)
theorem dX5_in_5 : decode cX5_in 5 = .ok (.iload_n 0, 1) := dk_26 (dk_at dksX5_in_0 5 rfl rfl)
theorem dX5_in_6 : decode cX5_in 6 = .ok (.iload_n 2, 1) := dk_28 (dk_at dksX5_in_0 6 rfl rfl)
theorem dX5_in_7 : decode cX5_in 7 = .ok (.if_icmp .gt 7, 3) := dk_163 0 7 (dk_at dksX5_in_0 7 rfl rfl)
theorem dX5_in_10 : decode cX5_in 10 = .ok (.iconst 1, 1) := dk_4 (dk_at dksX5_in_0 10 rfl rfl)
theorem dX5_in_11 : decode cX5_in 11 = .ok (.goto 4, 3) := dk_167 0 4 (dk_at dksX5_in_0 11 rfl rfl)
theorem dX5_in_14 : decode cX5_in 14 = .ok (.iconst 0, 1) := dk_3 (dk_at dksX5_in_0 14 rfl rfl)
theorem dX5_in_15 : decode cX5_in 15 = .ok (.ireturn, 1) := dk_172 (dk_at dksX5_in_0 15 rfl rfl)
abbrev cX5_fails : ByteArray := prog_8_method_4_code
def yX5_fails : MethodName := ⟨RX5, "fails", "(I)I"⟩
def dkwX5_fails_0 : List UInt8 := [42, 27, 181, 0, 35, 3, 172]
abbrev dktX5_fails_0 : List UInt8 := dkwX5_fails_0 ++ []
theorem dksX5_fails_0 : cX5_fails.data.toList.drop 0 = dktX5_fails_0 := by decide +kernel
theorem dX5_fails_0 : decode cX5_fails 0 = .ok (.aload_n 0, 1) := dk_42 (dk_at dksX5_fails_0 0 rfl rfl)
theorem dX5_fails_1 : decode cX5_fails 1 = .ok (.iload_n 1, 1) := dk_27 (dk_at dksX5_fails_0 1 rfl rfl)
theorem dX5_fails_2 : decode cX5_fails 2 = .ok (.putfield 35, 3) := dk_181 0 35 (dk_at dksX5_fails_0 2 rfl rfl)
theorem dX5_fails_5 : decode cX5_fails 5 = .ok (.iconst 0, 1) := dk_3 (dk_at dksX5_fails_0 5 rfl rfl)
theorem dX5_fails_6 : decode cX5_fails 6 = .ok (.ireturn, 1) := dk_172 (dk_at dksX5_fails_0 6 rfl rfl)
abbrev cX5_of : ByteArray := prog_8_method_9_code
def yX5_of : MethodName := ⟨RX5, "of", "(II)I"⟩
def dkwX5_of_0 : List UInt8 := [42, 180, 0, 7, 16, 13, 16, 10, 27, 104, 96, 28, 96, 46, 172]
abbrev dktX5_of_0 : List UInt8 := dkwX5_of_0 ++ []
theorem dksX5_of_0 : cX5_of.data.toList.drop 0 = dktX5_of_0 := by decide +kernel
theorem dX5_of_0 : decode cX5_of 0 = .ok (.aload_n 0, 1) := dk_42 (dk_at dksX5_of_0 0 rfl rfl)
theorem dX5_of_1 : decode cX5_of 1 = .ok (.getfield 7, 3) := dk_180 0 7 (dk_at dksX5_of_0 1 rfl rfl)
theorem dX5_of_4 : decode cX5_of 4 = .ok (.bipush 13, 2) := dk_16 13 (dk_at dksX5_of_0 4 rfl rfl)
theorem dX5_of_6 : decode cX5_of 6 = .ok (.bipush 10, 2) := dk_16 10 (dk_at dksX5_of_0 6 rfl rfl)
theorem dX5_of_8 : decode cX5_of 8 = .ok (.iload_n 1, 1) := dk_27 (dk_at dksX5_of_0 8 rfl rfl)
theorem dX5_of_9 : decode cX5_of 9 = .ok (.imul, 1) := dk_104 (dk_at dksX5_of_0 9 rfl rfl)
theorem dX5_of_10 : decode cX5_of 10 = .ok (.iadd, 1) := dk_96 (dk_at dksX5_of_0 10 rfl rfl)
theorem dX5_of_11 : decode cX5_of 11 = .ok (.iload_n 2, 1) := dk_28 (dk_at dksX5_of_0 11 rfl rfl)
theorem dX5_of_12 : decode cX5_of 12 = .ok (.iadd, 1) := dk_96 (dk_at dksX5_of_0 12 rfl rfl)
theorem dX5_of_13 : decode cX5_of 13 = .ok (.iaload, 1) := dk_46 (dk_at dksX5_of_0 13 rfl rfl)
theorem dX5_of_14 : decode cX5_of 14 = .ok (.ireturn, 1) := dk_172 (dk_at dksX5_of_0 14 rfl rfl)
abbrev cX5_saves : ByteArray := prog_8_method_6_code
def yX5_saves : MethodName := ⟨RX5, "saves", "()V"⟩
def dkwX5_saves_4 : List UInt8 := [181, 0, 43, 177]
abbrev dktX5_saves_4 : List UInt8 := dkwX5_saves_4 ++ []
def dkwX5_saves_3 : List UInt8 := [27, 96, 42, 180, 0, 7, 27, 46, 79, 132, 1, 1, 167, 255, 225, 42, 89, 180, 0, 43, 4, 96]
abbrev dktX5_saves_3 : List UInt8 := dkwX5_saves_3 ++ dktX5_saves_4
def dkwX5_saves_2 : List UInt8 := [181, 0, 43, 3, 60, 27, 17, 0, 204, 162, 0, 30, 42, 180, 0, 16, 17, 0, 204, 42, 180, 0, 43, 104]
abbrev dktX5_saves_2 : List UInt8 := dkwX5_saves_2 ++ dktX5_saves_3
def dkwX5_saves_1 : List UInt8 := [180, 0, 16, 27, 17, 0, 204, 96, 46, 79, 132, 1, 1, 167, 255, 230, 42, 89, 180, 0, 43, 4, 100]
abbrev dktX5_saves_1 : List UInt8 := dkwX5_saves_1 ++ dktX5_saves_2
def dkwX5_saves_0 : List UInt8 := [42, 180, 0, 43, 16, 6, 160, 0, 44, 3, 60, 27, 17, 3, 252, 162, 0, 25, 42, 180, 0, 16, 27, 42]
abbrev dktX5_saves_0 : List UInt8 := dkwX5_saves_0 ++ dktX5_saves_1
theorem dksX5_saves_0 : cX5_saves.data.toList.drop 0 = dktX5_saves_0 := by decide +kernel
theorem dksX5_saves_1 : cX5_saves.data.toList.drop 24 = dktX5_saves_1 := dk_seg dksX5_saves_0 24 rfl rfl
theorem dksX5_saves_2 : cX5_saves.data.toList.drop 47 = dktX5_saves_2 := dk_seg dksX5_saves_1 23 rfl rfl
theorem dksX5_saves_3 : cX5_saves.data.toList.drop 71 = dktX5_saves_3 := dk_seg dksX5_saves_2 24 rfl rfl
theorem dksX5_saves_4 : cX5_saves.data.toList.drop 93 = dktX5_saves_4 := dk_seg dksX5_saves_3 22 rfl rfl
theorem dX5_saves_0 : decode cX5_saves 0 = .ok (.aload_n 0, 1) := dk_42 (dk_at dksX5_saves_0 0 rfl rfl)
theorem dX5_saves_1 : decode cX5_saves 1 = .ok (.getfield 43, 3) := dk_180 0 43 (dk_at dksX5_saves_0 1 rfl rfl)
theorem dX5_saves_4 : decode cX5_saves 4 = .ok (.bipush 6, 2) := dk_16 6 (dk_at dksX5_saves_0 4 rfl rfl)
theorem dX5_saves_6 : decode cX5_saves 6 = .ok (.if_icmp .ne 44, 3) := dk_160 0 44 (dk_at dksX5_saves_0 6 rfl rfl)
theorem dX5_saves_9 : decode cX5_saves 9 = .ok (.iconst 0, 1) := dk_3 (dk_at dksX5_saves_0 9 rfl rfl)
theorem dX5_saves_10 : decode cX5_saves 10 = .ok (.istore_n 1, 1) := dk_60 (dk_at dksX5_saves_0 10 rfl rfl)
theorem dX5_saves_11 : decode cX5_saves 11 = .ok (.iload_n 1, 1) := dk_27 (dk_at dksX5_saves_0 11 rfl rfl)
theorem dX5_saves_12 : decode cX5_saves 12 = .ok (.sipush 1020, 3) := dk_17 3 252 (dk_at dksX5_saves_0 12 rfl rfl)
theorem dX5_saves_15 : decode cX5_saves 15 = .ok (.if_icmp .ge 25, 3) := dk_162 0 25 (dk_at dksX5_saves_0 15 rfl rfl)
theorem dX5_saves_18 : decode cX5_saves 18 = .ok (.aload_n 0, 1) := dk_42 (dk_at dksX5_saves_0 18 rfl rfl)
theorem dX5_saves_19 : decode cX5_saves 19 = .ok (.getfield 16, 3) := dk_180 0 16 (dk_at dksX5_saves_0 19 rfl rfl)
theorem dX5_saves_22 : decode cX5_saves 22 = .ok (.iload_n 1, 1) := dk_27 (dk_at dksX5_saves_0 22 rfl rfl)
theorem dX5_saves_23 : decode cX5_saves 23 = .ok (.aload_n 0, 1) := dk_42 (dk_at dksX5_saves_0 23 rfl rfl)
theorem dX5_saves_24 : decode cX5_saves 24 = .ok (.getfield 16, 3) := dk_180 0 16 (dk_at dksX5_saves_1 0 rfl rfl)
theorem dX5_saves_27 : decode cX5_saves 27 = .ok (.iload_n 1, 1) := dk_27 (dk_at dksX5_saves_1 3 rfl rfl)
theorem dX5_saves_28 : decode cX5_saves 28 = .ok (.sipush 204, 3) := dk_17 0 204 (dk_at dksX5_saves_1 4 rfl rfl)
theorem dX5_saves_31 : decode cX5_saves 31 = .ok (.iadd, 1) := dk_96 (dk_at dksX5_saves_1 7 rfl rfl)
theorem dX5_saves_32 : decode cX5_saves 32 = .ok (.iaload, 1) := dk_46 (dk_at dksX5_saves_1 8 rfl rfl)
theorem dX5_saves_33 : decode cX5_saves 33 = .ok (.iastore, 1) := dk_79 (dk_at dksX5_saves_1 9 rfl rfl)
theorem dX5_saves_34 : decode cX5_saves 34 = .ok (.iinc 1 1, 3) := dk_132 1 1 (dk_at dksX5_saves_1 10 rfl rfl)
theorem dX5_saves_37 : decode cX5_saves 37 = .ok (.goto (-26), 3) := dk_167 255 230 (dk_at dksX5_saves_1 13 rfl rfl)
theorem dX5_saves_40 : decode cX5_saves 40 = .ok (.aload_n 0, 1) := dk_42 (dk_at dksX5_saves_1 16 rfl rfl)
theorem dX5_saves_41 : decode cX5_saves 41 = .ok (.dup, 1) := dk_89 (dk_at dksX5_saves_1 17 rfl rfl)
theorem dX5_saves_42 : decode cX5_saves 42 = .ok (.getfield 43, 3) := dk_180 0 43 (dk_at dksX5_saves_1 18 rfl rfl)
theorem dX5_saves_45 : decode cX5_saves 45 = .ok (.iconst 1, 1) := dk_4 (dk_at dksX5_saves_1 21 rfl rfl)
theorem dX5_saves_46 : decode cX5_saves 46 = .ok (.isub, 1) := dk_100 (dk_at dksX5_saves_1 22 rfl rfl)
theorem dX5_saves_47 : decode cX5_saves 47 = .ok (.putfield 43, 3) := dk_181 0 43 (dk_at dksX5_saves_2 0 rfl rfl)
theorem dX5_saves_50 : decode cX5_saves 50 = .ok (.iconst 0, 1) := dk_3 (dk_at dksX5_saves_2 3 rfl rfl)
theorem dX5_saves_51 : decode cX5_saves 51 = .ok (.istore_n 1, 1) := dk_60 (dk_at dksX5_saves_2 4 rfl rfl)
theorem dX5_saves_52 : decode cX5_saves 52 = .ok (.iload_n 1, 1) := dk_27 (dk_at dksX5_saves_2 5 rfl rfl)
theorem dX5_saves_53 : decode cX5_saves 53 = .ok (.sipush 204, 3) := dk_17 0 204 (dk_at dksX5_saves_2 6 rfl rfl)
theorem dX5_saves_56 : decode cX5_saves 56 = .ok (.if_icmp .ge 30, 3) := dk_162 0 30 (dk_at dksX5_saves_2 9 rfl rfl)
theorem dX5_saves_59 : decode cX5_saves 59 = .ok (.aload_n 0, 1) := dk_42 (dk_at dksX5_saves_2 12 rfl rfl)
theorem dX5_saves_60 : decode cX5_saves 60 = .ok (.getfield 16, 3) := dk_180 0 16 (dk_at dksX5_saves_2 13 rfl rfl)
theorem dX5_saves_63 : decode cX5_saves 63 = .ok (.sipush 204, 3) := dk_17 0 204 (dk_at dksX5_saves_2 16 rfl rfl)
theorem dX5_saves_66 : decode cX5_saves 66 = .ok (.aload_n 0, 1) := dk_42 (dk_at dksX5_saves_2 19 rfl rfl)
theorem dX5_saves_67 : decode cX5_saves 67 = .ok (.getfield 43, 3) := dk_180 0 43 (dk_at dksX5_saves_2 20 rfl rfl)
theorem dX5_saves_70 : decode cX5_saves 70 = .ok (.imul, 1) := dk_104 (dk_at dksX5_saves_2 23 rfl rfl)
theorem dX5_saves_71 : decode cX5_saves 71 = .ok (.iload_n 1, 1) := dk_27 (dk_at dksX5_saves_3 0 rfl rfl)
theorem dX5_saves_72 : decode cX5_saves 72 = .ok (.iadd, 1) := dk_96 (dk_at dksX5_saves_3 1 rfl rfl)
theorem dX5_saves_73 : decode cX5_saves 73 = .ok (.aload_n 0, 1) := dk_42 (dk_at dksX5_saves_3 2 rfl rfl)
theorem dX5_saves_74 : decode cX5_saves 74 = .ok (.getfield 7, 3) := dk_180 0 7 (dk_at dksX5_saves_3 3 rfl rfl)
theorem dX5_saves_77 : decode cX5_saves 77 = .ok (.iload_n 1, 1) := dk_27 (dk_at dksX5_saves_3 6 rfl rfl)
theorem dX5_saves_78 : decode cX5_saves 78 = .ok (.iaload, 1) := dk_46 (dk_at dksX5_saves_3 7 rfl rfl)
theorem dX5_saves_79 : decode cX5_saves 79 = .ok (.iastore, 1) := dk_79 (dk_at dksX5_saves_3 8 rfl rfl)
theorem dX5_saves_80 : decode cX5_saves 80 = .ok (.iinc 1 1, 3) := dk_132 1 1 (dk_at dksX5_saves_3 9 rfl rfl)
theorem dX5_saves_83 : decode cX5_saves 83 = .ok (.goto (-31), 3) := dk_167 255 225 (dk_at dksX5_saves_3 12 rfl rfl)
theorem dX5_saves_86 : decode cX5_saves 86 = .ok (.aload_n 0, 1) := dk_42 (dk_at dksX5_saves_3 15 rfl rfl)
theorem dX5_saves_87 : decode cX5_saves 87 = .ok (.dup, 1) := dk_89 (dk_at dksX5_saves_3 16 rfl rfl)
theorem dX5_saves_88 : decode cX5_saves 88 = .ok (.getfield 43, 3) := dk_180 0 43 (dk_at dksX5_saves_3 17 rfl rfl)
theorem dX5_saves_91 : decode cX5_saves 91 = .ok (.iconst 1, 1) := dk_4 (dk_at dksX5_saves_3 20 rfl rfl)
theorem dX5_saves_92 : decode cX5_saves 92 = .ok (.iadd, 1) := dk_96 (dk_at dksX5_saves_3 21 rfl rfl)
theorem dX5_saves_93 : decode cX5_saves 93 = .ok (.putfield 43, 3) := dk_181 0 43 (dk_at dksX5_saves_4 0 rfl rfl)
theorem dX5_saves_96 : decode cX5_saves 96 = .ok (.return_, 1) := dk_177 (dk_at dksX5_saves_4 3 rfl rfl)
abbrev cX5_lay : ByteArray := prog_8_method_10_code
def yX5_lay : MethodName := ⟨RX5, "lay", "(III)V"⟩
def dkwX5_lay_0 : List UInt8 := [42, 180, 0, 7, 16, 13, 16, 10, 27, 104, 96, 28, 96, 29, 79, 177]
abbrev dktX5_lay_0 : List UInt8 := dkwX5_lay_0 ++ []
theorem dksX5_lay_0 : cX5_lay.data.toList.drop 0 = dktX5_lay_0 := by decide +kernel
theorem dX5_lay_0 : decode cX5_lay 0 = .ok (.aload_n 0, 1) := dk_42 (dk_at dksX5_lay_0 0 rfl rfl)
theorem dX5_lay_1 : decode cX5_lay 1 = .ok (.getfield 7, 3) := dk_180 0 7 (dk_at dksX5_lay_0 1 rfl rfl)
theorem dX5_lay_4 : decode cX5_lay 4 = .ok (.bipush 13, 2) := dk_16 13 (dk_at dksX5_lay_0 4 rfl rfl)
theorem dX5_lay_6 : decode cX5_lay 6 = .ok (.bipush 10, 2) := dk_16 10 (dk_at dksX5_lay_0 6 rfl rfl)
theorem dX5_lay_8 : decode cX5_lay 8 = .ok (.iload_n 1, 1) := dk_27 (dk_at dksX5_lay_0 8 rfl rfl)
theorem dX5_lay_9 : decode cX5_lay 9 = .ok (.imul, 1) := dk_104 (dk_at dksX5_lay_0 9 rfl rfl)
theorem dX5_lay_10 : decode cX5_lay 10 = .ok (.iadd, 1) := dk_96 (dk_at dksX5_lay_0 10 rfl rfl)
theorem dX5_lay_11 : decode cX5_lay 11 = .ok (.iload_n 2, 1) := dk_28 (dk_at dksX5_lay_0 11 rfl rfl)
theorem dX5_lay_12 : decode cX5_lay 12 = .ok (.iadd, 1) := dk_96 (dk_at dksX5_lay_0 12 rfl rfl)
theorem dX5_lay_13 : decode cX5_lay 13 = .ok (.iload_n 3, 1) := dk_29 (dk_at dksX5_lay_0 13 rfl rfl)
theorem dX5_lay_14 : decode cX5_lay 14 = .ok (.iastore, 1) := dk_79 (dk_at dksX5_lay_0 14 rfl rfl)
theorem dX5_lay_15 : decode cX5_lay 15 = .ok (.return_, 1) := dk_177 (dk_at dksX5_lay_0 15 rfl rfl)
abbrev cX5_fountains : ByteArray := prog_8_method_34_code
def yX5_fountains : MethodName := ⟨RX5, "fountains", "()I"⟩
def dkwX5_fountains_1 : List UInt8 := [167, 255, 237, 27, 172]
abbrev dktX5_fountains_1 : List UInt8 := dkwX5_fountains_1 ++ []
def dkwX5_fountains_0 : List UInt8 := [3, 60, 3, 61, 28, 16, 8, 162, 0, 19, 27, 42, 28, 16, 6, 182, 0, 46, 96, 60, 132, 2, 1]
abbrev dktX5_fountains_0 : List UInt8 := dkwX5_fountains_0 ++ dktX5_fountains_1
theorem dksX5_fountains_0 : cX5_fountains.data.toList.drop 0 = dktX5_fountains_0 := by decide +kernel
theorem dksX5_fountains_1 : cX5_fountains.data.toList.drop 23 = dktX5_fountains_1 := dk_seg dksX5_fountains_0 23 rfl rfl
theorem dX5_fountains_0 : decode cX5_fountains 0 = .ok (.iconst 0, 1) := dk_3 (dk_at dksX5_fountains_0 0 rfl rfl)
theorem dX5_fountains_1 : decode cX5_fountains 1 = .ok (.istore_n 1, 1) := dk_60 (dk_at dksX5_fountains_0 1 rfl rfl)
theorem dX5_fountains_2 : decode cX5_fountains 2 = .ok (.iconst 0, 1) := dk_3 (dk_at dksX5_fountains_0 2 rfl rfl)
theorem dX5_fountains_3 : decode cX5_fountains 3 = .ok (.istore_n 2, 1) := dk_61 (dk_at dksX5_fountains_0 3 rfl rfl)
theorem dX5_fountains_4 : decode cX5_fountains 4 = .ok (.iload_n 2, 1) := dk_28 (dk_at dksX5_fountains_0 4 rfl rfl)
theorem dX5_fountains_5 : decode cX5_fountains 5 = .ok (.bipush 8, 2) := dk_16 8 (dk_at dksX5_fountains_0 5 rfl rfl)
theorem dX5_fountains_7 : decode cX5_fountains 7 = .ok (.if_icmp .ge 19, 3) := dk_162 0 19 (dk_at dksX5_fountains_0 7 rfl rfl)
theorem dX5_fountains_10 : decode cX5_fountains 10 = .ok (.iload_n 1, 1) := dk_27 (dk_at dksX5_fountains_0 10 rfl rfl)
theorem dX5_fountains_11 : decode cX5_fountains 11 = .ok (.aload_n 0, 1) := dk_42 (dk_at dksX5_fountains_0 11 rfl rfl)
theorem dX5_fountains_12 : decode cX5_fountains 12 = .ok (.iload_n 2, 1) := dk_28 (dk_at dksX5_fountains_0 12 rfl rfl)
theorem dX5_fountains_13 : decode cX5_fountains 13 = .ok (.bipush 6, 2) := dk_16 6 (dk_at dksX5_fountains_0 13 rfl rfl)
theorem dX5_fountains_15 : decode cX5_fountains 15 = .ok (.invokevirtual 46, 3) := dk_182 0 46 (dk_at dksX5_fountains_0 15 rfl rfl)
theorem dX5_fountains_18 : decode cX5_fountains 18 = .ok (.iadd, 1) := dk_96 (dk_at dksX5_fountains_0 18 rfl rfl)
theorem dX5_fountains_19 : decode cX5_fountains 19 = .ok (.istore_n 1, 1) := dk_60 (dk_at dksX5_fountains_0 19 rfl rfl)
theorem dX5_fountains_20 : decode cX5_fountains 20 = .ok (.iinc 2 1, 3) := dk_132 2 1 (dk_at dksX5_fountains_0 20 rfl rfl)
theorem dX5_fountains_23 : decode cX5_fountains 23 = .ok (.goto (-19), 3) := dk_167 255 237 (dk_at dksX5_fountains_1 0 rfl rfl)
theorem dX5_fountains_26 : decode cX5_fountains 26 = .ok (.iload_n 1, 1) := dk_27 (dk_at dksX5_fountains_1 3 rfl rfl)
theorem dX5_fountains_27 : decode cX5_fountains 27 = .ok (.ireturn, 1) := dk_172 (dk_at dksX5_fountains_1 4 rfl rfl)
abbrev cX5_remove : ByteArray := prog_8_method_36_code
def yX5_remove : MethodName := ⟨RX5, "remove", "(I)I"⟩
def dkwX5_remove_4 : List UInt8 := [182, 0, 73, 28, 172]
abbrev dktX5_remove_4 : List UInt8 := dkwX5_remove_4 ++ []
def dkwX5_remove_3 : List UInt8 := [182, 0, 65, 132, 3, 1, 167, 255, 240, 42, 5, 27, 104, 182, 0, 73, 42, 5, 27, 104, 4, 96]
abbrev dktX5_remove_3 : List UInt8 := dkwX5_remove_3 ++ dktX5_remove_4
def dkwX5_remove_2 : List UInt8 := [42, 5, 27, 104, 4, 96, 3, 182, 0, 58, 96, 61, 3, 62, 29, 16, 10, 162, 0, 16, 42, 27, 29, 3]
abbrev dktX5_remove_2 : List UInt8 := dkwX5_remove_2 ++ dktX5_remove_3
def dkwX5_remove_1 : List UInt8 := [182, 0, 46, 154, 0, 9, 42, 5, 182, 0, 124, 172, 42, 182, 0, 127, 42, 5, 27, 104, 3, 182, 0, 58]
abbrev dktX5_remove_1 : List UInt8 := dkwX5_remove_1 ++ dktX5_remove_2
def dkwX5_remove_0 : List UInt8 := [42, 3, 181, 0, 35, 27, 184, 0, 121, 154, 0, 9, 42, 4, 182, 0, 124, 172, 42, 27, 16, 6]
abbrev dktX5_remove_0 : List UInt8 := dkwX5_remove_0 ++ dktX5_remove_1
theorem dksX5_remove_0 : cX5_remove.data.toList.drop 0 = dktX5_remove_0 := by decide +kernel
theorem dksX5_remove_1 : cX5_remove.data.toList.drop 22 = dktX5_remove_1 := dk_seg dksX5_remove_0 22 rfl rfl
theorem dksX5_remove_2 : cX5_remove.data.toList.drop 46 = dktX5_remove_2 := dk_seg dksX5_remove_1 24 rfl rfl
theorem dksX5_remove_3 : cX5_remove.data.toList.drop 70 = dktX5_remove_3 := dk_seg dksX5_remove_2 24 rfl rfl
theorem dksX5_remove_4 : cX5_remove.data.toList.drop 92 = dktX5_remove_4 := dk_seg dksX5_remove_3 22 rfl rfl
theorem dX5_remove_0 : decode cX5_remove 0 = .ok (.aload_n 0, 1) := dk_42 (dk_at dksX5_remove_0 0 rfl rfl)
theorem dX5_remove_1 : decode cX5_remove 1 = .ok (.iconst 0, 1) := dk_3 (dk_at dksX5_remove_0 1 rfl rfl)
theorem dX5_remove_2 : decode cX5_remove 2 = .ok (.putfield 35, 3) := dk_181 0 35 (dk_at dksX5_remove_0 2 rfl rfl)
theorem dX5_remove_5 : decode cX5_remove 5 = .ok (.iload_n 1, 1) := dk_27 (dk_at dksX5_remove_0 5 rfl rfl)
theorem dX5_remove_6 : decode cX5_remove 6 = .ok (.invokestatic 121, 3) := dk_184 0 121 (dk_at dksX5_remove_0 6 rfl rfl)
theorem dX5_remove_9 : decode cX5_remove 9 = .ok (.ifCond .ne 9, 3) := dk_154 0 9 (dk_at dksX5_remove_0 9 rfl rfl)
theorem dX5_remove_12 : decode cX5_remove 12 = .ok (.aload_n 0, 1) := dk_42 (dk_at dksX5_remove_0 12 rfl rfl)
theorem dX5_remove_13 : decode cX5_remove 13 = .ok (.iconst 1, 1) := dk_4 (dk_at dksX5_remove_0 13 rfl rfl)
theorem dX5_remove_14 : decode cX5_remove 14 = .ok (.invokevirtual 124, 3) := dk_182 0 124 (dk_at dksX5_remove_0 14 rfl rfl)
theorem dX5_remove_17 : decode cX5_remove 17 = .ok (.ireturn, 1) := dk_172 (dk_at dksX5_remove_0 17 rfl rfl)
theorem dX5_remove_18 : decode cX5_remove 18 = .ok (.aload_n 0, 1) := dk_42 (dk_at dksX5_remove_0 18 rfl rfl)
theorem dX5_remove_19 : decode cX5_remove 19 = .ok (.iload_n 1, 1) := dk_27 (dk_at dksX5_remove_0 19 rfl rfl)
theorem dX5_remove_20 : decode cX5_remove 20 = .ok (.bipush 6, 2) := dk_16 6 (dk_at dksX5_remove_0 20 rfl rfl)
theorem dX5_remove_22 : decode cX5_remove 22 = .ok (.invokevirtual 46, 3) := dk_182 0 46 (dk_at dksX5_remove_1 0 rfl rfl)
theorem dX5_remove_25 : decode cX5_remove 25 = .ok (.ifCond .ne 9, 3) := dk_154 0 9 (dk_at dksX5_remove_1 3 rfl rfl)
theorem dX5_remove_28 : decode cX5_remove 28 = .ok (.aload_n 0, 1) := dk_42 (dk_at dksX5_remove_1 6 rfl rfl)
theorem dX5_remove_29 : decode cX5_remove 29 = .ok (.iconst 2, 1) := dk_5 (dk_at dksX5_remove_1 7 rfl rfl)
theorem dX5_remove_30 : decode cX5_remove 30 = .ok (.invokevirtual 124, 3) := dk_182 0 124 (dk_at dksX5_remove_1 8 rfl rfl)
theorem dX5_remove_33 : decode cX5_remove 33 = .ok (.ireturn, 1) := dk_172 (dk_at dksX5_remove_1 11 rfl rfl)
theorem dX5_remove_34 : decode cX5_remove 34 = .ok (.aload_n 0, 1) := dk_42 (dk_at dksX5_remove_1 12 rfl rfl)
theorem dX5_remove_35 : decode cX5_remove 35 = .ok (.invokevirtual 127, 3) := dk_182 0 127 (dk_at dksX5_remove_1 13 rfl rfl)
theorem dX5_remove_38 : decode cX5_remove 38 = .ok (.aload_n 0, 1) := dk_42 (dk_at dksX5_remove_1 16 rfl rfl)
theorem dX5_remove_39 : decode cX5_remove 39 = .ok (.iconst 2, 1) := dk_5 (dk_at dksX5_remove_1 17 rfl rfl)
theorem dX5_remove_40 : decode cX5_remove 40 = .ok (.iload_n 1, 1) := dk_27 (dk_at dksX5_remove_1 18 rfl rfl)
theorem dX5_remove_41 : decode cX5_remove 41 = .ok (.imul, 1) := dk_104 (dk_at dksX5_remove_1 19 rfl rfl)
theorem dX5_remove_42 : decode cX5_remove 42 = .ok (.iconst 0, 1) := dk_3 (dk_at dksX5_remove_1 20 rfl rfl)
theorem dX5_remove_43 : decode cX5_remove 43 = .ok (.invokevirtual 58, 3) := dk_182 0 58 (dk_at dksX5_remove_1 21 rfl rfl)
theorem dX5_remove_46 : decode cX5_remove 46 = .ok (.aload_n 0, 1) := dk_42 (dk_at dksX5_remove_2 0 rfl rfl)
theorem dX5_remove_47 : decode cX5_remove 47 = .ok (.iconst 2, 1) := dk_5 (dk_at dksX5_remove_2 1 rfl rfl)
theorem dX5_remove_48 : decode cX5_remove 48 = .ok (.iload_n 1, 1) := dk_27 (dk_at dksX5_remove_2 2 rfl rfl)
theorem dX5_remove_49 : decode cX5_remove 49 = .ok (.imul, 1) := dk_104 (dk_at dksX5_remove_2 3 rfl rfl)
theorem dX5_remove_50 : decode cX5_remove 50 = .ok (.iconst 1, 1) := dk_4 (dk_at dksX5_remove_2 4 rfl rfl)
theorem dX5_remove_51 : decode cX5_remove 51 = .ok (.iadd, 1) := dk_96 (dk_at dksX5_remove_2 5 rfl rfl)
theorem dX5_remove_52 : decode cX5_remove 52 = .ok (.iconst 0, 1) := dk_3 (dk_at dksX5_remove_2 6 rfl rfl)
theorem dX5_remove_53 : decode cX5_remove 53 = .ok (.invokevirtual 58, 3) := dk_182 0 58 (dk_at dksX5_remove_2 7 rfl rfl)
theorem dX5_remove_56 : decode cX5_remove 56 = .ok (.iadd, 1) := dk_96 (dk_at dksX5_remove_2 10 rfl rfl)
theorem dX5_remove_57 : decode cX5_remove 57 = .ok (.istore_n 2, 1) := dk_61 (dk_at dksX5_remove_2 11 rfl rfl)
theorem dX5_remove_58 : decode cX5_remove 58 = .ok (.iconst 0, 1) := dk_3 (dk_at dksX5_remove_2 12 rfl rfl)
theorem dX5_remove_59 : decode cX5_remove 59 = .ok (.istore_n 3, 1) := dk_62 (dk_at dksX5_remove_2 13 rfl rfl)
theorem dX5_remove_60 : decode cX5_remove 60 = .ok (.iload_n 3, 1) := dk_29 (dk_at dksX5_remove_2 14 rfl rfl)
theorem dX5_remove_61 : decode cX5_remove 61 = .ok (.bipush 10, 2) := dk_16 10 (dk_at dksX5_remove_2 15 rfl rfl)
theorem dX5_remove_63 : decode cX5_remove 63 = .ok (.if_icmp .ge 16, 3) := dk_162 0 16 (dk_at dksX5_remove_2 17 rfl rfl)
theorem dX5_remove_66 : decode cX5_remove 66 = .ok (.aload_n 0, 1) := dk_42 (dk_at dksX5_remove_2 20 rfl rfl)
theorem dX5_remove_67 : decode cX5_remove 67 = .ok (.iload_n 1, 1) := dk_27 (dk_at dksX5_remove_2 21 rfl rfl)
theorem dX5_remove_68 : decode cX5_remove 68 = .ok (.iload_n 3, 1) := dk_29 (dk_at dksX5_remove_2 22 rfl rfl)
theorem dX5_remove_69 : decode cX5_remove 69 = .ok (.iconst 0, 1) := dk_3 (dk_at dksX5_remove_2 23 rfl rfl)
theorem dX5_remove_70 : decode cX5_remove 70 = .ok (.invokevirtual 65, 3) := dk_182 0 65 (dk_at dksX5_remove_3 0 rfl rfl)
theorem dX5_remove_73 : decode cX5_remove 73 = .ok (.iinc 3 1, 3) := dk_132 3 1 (dk_at dksX5_remove_3 3 rfl rfl)
theorem dX5_remove_76 : decode cX5_remove 76 = .ok (.goto (-16), 3) := dk_167 255 240 (dk_at dksX5_remove_3 6 rfl rfl)
theorem dX5_remove_79 : decode cX5_remove 79 = .ok (.aload_n 0, 1) := dk_42 (dk_at dksX5_remove_3 9 rfl rfl)
theorem dX5_remove_80 : decode cX5_remove 80 = .ok (.iconst 2, 1) := dk_5 (dk_at dksX5_remove_3 10 rfl rfl)
theorem dX5_remove_81 : decode cX5_remove 81 = .ok (.iload_n 1, 1) := dk_27 (dk_at dksX5_remove_3 11 rfl rfl)
theorem dX5_remove_82 : decode cX5_remove 82 = .ok (.imul, 1) := dk_104 (dk_at dksX5_remove_3 12 rfl rfl)
theorem dX5_remove_83 : decode cX5_remove 83 = .ok (.invokevirtual 73, 3) := dk_182 0 73 (dk_at dksX5_remove_3 13 rfl rfl)
theorem dX5_remove_86 : decode cX5_remove 86 = .ok (.aload_n 0, 1) := dk_42 (dk_at dksX5_remove_3 16 rfl rfl)
theorem dX5_remove_87 : decode cX5_remove 87 = .ok (.iconst 2, 1) := dk_5 (dk_at dksX5_remove_3 17 rfl rfl)
theorem dX5_remove_88 : decode cX5_remove 88 = .ok (.iload_n 1, 1) := dk_27 (dk_at dksX5_remove_3 18 rfl rfl)
theorem dX5_remove_89 : decode cX5_remove 89 = .ok (.imul, 1) := dk_104 (dk_at dksX5_remove_3 19 rfl rfl)
theorem dX5_remove_90 : decode cX5_remove 90 = .ok (.iconst 1, 1) := dk_4 (dk_at dksX5_remove_3 20 rfl rfl)
theorem dX5_remove_91 : decode cX5_remove 91 = .ok (.iadd, 1) := dk_96 (dk_at dksX5_remove_3 21 rfl rfl)
theorem dX5_remove_92 : decode cX5_remove 92 = .ok (.invokevirtual 73, 3) := dk_182 0 73 (dk_at dksX5_remove_4 0 rfl rfl)
theorem dX5_remove_95 : decode cX5_remove 95 = .ok (.iload_n 2, 1) := dk_28 (dk_at dksX5_remove_4 3 rfl rfl)
theorem dX5_remove_96 : decode cX5_remove 96 = .ok (.ireturn, 1) := dk_172 (dk_at dksX5_remove_4 4 rfl rfl)
abbrev cX5_jobOf : ByteArray := prog_8_method_11_code
def yX5_jobOf : MethodName := ⟨RX5, "jobOf", "(II)I"⟩
def dkwX5_jobOf_0 : List UInt8 := [42, 180, 0, 7, 16, 93, 6, 27, 104, 96, 28, 96, 46, 172]
abbrev dktX5_jobOf_0 : List UInt8 := dkwX5_jobOf_0 ++ []
theorem dksX5_jobOf_0 : cX5_jobOf.data.toList.drop 0 = dktX5_jobOf_0 := by decide +kernel
theorem dX5_jobOf_0 : decode cX5_jobOf 0 = .ok (.aload_n 0, 1) := dk_42 (dk_at dksX5_jobOf_0 0 rfl rfl)
theorem dX5_jobOf_1 : decode cX5_jobOf 1 = .ok (.getfield 7, 3) := dk_180 0 7 (dk_at dksX5_jobOf_0 1 rfl rfl)
theorem dX5_jobOf_4 : decode cX5_jobOf 4 = .ok (.bipush 93, 2) := dk_16 93 (dk_at dksX5_jobOf_0 4 rfl rfl)
theorem dX5_jobOf_6 : decode cX5_jobOf 6 = .ok (.iconst 3, 1) := dk_6 (dk_at dksX5_jobOf_0 6 rfl rfl)
theorem dX5_jobOf_7 : decode cX5_jobOf 7 = .ok (.iload_n 1, 1) := dk_27 (dk_at dksX5_jobOf_0 7 rfl rfl)
theorem dX5_jobOf_8 : decode cX5_jobOf 8 = .ok (.imul, 1) := dk_104 (dk_at dksX5_jobOf_0 8 rfl rfl)
theorem dX5_jobOf_9 : decode cX5_jobOf 9 = .ok (.iadd, 1) := dk_96 (dk_at dksX5_jobOf_0 9 rfl rfl)
theorem dX5_jobOf_10 : decode cX5_jobOf 10 = .ok (.iload_n 2, 1) := dk_28 (dk_at dksX5_jobOf_0 10 rfl rfl)
theorem dX5_jobOf_11 : decode cX5_jobOf 11 = .ok (.iadd, 1) := dk_96 (dk_at dksX5_jobOf_0 11 rfl rfl)
theorem dX5_jobOf_12 : decode cX5_jobOf 12 = .ok (.iaload, 1) := dk_46 (dk_at dksX5_jobOf_0 12 rfl rfl)
theorem dX5_jobOf_13 : decode cX5_jobOf 13 = .ok (.ireturn, 1) := dk_172 (dk_at dksX5_jobOf_0 13 rfl rfl)
abbrev cX5_ends : ByteArray := prog_8_method_17_code
def yX5_ends : MethodName := ⟨RX5, "ends", "(I)V"⟩
def dkwX5_ends_1 : List UInt8 := [167, 255, 234, 177]
abbrev dktX5_ends_1 : List UInt8 := dkwX5_ends_1 ++ []
def dkwX5_ends_0 : List UInt8 := [3, 61, 28, 6, 162, 0, 23, 42, 180, 0, 7, 16, 93, 6, 27, 104, 96, 28, 96, 3, 79, 132, 2, 1]
abbrev dktX5_ends_0 : List UInt8 := dkwX5_ends_0 ++ dktX5_ends_1
theorem dksX5_ends_0 : cX5_ends.data.toList.drop 0 = dktX5_ends_0 := by decide +kernel
theorem dksX5_ends_1 : cX5_ends.data.toList.drop 24 = dktX5_ends_1 := dk_seg dksX5_ends_0 24 rfl rfl
theorem dX5_ends_0 : decode cX5_ends 0 = .ok (.iconst 0, 1) := dk_3 (dk_at dksX5_ends_0 0 rfl rfl)
theorem dX5_ends_1 : decode cX5_ends 1 = .ok (.istore_n 2, 1) := dk_61 (dk_at dksX5_ends_0 1 rfl rfl)
theorem dX5_ends_2 : decode cX5_ends 2 = .ok (.iload_n 2, 1) := dk_28 (dk_at dksX5_ends_0 2 rfl rfl)
theorem dX5_ends_3 : decode cX5_ends 3 = .ok (.iconst 3, 1) := dk_6 (dk_at dksX5_ends_0 3 rfl rfl)
theorem dX5_ends_4 : decode cX5_ends 4 = .ok (.if_icmp .ge 23, 3) := dk_162 0 23 (dk_at dksX5_ends_0 4 rfl rfl)
theorem dX5_ends_7 : decode cX5_ends 7 = .ok (.aload_n 0, 1) := dk_42 (dk_at dksX5_ends_0 7 rfl rfl)
theorem dX5_ends_8 : decode cX5_ends 8 = .ok (.getfield 7, 3) := dk_180 0 7 (dk_at dksX5_ends_0 8 rfl rfl)
theorem dX5_ends_11 : decode cX5_ends 11 = .ok (.bipush 93, 2) := dk_16 93 (dk_at dksX5_ends_0 11 rfl rfl)
theorem dX5_ends_13 : decode cX5_ends 13 = .ok (.iconst 3, 1) := dk_6 (dk_at dksX5_ends_0 13 rfl rfl)
theorem dX5_ends_14 : decode cX5_ends 14 = .ok (.iload_n 1, 1) := dk_27 (dk_at dksX5_ends_0 14 rfl rfl)
theorem dX5_ends_15 : decode cX5_ends 15 = .ok (.imul, 1) := dk_104 (dk_at dksX5_ends_0 15 rfl rfl)
theorem dX5_ends_16 : decode cX5_ends 16 = .ok (.iadd, 1) := dk_96 (dk_at dksX5_ends_0 16 rfl rfl)
theorem dX5_ends_17 : decode cX5_ends 17 = .ok (.iload_n 2, 1) := dk_28 (dk_at dksX5_ends_0 17 rfl rfl)
theorem dX5_ends_18 : decode cX5_ends 18 = .ok (.iadd, 1) := dk_96 (dk_at dksX5_ends_0 18 rfl rfl)
theorem dX5_ends_19 : decode cX5_ends 19 = .ok (.iconst 0, 1) := dk_3 (dk_at dksX5_ends_0 19 rfl rfl)
theorem dX5_ends_20 : decode cX5_ends 20 = .ok (.iastore, 1) := dk_79 (dk_at dksX5_ends_0 20 rfl rfl)
theorem dX5_ends_21 : decode cX5_ends 21 = .ok (.iinc 2 1, 3) := dk_132 2 1 (dk_at dksX5_ends_0 21 rfl rfl)
theorem dX5_ends_24 : decode cX5_ends 24 = .ok (.goto (-22), 3) := dk_167 255 234 (dk_at dksX5_ends_1 0 rfl rfl)
theorem dX5_ends_27 : decode cX5_ends 27 = .ok (.return_, 1) := dk_177 (dk_at dksX5_ends_1 3 rfl rfl)
abbrev cX5_drain : ByteArray := prog_8_method_38_code
def yX5_drain : MethodName := ⟨RX5, "drain", "(IZ)I"⟩
def dkwX5_drain_0 : List UInt8 := [42, 3, 181, 0, 35, 42, 27, 7, 28, 182, 0, 133, 172]
abbrev dktX5_drain_0 : List UInt8 := dkwX5_drain_0 ++ []
theorem dksX5_drain_0 : cX5_drain.data.toList.drop 0 = dktX5_drain_0 := by decide +kernel
theorem dX5_drain_0 : decode cX5_drain 0 = .ok (.aload_n 0, 1) := dk_42 (dk_at dksX5_drain_0 0 rfl rfl)
theorem dX5_drain_1 : decode cX5_drain 1 = .ok (.iconst 0, 1) := dk_3 (dk_at dksX5_drain_0 1 rfl rfl)
theorem dX5_drain_2 : decode cX5_drain 2 = .ok (.putfield 35, 3) := dk_181 0 35 (dk_at dksX5_drain_0 2 rfl rfl)
theorem dX5_drain_5 : decode cX5_drain 5 = .ok (.aload_n 0, 1) := dk_42 (dk_at dksX5_drain_0 5 rfl rfl)
theorem dX5_drain_6 : decode cX5_drain 6 = .ok (.iload_n 1, 1) := dk_27 (dk_at dksX5_drain_0 6 rfl rfl)
theorem dX5_drain_7 : decode cX5_drain 7 = .ok (.iconst 4, 1) := dk_7 (dk_at dksX5_drain_0 7 rfl rfl)
theorem dX5_drain_8 : decode cX5_drain 8 = .ok (.iload_n 2, 1) := dk_28 (dk_at dksX5_drain_0 8 rfl rfl)
theorem dX5_drain_9 : decode cX5_drain 9 = .ok (.invokevirtual 133, 3) := dk_182 0 133 (dk_at dksX5_drain_0 9 rfl rfl)
theorem dX5_drain_12 : decode cX5_drain 12 = .ok (.ireturn, 1) := dk_172 (dk_at dksX5_drain_0 12 rfl rfl)
abbrev cX5_turns : ByteArray := prog_8_method_37_code
def yX5_turns : MethodName := ⟨RX5, "turns", "(IIZ)I"⟩
def dkwX5_turns_2 : List UInt8 := [4, 167, 0, 4, 3, 182, 0, 65, 21, 4, 172]
abbrev dktX5_turns_2 : List UInt8 := dkwX5_turns_2 ++ []
def dkwX5_turns_1 : List UInt8 := [5, 182, 0, 124, 172, 42, 182, 0, 127, 42, 27, 28, 182, 0, 46, 54, 4, 42, 27, 28, 29, 153, 0, 7]
abbrev dktX5_turns_1 : List UInt8 := dkwX5_turns_1 ++ dktX5_turns_2
def dkwX5_turns_0 : List UInt8 := [27, 184, 0, 121, 154, 0, 9, 42, 4, 182, 0, 124, 172, 42, 27, 16, 6, 182, 0, 46, 154, 0, 9, 42]
abbrev dktX5_turns_0 : List UInt8 := dkwX5_turns_0 ++ dktX5_turns_1
theorem dksX5_turns_0 : cX5_turns.data.toList.drop 0 = dktX5_turns_0 := by decide +kernel
theorem dksX5_turns_1 : cX5_turns.data.toList.drop 24 = dktX5_turns_1 := dk_seg dksX5_turns_0 24 rfl rfl
theorem dksX5_turns_2 : cX5_turns.data.toList.drop 48 = dktX5_turns_2 := dk_seg dksX5_turns_1 24 rfl rfl
theorem dX5_turns_0 : decode cX5_turns 0 = .ok (.iload_n 1, 1) := dk_27 (dk_at dksX5_turns_0 0 rfl rfl)
theorem dX5_turns_1 : decode cX5_turns 1 = .ok (.invokestatic 121, 3) := dk_184 0 121 (dk_at dksX5_turns_0 1 rfl rfl)
theorem dX5_turns_4 : decode cX5_turns 4 = .ok (.ifCond .ne 9, 3) := dk_154 0 9 (dk_at dksX5_turns_0 4 rfl rfl)
theorem dX5_turns_7 : decode cX5_turns 7 = .ok (.aload_n 0, 1) := dk_42 (dk_at dksX5_turns_0 7 rfl rfl)
theorem dX5_turns_8 : decode cX5_turns 8 = .ok (.iconst 1, 1) := dk_4 (dk_at dksX5_turns_0 8 rfl rfl)
theorem dX5_turns_9 : decode cX5_turns 9 = .ok (.invokevirtual 124, 3) := dk_182 0 124 (dk_at dksX5_turns_0 9 rfl rfl)
theorem dX5_turns_12 : decode cX5_turns 12 = .ok (.ireturn, 1) := dk_172 (dk_at dksX5_turns_0 12 rfl rfl)
theorem dX5_turns_13 : decode cX5_turns 13 = .ok (.aload_n 0, 1) := dk_42 (dk_at dksX5_turns_0 13 rfl rfl)
theorem dX5_turns_14 : decode cX5_turns 14 = .ok (.iload_n 1, 1) := dk_27 (dk_at dksX5_turns_0 14 rfl rfl)
theorem dX5_turns_15 : decode cX5_turns 15 = .ok (.bipush 6, 2) := dk_16 6 (dk_at dksX5_turns_0 15 rfl rfl)
theorem dX5_turns_17 : decode cX5_turns 17 = .ok (.invokevirtual 46, 3) := dk_182 0 46 (dk_at dksX5_turns_0 17 rfl rfl)
theorem dX5_turns_20 : decode cX5_turns 20 = .ok (.ifCond .ne 9, 3) := dk_154 0 9 (dk_at dksX5_turns_0 20 rfl rfl)
theorem dX5_turns_23 : decode cX5_turns 23 = .ok (.aload_n 0, 1) := dk_42 (dk_at dksX5_turns_0 23 rfl rfl)
theorem dX5_turns_24 : decode cX5_turns 24 = .ok (.iconst 2, 1) := dk_5 (dk_at dksX5_turns_1 0 rfl rfl)
theorem dX5_turns_25 : decode cX5_turns 25 = .ok (.invokevirtual 124, 3) := dk_182 0 124 (dk_at dksX5_turns_1 1 rfl rfl)
theorem dX5_turns_28 : decode cX5_turns 28 = .ok (.ireturn, 1) := dk_172 (dk_at dksX5_turns_1 4 rfl rfl)
theorem dX5_turns_29 : decode cX5_turns 29 = .ok (.aload_n 0, 1) := dk_42 (dk_at dksX5_turns_1 5 rfl rfl)
theorem dX5_turns_30 : decode cX5_turns 30 = .ok (.invokevirtual 127, 3) := dk_182 0 127 (dk_at dksX5_turns_1 6 rfl rfl)
theorem dX5_turns_33 : decode cX5_turns 33 = .ok (.aload_n 0, 1) := dk_42 (dk_at dksX5_turns_1 9 rfl rfl)
theorem dX5_turns_34 : decode cX5_turns 34 = .ok (.iload_n 1, 1) := dk_27 (dk_at dksX5_turns_1 10 rfl rfl)
theorem dX5_turns_35 : decode cX5_turns 35 = .ok (.iload_n 2, 1) := dk_28 (dk_at dksX5_turns_1 11 rfl rfl)
theorem dX5_turns_36 : decode cX5_turns 36 = .ok (.invokevirtual 46, 3) := dk_182 0 46 (dk_at dksX5_turns_1 12 rfl rfl)
theorem dX5_turns_39 : decode cX5_turns 39 = .ok (.istore 4, 2) := dk_54 4 (dk_at dksX5_turns_1 15 rfl rfl)
theorem dX5_turns_41 : decode cX5_turns 41 = .ok (.aload_n 0, 1) := dk_42 (dk_at dksX5_turns_1 17 rfl rfl)
theorem dX5_turns_42 : decode cX5_turns 42 = .ok (.iload_n 1, 1) := dk_27 (dk_at dksX5_turns_1 18 rfl rfl)
theorem dX5_turns_43 : decode cX5_turns 43 = .ok (.iload_n 2, 1) := dk_28 (dk_at dksX5_turns_1 19 rfl rfl)
theorem dX5_turns_44 : decode cX5_turns 44 = .ok (.iload_n 3, 1) := dk_29 (dk_at dksX5_turns_1 20 rfl rfl)
theorem dX5_turns_45 : decode cX5_turns 45 = .ok (.ifCond .eq 7, 3) := dk_153 0 7 (dk_at dksX5_turns_1 21 rfl rfl)
theorem dX5_turns_48 : decode cX5_turns 48 = .ok (.iconst 1, 1) := dk_4 (dk_at dksX5_turns_2 0 rfl rfl)
theorem dX5_turns_49 : decode cX5_turns 49 = .ok (.goto 4, 3) := dk_167 0 4 (dk_at dksX5_turns_2 1 rfl rfl)
theorem dX5_turns_52 : decode cX5_turns 52 = .ok (.iconst 0, 1) := dk_3 (dk_at dksX5_turns_2 4 rfl rfl)
theorem dX5_turns_53 : decode cX5_turns 53 = .ok (.invokevirtual 65, 3) := dk_182 0 65 (dk_at dksX5_turns_2 5 rfl rfl)
theorem dX5_turns_56 : decode cX5_turns 56 = .ok (.iload 4, 2) := dk_21 4 (dk_at dksX5_turns_2 8 rfl rfl)
theorem dX5_turns_58 : decode cX5_turns 58 = .ok (.ireturn, 1) := dk_172 (dk_at dksX5_turns_2 10 rfl rfl)
abbrev cX5_heat : ByteArray := prog_8_method_39_code
def yX5_heat : MethodName := ⟨RX5, "heat", "(IZ)I"⟩
def dkwX5_heat_0 : List UInt8 := [42, 3, 181, 0, 35, 42, 27, 6, 28, 182, 0, 133, 172]
abbrev dktX5_heat_0 : List UInt8 := dkwX5_heat_0 ++ []
theorem dksX5_heat_0 : cX5_heat.data.toList.drop 0 = dktX5_heat_0 := by decide +kernel
theorem dX5_heat_0 : decode cX5_heat 0 = .ok (.aload_n 0, 1) := dk_42 (dk_at dksX5_heat_0 0 rfl rfl)
theorem dX5_heat_1 : decode cX5_heat 1 = .ok (.iconst 0, 1) := dk_3 (dk_at dksX5_heat_0 1 rfl rfl)
theorem dX5_heat_2 : decode cX5_heat 2 = .ok (.putfield 35, 3) := dk_181 0 35 (dk_at dksX5_heat_0 2 rfl rfl)
theorem dX5_heat_5 : decode cX5_heat 5 = .ok (.aload_n 0, 1) := dk_42 (dk_at dksX5_heat_0 5 rfl rfl)
theorem dX5_heat_6 : decode cX5_heat 6 = .ok (.iload_n 1, 1) := dk_27 (dk_at dksX5_heat_0 6 rfl rfl)
theorem dX5_heat_7 : decode cX5_heat 7 = .ok (.iconst 3, 1) := dk_6 (dk_at dksX5_heat_0 7 rfl rfl)
theorem dX5_heat_8 : decode cX5_heat 8 = .ok (.iload_n 2, 1) := dk_28 (dk_at dksX5_heat_0 8 rfl rfl)
theorem dX5_heat_9 : decode cX5_heat 9 = .ok (.invokevirtual 133, 3) := dk_182 0 133 (dk_at dksX5_heat_0 9 rfl rfl)
theorem dX5_heat_12 : decode cX5_heat 12 = .ok (.ireturn, 1) := dk_172 (dk_at dksX5_heat_0 12 rfl rfl)
abbrev cX5_frost : ByteArray := prog_8_method_40_code
def yX5_frost : MethodName := ⟨RX5, "frost", "(II)I"⟩
def dkwX5_frost_11 : List UInt8 := [96, 79, 42, 180, 0, 7, 16, 6, 46, 172]
abbrev dktX5_frost_11 : List UInt8 := dkwX5_frost_11 ++ []
def dkwX5_frost_10 : List UInt8 := [180, 0, 7, 17, 0, 141, 5, 21, 4, 104, 96, 4, 96, 28, 79, 42, 180, 0, 7, 16, 6, 92, 46, 4]
abbrev dktX5_frost_10 : List UInt8 := dkwX5_frost_10 ++ dktX5_frost_11
def dkwX5_frost_9 : List UInt8 := [96, 46, 79, 132, 5, 255, 167, 255, 220, 42, 180, 0, 7, 17, 0, 141, 5, 21, 4, 104, 96, 27, 79, 42]
abbrev dktX5_frost_9 : List UInt8 := dkwX5_frost_9 ++ dktX5_frost_10
def dkwX5_frost_8 : List UInt8 := [161, 0, 33, 42, 180, 0, 7, 17, 0, 141, 21, 5, 96, 5, 96, 42, 180, 0, 7, 17, 0, 141, 21, 5]
abbrev dktX5_frost_8 : List UInt8 := dkwX5_frost_8 ++ dktX5_frost_9
def dkwX5_frost_7 : List UInt8 := [182, 0, 127, 5, 42, 180, 0, 7, 16, 6, 46, 104, 4, 100, 54, 5, 21, 5, 5, 21, 4, 104]
abbrev dktX5_frost_7 : List UInt8 := dkwX5_frost_7 ++ dktX5_frost_8
def dkwX5_frost_6 : List UInt8 := [167, 0, 4, 3, 96, 54, 4, 132, 5, 1, 167, 255, 168, 29, 153, 0, 9, 42, 5, 182, 0, 124, 172, 42]
abbrev dktX5_frost_6 : List UInt8 := dkwX5_frost_6 ++ dktX5_frost_7
def dkwX5_frost_5 : List UInt8 := [3, 62, 21, 4, 42, 180, 0, 7, 17, 0, 141, 5, 21, 5, 104, 96, 46, 27, 162, 0, 7, 4]
abbrev dktX5_frost_5 : List UInt8 := dkwX5_frost_5 ++ dktX5_frost_6
def dkwX5_frost_4 : List UInt8 := [163, 0, 24, 28, 42, 180, 0, 7, 17, 0, 141, 5, 21, 5, 104, 96, 46, 161, 0, 7, 4, 167, 0, 4]
abbrev dktX5_frost_4 : List UInt8 := dkwX5_frost_4 ++ dktX5_frost_5
def dkwX5_frost_3 : List UInt8 := [162, 0, 82, 29, 154, 0, 39, 27, 42, 180, 0, 7, 17, 0, 141, 5, 21, 5, 104, 96, 4, 96, 46]
abbrev dktX5_frost_3 : List UInt8 := dkwX5_frost_3 ++ dktX5_frost_4
def dkwX5_frost_2 : List UInt8 := [160, 0, 7, 4, 167, 0, 4, 3, 62, 3, 54, 4, 3, 54, 5, 21, 5, 42, 180, 0, 7, 16, 6, 46]
abbrev dktX5_frost_2 : List UInt8 := dkwX5_frost_2 ++ dktX5_frost_3
def dkwX5_frost_1 : List UInt8 := [17, 3, 231, 184, 0, 39, 154, 0, 9, 42, 4, 182, 0, 124, 172, 42, 180, 0, 7, 16, 6, 46, 16, 6]
abbrev dktX5_frost_1 : List UInt8 := dkwX5_frost_1 ++ dktX5_frost_2
def dkwX5_frost_0 : List UInt8 := [42, 3, 181, 0, 35, 27, 42, 180, 0, 7, 8, 46, 17, 3, 231, 184, 0, 39, 153, 0, 14, 28, 27]
abbrev dktX5_frost_0 : List UInt8 := dkwX5_frost_0 ++ dktX5_frost_1
theorem dksX5_frost_0 : cX5_frost.data.toList.drop 0 = dktX5_frost_0 := by decide +kernel
theorem dksX5_frost_1 : cX5_frost.data.toList.drop 23 = dktX5_frost_1 := dk_seg dksX5_frost_0 23 rfl rfl
theorem dksX5_frost_2 : cX5_frost.data.toList.drop 47 = dktX5_frost_2 := dk_seg dksX5_frost_1 24 rfl rfl
theorem dksX5_frost_3 : cX5_frost.data.toList.drop 71 = dktX5_frost_3 := dk_seg dksX5_frost_2 24 rfl rfl
theorem dksX5_frost_4 : cX5_frost.data.toList.drop 94 = dktX5_frost_4 := dk_seg dksX5_frost_3 23 rfl rfl
theorem dksX5_frost_5 : cX5_frost.data.toList.drop 118 = dktX5_frost_5 := dk_seg dksX5_frost_4 24 rfl rfl
theorem dksX5_frost_6 : cX5_frost.data.toList.drop 140 = dktX5_frost_6 := dk_seg dksX5_frost_5 22 rfl rfl
theorem dksX5_frost_7 : cX5_frost.data.toList.drop 164 = dktX5_frost_7 := dk_seg dksX5_frost_6 24 rfl rfl
theorem dksX5_frost_8 : cX5_frost.data.toList.drop 186 = dktX5_frost_8 := dk_seg dksX5_frost_7 22 rfl rfl
theorem dksX5_frost_9 : cX5_frost.data.toList.drop 210 = dktX5_frost_9 := dk_seg dksX5_frost_8 24 rfl rfl
theorem dksX5_frost_10 : cX5_frost.data.toList.drop 234 = dktX5_frost_10 := dk_seg dksX5_frost_9 24 rfl rfl
theorem dksX5_frost_11 : cX5_frost.data.toList.drop 258 = dktX5_frost_11 := dk_seg dksX5_frost_10 24 rfl rfl
theorem dX5_frost_0 : decode cX5_frost 0 = .ok (.aload_n 0, 1) := dk_42 (dk_at dksX5_frost_0 0 rfl rfl)
theorem dX5_frost_1 : decode cX5_frost 1 = .ok (.iconst 0, 1) := dk_3 (dk_at dksX5_frost_0 1 rfl rfl)
theorem dX5_frost_2 : decode cX5_frost 2 = .ok (.putfield 35, 3) := dk_181 0 35 (dk_at dksX5_frost_0 2 rfl rfl)
theorem dX5_frost_5 : decode cX5_frost 5 = .ok (.iload_n 1, 1) := dk_27 (dk_at dksX5_frost_0 5 rfl rfl)
theorem dX5_frost_6 : decode cX5_frost 6 = .ok (.aload_n 0, 1) := dk_42 (dk_at dksX5_frost_0 6 rfl rfl)
theorem dX5_frost_7 : decode cX5_frost 7 = .ok (.getfield 7, 3) := dk_180 0 7 (dk_at dksX5_frost_0 7 rfl rfl)
theorem dX5_frost_10 : decode cX5_frost 10 = .ok (.iconst 5, 1) := dk_8 (dk_at dksX5_frost_0 10 rfl rfl)
theorem dX5_frost_11 : decode cX5_frost 11 = .ok (.iaload, 1) := dk_46 (dk_at dksX5_frost_0 11 rfl rfl)
theorem dX5_frost_12 : decode cX5_frost 12 = .ok (.sipush 999, 3) := dk_17 3 231 (dk_at dksX5_frost_0 12 rfl rfl)
theorem dX5_frost_15 : decode cX5_frost 15 = .ok (.invokestatic 39, 3) := dk_184 0 39 (dk_at dksX5_frost_0 15 rfl rfl)
theorem dX5_frost_18 : decode cX5_frost 18 = .ok (.ifCond .eq 14, 3) := dk_153 0 14 (dk_at dksX5_frost_0 18 rfl rfl)
theorem dX5_frost_21 : decode cX5_frost 21 = .ok (.iload_n 2, 1) := dk_28 (dk_at dksX5_frost_0 21 rfl rfl)
theorem dX5_frost_22 : decode cX5_frost 22 = .ok (.iload_n 1, 1) := dk_27 (dk_at dksX5_frost_0 22 rfl rfl)
theorem dX5_frost_23 : decode cX5_frost 23 = .ok (.sipush 999, 3) := dk_17 3 231 (dk_at dksX5_frost_1 0 rfl rfl)
theorem dX5_frost_26 : decode cX5_frost 26 = .ok (.invokestatic 39, 3) := dk_184 0 39 (dk_at dksX5_frost_1 3 rfl rfl)
theorem dX5_frost_29 : decode cX5_frost 29 = .ok (.ifCond .ne 9, 3) := dk_154 0 9 (dk_at dksX5_frost_1 6 rfl rfl)
theorem dX5_frost_32 : decode cX5_frost 32 = .ok (.aload_n 0, 1) := dk_42 (dk_at dksX5_frost_1 9 rfl rfl)
theorem dX5_frost_33 : decode cX5_frost 33 = .ok (.iconst 1, 1) := dk_4 (dk_at dksX5_frost_1 10 rfl rfl)
theorem dX5_frost_34 : decode cX5_frost 34 = .ok (.invokevirtual 124, 3) := dk_182 0 124 (dk_at dksX5_frost_1 11 rfl rfl)
theorem dX5_frost_37 : decode cX5_frost 37 = .ok (.ireturn, 1) := dk_172 (dk_at dksX5_frost_1 14 rfl rfl)
theorem dX5_frost_38 : decode cX5_frost 38 = .ok (.aload_n 0, 1) := dk_42 (dk_at dksX5_frost_1 15 rfl rfl)
theorem dX5_frost_39 : decode cX5_frost 39 = .ok (.getfield 7, 3) := dk_180 0 7 (dk_at dksX5_frost_1 16 rfl rfl)
theorem dX5_frost_42 : decode cX5_frost 42 = .ok (.bipush 6, 2) := dk_16 6 (dk_at dksX5_frost_1 19 rfl rfl)
theorem dX5_frost_44 : decode cX5_frost 44 = .ok (.iaload, 1) := dk_46 (dk_at dksX5_frost_1 21 rfl rfl)
theorem dX5_frost_45 : decode cX5_frost 45 = .ok (.bipush 6, 2) := dk_16 6 (dk_at dksX5_frost_1 22 rfl rfl)
theorem dX5_frost_47 : decode cX5_frost 47 = .ok (.if_icmp .ne 7, 3) := dk_160 0 7 (dk_at dksX5_frost_2 0 rfl rfl)
theorem dX5_frost_50 : decode cX5_frost 50 = .ok (.iconst 1, 1) := dk_4 (dk_at dksX5_frost_2 3 rfl rfl)
theorem dX5_frost_51 : decode cX5_frost 51 = .ok (.goto 4, 3) := dk_167 0 4 (dk_at dksX5_frost_2 4 rfl rfl)
theorem dX5_frost_54 : decode cX5_frost 54 = .ok (.iconst 0, 1) := dk_3 (dk_at dksX5_frost_2 7 rfl rfl)
theorem dX5_frost_55 : decode cX5_frost 55 = .ok (.istore_n 3, 1) := dk_62 (dk_at dksX5_frost_2 8 rfl rfl)
theorem dX5_frost_56 : decode cX5_frost 56 = .ok (.iconst 0, 1) := dk_3 (dk_at dksX5_frost_2 9 rfl rfl)
theorem dX5_frost_57 : decode cX5_frost 57 = .ok (.istore 4, 2) := dk_54 4 (dk_at dksX5_frost_2 10 rfl rfl)
theorem dX5_frost_59 : decode cX5_frost 59 = .ok (.iconst 0, 1) := dk_3 (dk_at dksX5_frost_2 12 rfl rfl)
theorem dX5_frost_60 : decode cX5_frost 60 = .ok (.istore 5, 2) := dk_54 5 (dk_at dksX5_frost_2 13 rfl rfl)
theorem dX5_frost_62 : decode cX5_frost 62 = .ok (.iload 5, 2) := dk_21 5 (dk_at dksX5_frost_2 15 rfl rfl)
theorem dX5_frost_64 : decode cX5_frost 64 = .ok (.aload_n 0, 1) := dk_42 (dk_at dksX5_frost_2 17 rfl rfl)
theorem dX5_frost_65 : decode cX5_frost 65 = .ok (.getfield 7, 3) := dk_180 0 7 (dk_at dksX5_frost_2 18 rfl rfl)
theorem dX5_frost_68 : decode cX5_frost 68 = .ok (.bipush 6, 2) := dk_16 6 (dk_at dksX5_frost_2 21 rfl rfl)
theorem dX5_frost_70 : decode cX5_frost 70 = .ok (.iaload, 1) := dk_46 (dk_at dksX5_frost_2 23 rfl rfl)
theorem dX5_frost_71 : decode cX5_frost 71 = .ok (.if_icmp .ge 82, 3) := dk_162 0 82 (dk_at dksX5_frost_3 0 rfl rfl)
theorem dX5_frost_74 : decode cX5_frost 74 = .ok (.iload_n 3, 1) := dk_29 (dk_at dksX5_frost_3 3 rfl rfl)
theorem dX5_frost_75 : decode cX5_frost 75 = .ok (.ifCond .ne 39, 3) := dk_154 0 39 (dk_at dksX5_frost_3 4 rfl rfl)
theorem dX5_frost_78 : decode cX5_frost 78 = .ok (.iload_n 1, 1) := dk_27 (dk_at dksX5_frost_3 7 rfl rfl)
theorem dX5_frost_79 : decode cX5_frost 79 = .ok (.aload_n 0, 1) := dk_42 (dk_at dksX5_frost_3 8 rfl rfl)
theorem dX5_frost_80 : decode cX5_frost 80 = .ok (.getfield 7, 3) := dk_180 0 7 (dk_at dksX5_frost_3 9 rfl rfl)
theorem dX5_frost_83 : decode cX5_frost 83 = .ok (.sipush 141, 3) := dk_17 0 141 (dk_at dksX5_frost_3 12 rfl rfl)
theorem dX5_frost_86 : decode cX5_frost 86 = .ok (.iconst 2, 1) := dk_5 (dk_at dksX5_frost_3 15 rfl rfl)
theorem dX5_frost_87 : decode cX5_frost 87 = .ok (.iload 5, 2) := dk_21 5 (dk_at dksX5_frost_3 16 rfl rfl)
theorem dX5_frost_89 : decode cX5_frost 89 = .ok (.imul, 1) := dk_104 (dk_at dksX5_frost_3 18 rfl rfl)
theorem dX5_frost_90 : decode cX5_frost 90 = .ok (.iadd, 1) := dk_96 (dk_at dksX5_frost_3 19 rfl rfl)
theorem dX5_frost_91 : decode cX5_frost 91 = .ok (.iconst 1, 1) := dk_4 (dk_at dksX5_frost_3 20 rfl rfl)
theorem dX5_frost_92 : decode cX5_frost 92 = .ok (.iadd, 1) := dk_96 (dk_at dksX5_frost_3 21 rfl rfl)
theorem dX5_frost_93 : decode cX5_frost 93 = .ok (.iaload, 1) := dk_46 (dk_at dksX5_frost_3 22 rfl rfl)
theorem dX5_frost_94 : decode cX5_frost 94 = .ok (.if_icmp .gt 24, 3) := dk_163 0 24 (dk_at dksX5_frost_4 0 rfl rfl)
theorem dX5_frost_97 : decode cX5_frost 97 = .ok (.iload_n 2, 1) := dk_28 (dk_at dksX5_frost_4 3 rfl rfl)
theorem dX5_frost_98 : decode cX5_frost 98 = .ok (.aload_n 0, 1) := dk_42 (dk_at dksX5_frost_4 4 rfl rfl)
theorem dX5_frost_99 : decode cX5_frost 99 = .ok (.getfield 7, 3) := dk_180 0 7 (dk_at dksX5_frost_4 5 rfl rfl)
theorem dX5_frost_102 : decode cX5_frost 102 = .ok (.sipush 141, 3) := dk_17 0 141 (dk_at dksX5_frost_4 8 rfl rfl)
theorem dX5_frost_105 : decode cX5_frost 105 = .ok (.iconst 2, 1) := dk_5 (dk_at dksX5_frost_4 11 rfl rfl)
theorem dX5_frost_106 : decode cX5_frost 106 = .ok (.iload 5, 2) := dk_21 5 (dk_at dksX5_frost_4 12 rfl rfl)
theorem dX5_frost_108 : decode cX5_frost 108 = .ok (.imul, 1) := dk_104 (dk_at dksX5_frost_4 14 rfl rfl)
theorem dX5_frost_109 : decode cX5_frost 109 = .ok (.iadd, 1) := dk_96 (dk_at dksX5_frost_4 15 rfl rfl)
theorem dX5_frost_110 : decode cX5_frost 110 = .ok (.iaload, 1) := dk_46 (dk_at dksX5_frost_4 16 rfl rfl)
theorem dX5_frost_111 : decode cX5_frost 111 = .ok (.if_icmp .lt 7, 3) := dk_161 0 7 (dk_at dksX5_frost_4 17 rfl rfl)
theorem dX5_frost_114 : decode cX5_frost 114 = .ok (.iconst 1, 1) := dk_4 (dk_at dksX5_frost_4 20 rfl rfl)
theorem dX5_frost_115 : decode cX5_frost 115 = .ok (.goto 4, 3) := dk_167 0 4 (dk_at dksX5_frost_4 21 rfl rfl)
theorem dX5_frost_118 : decode cX5_frost 118 = .ok (.iconst 0, 1) := dk_3 (dk_at dksX5_frost_5 0 rfl rfl)
theorem dX5_frost_119 : decode cX5_frost 119 = .ok (.istore_n 3, 1) := dk_62 (dk_at dksX5_frost_5 1 rfl rfl)
theorem dX5_frost_120 : decode cX5_frost 120 = .ok (.iload 4, 2) := dk_21 4 (dk_at dksX5_frost_5 2 rfl rfl)
theorem dX5_frost_122 : decode cX5_frost 122 = .ok (.aload_n 0, 1) := dk_42 (dk_at dksX5_frost_5 4 rfl rfl)
theorem dX5_frost_123 : decode cX5_frost 123 = .ok (.getfield 7, 3) := dk_180 0 7 (dk_at dksX5_frost_5 5 rfl rfl)
theorem dX5_frost_126 : decode cX5_frost 126 = .ok (.sipush 141, 3) := dk_17 0 141 (dk_at dksX5_frost_5 8 rfl rfl)
theorem dX5_frost_129 : decode cX5_frost 129 = .ok (.iconst 2, 1) := dk_5 (dk_at dksX5_frost_5 11 rfl rfl)
theorem dX5_frost_130 : decode cX5_frost 130 = .ok (.iload 5, 2) := dk_21 5 (dk_at dksX5_frost_5 12 rfl rfl)
theorem dX5_frost_132 : decode cX5_frost 132 = .ok (.imul, 1) := dk_104 (dk_at dksX5_frost_5 14 rfl rfl)
theorem dX5_frost_133 : decode cX5_frost 133 = .ok (.iadd, 1) := dk_96 (dk_at dksX5_frost_5 15 rfl rfl)
theorem dX5_frost_134 : decode cX5_frost 134 = .ok (.iaload, 1) := dk_46 (dk_at dksX5_frost_5 16 rfl rfl)
theorem dX5_frost_135 : decode cX5_frost 135 = .ok (.iload_n 1, 1) := dk_27 (dk_at dksX5_frost_5 17 rfl rfl)
theorem dX5_frost_136 : decode cX5_frost 136 = .ok (.if_icmp .ge 7, 3) := dk_162 0 7 (dk_at dksX5_frost_5 18 rfl rfl)
theorem dX5_frost_139 : decode cX5_frost 139 = .ok (.iconst 1, 1) := dk_4 (dk_at dksX5_frost_5 21 rfl rfl)
theorem dX5_frost_140 : decode cX5_frost 140 = .ok (.goto 4, 3) := dk_167 0 4 (dk_at dksX5_frost_6 0 rfl rfl)
theorem dX5_frost_143 : decode cX5_frost 143 = .ok (.iconst 0, 1) := dk_3 (dk_at dksX5_frost_6 3 rfl rfl)
theorem dX5_frost_144 : decode cX5_frost 144 = .ok (.iadd, 1) := dk_96 (dk_at dksX5_frost_6 4 rfl rfl)
theorem dX5_frost_145 : decode cX5_frost 145 = .ok (.istore 4, 2) := dk_54 4 (dk_at dksX5_frost_6 5 rfl rfl)
theorem dX5_frost_147 : decode cX5_frost 147 = .ok (.iinc 5 1, 3) := dk_132 5 1 (dk_at dksX5_frost_6 7 rfl rfl)
theorem dX5_frost_150 : decode cX5_frost 150 = .ok (.goto (-88), 3) := dk_167 255 168 (dk_at dksX5_frost_6 10 rfl rfl)
theorem dX5_frost_153 : decode cX5_frost 153 = .ok (.iload_n 3, 1) := dk_29 (dk_at dksX5_frost_6 13 rfl rfl)
theorem dX5_frost_154 : decode cX5_frost 154 = .ok (.ifCond .eq 9, 3) := dk_153 0 9 (dk_at dksX5_frost_6 14 rfl rfl)
theorem dX5_frost_157 : decode cX5_frost 157 = .ok (.aload_n 0, 1) := dk_42 (dk_at dksX5_frost_6 17 rfl rfl)
theorem dX5_frost_158 : decode cX5_frost 158 = .ok (.iconst 2, 1) := dk_5 (dk_at dksX5_frost_6 18 rfl rfl)
theorem dX5_frost_159 : decode cX5_frost 159 = .ok (.invokevirtual 124, 3) := dk_182 0 124 (dk_at dksX5_frost_6 19 rfl rfl)
theorem dX5_frost_162 : decode cX5_frost 162 = .ok (.ireturn, 1) := dk_172 (dk_at dksX5_frost_6 22 rfl rfl)
theorem dX5_frost_163 : decode cX5_frost 163 = .ok (.aload_n 0, 1) := dk_42 (dk_at dksX5_frost_6 23 rfl rfl)
theorem dX5_frost_164 : decode cX5_frost 164 = .ok (.invokevirtual 127, 3) := dk_182 0 127 (dk_at dksX5_frost_7 0 rfl rfl)
theorem dX5_frost_167 : decode cX5_frost 167 = .ok (.iconst 2, 1) := dk_5 (dk_at dksX5_frost_7 3 rfl rfl)
theorem dX5_frost_168 : decode cX5_frost 168 = .ok (.aload_n 0, 1) := dk_42 (dk_at dksX5_frost_7 4 rfl rfl)
theorem dX5_frost_169 : decode cX5_frost 169 = .ok (.getfield 7, 3) := dk_180 0 7 (dk_at dksX5_frost_7 5 rfl rfl)
theorem dX5_frost_172 : decode cX5_frost 172 = .ok (.bipush 6, 2) := dk_16 6 (dk_at dksX5_frost_7 8 rfl rfl)
theorem dX5_frost_174 : decode cX5_frost 174 = .ok (.iaload, 1) := dk_46 (dk_at dksX5_frost_7 10 rfl rfl)
theorem dX5_frost_175 : decode cX5_frost 175 = .ok (.imul, 1) := dk_104 (dk_at dksX5_frost_7 11 rfl rfl)
theorem dX5_frost_176 : decode cX5_frost 176 = .ok (.iconst 1, 1) := dk_4 (dk_at dksX5_frost_7 12 rfl rfl)
theorem dX5_frost_177 : decode cX5_frost 177 = .ok (.isub, 1) := dk_100 (dk_at dksX5_frost_7 13 rfl rfl)
theorem dX5_frost_178 : decode cX5_frost 178 = .ok (.istore 5, 2) := dk_54 5 (dk_at dksX5_frost_7 14 rfl rfl)
theorem dX5_frost_180 : decode cX5_frost 180 = .ok (.iload 5, 2) := dk_21 5 (dk_at dksX5_frost_7 16 rfl rfl)
theorem dX5_frost_182 : decode cX5_frost 182 = .ok (.iconst 2, 1) := dk_5 (dk_at dksX5_frost_7 18 rfl rfl)
theorem dX5_frost_183 : decode cX5_frost 183 = .ok (.iload 4, 2) := dk_21 4 (dk_at dksX5_frost_7 19 rfl rfl)
theorem dX5_frost_185 : decode cX5_frost 185 = .ok (.imul, 1) := dk_104 (dk_at dksX5_frost_7 21 rfl rfl)
theorem dX5_frost_186 : decode cX5_frost 186 = .ok (.if_icmp .lt 33, 3) := dk_161 0 33 (dk_at dksX5_frost_8 0 rfl rfl)
theorem dX5_frost_189 : decode cX5_frost 189 = .ok (.aload_n 0, 1) := dk_42 (dk_at dksX5_frost_8 3 rfl rfl)
theorem dX5_frost_190 : decode cX5_frost 190 = .ok (.getfield 7, 3) := dk_180 0 7 (dk_at dksX5_frost_8 4 rfl rfl)
theorem dX5_frost_193 : decode cX5_frost 193 = .ok (.sipush 141, 3) := dk_17 0 141 (dk_at dksX5_frost_8 7 rfl rfl)
theorem dX5_frost_196 : decode cX5_frost 196 = .ok (.iload 5, 2) := dk_21 5 (dk_at dksX5_frost_8 10 rfl rfl)
theorem dX5_frost_198 : decode cX5_frost 198 = .ok (.iadd, 1) := dk_96 (dk_at dksX5_frost_8 12 rfl rfl)
theorem dX5_frost_199 : decode cX5_frost 199 = .ok (.iconst 2, 1) := dk_5 (dk_at dksX5_frost_8 13 rfl rfl)
theorem dX5_frost_200 : decode cX5_frost 200 = .ok (.iadd, 1) := dk_96 (dk_at dksX5_frost_8 14 rfl rfl)
theorem dX5_frost_201 : decode cX5_frost 201 = .ok (.aload_n 0, 1) := dk_42 (dk_at dksX5_frost_8 15 rfl rfl)
theorem dX5_frost_202 : decode cX5_frost 202 = .ok (.getfield 7, 3) := dk_180 0 7 (dk_at dksX5_frost_8 16 rfl rfl)
theorem dX5_frost_205 : decode cX5_frost 205 = .ok (.sipush 141, 3) := dk_17 0 141 (dk_at dksX5_frost_8 19 rfl rfl)
theorem dX5_frost_208 : decode cX5_frost 208 = .ok (.iload 5, 2) := dk_21 5 (dk_at dksX5_frost_8 22 rfl rfl)
theorem dX5_frost_210 : decode cX5_frost 210 = .ok (.iadd, 1) := dk_96 (dk_at dksX5_frost_9 0 rfl rfl)
theorem dX5_frost_211 : decode cX5_frost 211 = .ok (.iaload, 1) := dk_46 (dk_at dksX5_frost_9 1 rfl rfl)
theorem dX5_frost_212 : decode cX5_frost 212 = .ok (.iastore, 1) := dk_79 (dk_at dksX5_frost_9 2 rfl rfl)
theorem dX5_frost_213 : decode cX5_frost 213 = .ok (.iinc 5 (-1), 3) := dk_132 5 255 (dk_at dksX5_frost_9 3 rfl rfl)
theorem dX5_frost_216 : decode cX5_frost 216 = .ok (.goto (-36), 3) := dk_167 255 220 (dk_at dksX5_frost_9 6 rfl rfl)
theorem dX5_frost_219 : decode cX5_frost 219 = .ok (.aload_n 0, 1) := dk_42 (dk_at dksX5_frost_9 9 rfl rfl)
theorem dX5_frost_220 : decode cX5_frost 220 = .ok (.getfield 7, 3) := dk_180 0 7 (dk_at dksX5_frost_9 10 rfl rfl)
theorem dX5_frost_223 : decode cX5_frost 223 = .ok (.sipush 141, 3) := dk_17 0 141 (dk_at dksX5_frost_9 13 rfl rfl)
theorem dX5_frost_226 : decode cX5_frost 226 = .ok (.iconst 2, 1) := dk_5 (dk_at dksX5_frost_9 16 rfl rfl)
theorem dX5_frost_227 : decode cX5_frost 227 = .ok (.iload 4, 2) := dk_21 4 (dk_at dksX5_frost_9 17 rfl rfl)
theorem dX5_frost_229 : decode cX5_frost 229 = .ok (.imul, 1) := dk_104 (dk_at dksX5_frost_9 19 rfl rfl)
theorem dX5_frost_230 : decode cX5_frost 230 = .ok (.iadd, 1) := dk_96 (dk_at dksX5_frost_9 20 rfl rfl)
theorem dX5_frost_231 : decode cX5_frost 231 = .ok (.iload_n 1, 1) := dk_27 (dk_at dksX5_frost_9 21 rfl rfl)
theorem dX5_frost_232 : decode cX5_frost 232 = .ok (.iastore, 1) := dk_79 (dk_at dksX5_frost_9 22 rfl rfl)
theorem dX5_frost_233 : decode cX5_frost 233 = .ok (.aload_n 0, 1) := dk_42 (dk_at dksX5_frost_9 23 rfl rfl)
theorem dX5_frost_234 : decode cX5_frost 234 = .ok (.getfield 7, 3) := dk_180 0 7 (dk_at dksX5_frost_10 0 rfl rfl)
theorem dX5_frost_237 : decode cX5_frost 237 = .ok (.sipush 141, 3) := dk_17 0 141 (dk_at dksX5_frost_10 3 rfl rfl)
theorem dX5_frost_240 : decode cX5_frost 240 = .ok (.iconst 2, 1) := dk_5 (dk_at dksX5_frost_10 6 rfl rfl)
theorem dX5_frost_241 : decode cX5_frost 241 = .ok (.iload 4, 2) := dk_21 4 (dk_at dksX5_frost_10 7 rfl rfl)
theorem dX5_frost_243 : decode cX5_frost 243 = .ok (.imul, 1) := dk_104 (dk_at dksX5_frost_10 9 rfl rfl)
theorem dX5_frost_244 : decode cX5_frost 244 = .ok (.iadd, 1) := dk_96 (dk_at dksX5_frost_10 10 rfl rfl)
theorem dX5_frost_245 : decode cX5_frost 245 = .ok (.iconst 1, 1) := dk_4 (dk_at dksX5_frost_10 11 rfl rfl)
theorem dX5_frost_246 : decode cX5_frost 246 = .ok (.iadd, 1) := dk_96 (dk_at dksX5_frost_10 12 rfl rfl)
theorem dX5_frost_247 : decode cX5_frost 247 = .ok (.iload_n 2, 1) := dk_28 (dk_at dksX5_frost_10 13 rfl rfl)
theorem dX5_frost_248 : decode cX5_frost 248 = .ok (.iastore, 1) := dk_79 (dk_at dksX5_frost_10 14 rfl rfl)
theorem dX5_frost_249 : decode cX5_frost 249 = .ok (.aload_n 0, 1) := dk_42 (dk_at dksX5_frost_10 15 rfl rfl)
theorem dX5_frost_250 : decode cX5_frost 250 = .ok (.getfield 7, 3) := dk_180 0 7 (dk_at dksX5_frost_10 16 rfl rfl)
theorem dX5_frost_253 : decode cX5_frost 253 = .ok (.bipush 6, 2) := dk_16 6 (dk_at dksX5_frost_10 19 rfl rfl)
theorem dX5_frost_255 : decode cX5_frost 255 = .ok (.dup2, 1) := dk_92 (dk_at dksX5_frost_10 21 rfl rfl)
theorem dX5_frost_256 : decode cX5_frost 256 = .ok (.iaload, 1) := dk_46 (dk_at dksX5_frost_10 22 rfl rfl)
theorem dX5_frost_257 : decode cX5_frost 257 = .ok (.iconst 1, 1) := dk_4 (dk_at dksX5_frost_10 23 rfl rfl)
theorem dX5_frost_258 : decode cX5_frost 258 = .ok (.iadd, 1) := dk_96 (dk_at dksX5_frost_11 0 rfl rfl)
theorem dX5_frost_259 : decode cX5_frost 259 = .ok (.iastore, 1) := dk_79 (dk_at dksX5_frost_11 1 rfl rfl)
theorem dX5_frost_260 : decode cX5_frost 260 = .ok (.aload_n 0, 1) := dk_42 (dk_at dksX5_frost_11 2 rfl rfl)
theorem dX5_frost_261 : decode cX5_frost 261 = .ok (.getfield 7, 3) := dk_180 0 7 (dk_at dksX5_frost_11 3 rfl rfl)
theorem dX5_frost_264 : decode cX5_frost 264 = .ok (.bipush 6, 2) := dk_16 6 (dk_at dksX5_frost_11 6 rfl rfl)
theorem dX5_frost_266 : decode cX5_frost 266 = .ok (.iaload, 1) := dk_46 (dk_at dksX5_frost_11 8 rfl rfl)
theorem dX5_frost_267 : decode cX5_frost 267 = .ok (.ireturn, 1) := dk_172 (dk_at dksX5_frost_11 9 rfl rfl)
abbrev cX5_thaw : ByteArray := prog_8_method_41_code
def yX5_thaw : MethodName := ⟨RX5, "thaw", "(I)I"⟩
def dkwX5_thaw_7 : List UInt8 := [17, 0, 141, 5, 42, 180, 0, 7, 16, 6, 46, 104, 96, 4, 96, 3, 79, 29, 172]
abbrev dktX5_thaw_7 : List UInt8 := dkwX5_thaw_7 ++ []
def dkwX5_thaw_6 : List UInt8 := [180, 0, 7, 17, 0, 141, 5, 42, 180, 0, 7, 16, 6, 46, 104, 96, 3, 79, 42, 180, 0, 7]
abbrev dktX5_thaw_6 : List UInt8 := dkwX5_thaw_6 ++ dktX5_thaw_7
def dkwX5_thaw_5 : List UInt8 := [21, 4, 96, 42, 180, 0, 7, 17, 0, 141, 21, 4, 96, 5, 96, 46, 79, 132, 4, 1, 167, 255, 215, 42]
abbrev dktX5_thaw_5 : List UInt8 := dkwX5_thaw_5 ++ dktX5_thaw_6
def dkwX5_thaw_4 : List UInt8 := [54, 4, 21, 4, 5, 42, 180, 0, 7, 16, 6, 46, 104, 162, 0, 33, 42, 180, 0, 7, 17, 0, 141]
abbrev dktX5_thaw_4 : List UInt8 := dkwX5_thaw_4 ++ dktX5_thaw_5
def dkwX5_thaw_3 : List UInt8 := [104, 96, 4, 96, 46, 27, 100, 4, 96, 62, 42, 180, 0, 7, 16, 6, 92, 46, 4, 100, 79, 5, 28, 104]
abbrev dktX5_thaw_3 : List UInt8 := dkwX5_thaw_3 ++ dktX5_thaw_4
def dkwX5_thaw_2 : List UInt8 := [28, 2, 160, 0, 9, 42, 4, 182, 0, 124, 172, 42, 182, 0, 127, 42, 180, 0, 7, 17, 0, 141, 5, 28]
abbrev dktX5_thaw_2 : List UInt8 := dkwX5_thaw_2 ++ dktX5_thaw_3
def dkwX5_thaw_1 : List UInt8 := [17, 0, 141, 5, 29, 104, 96, 46, 27, 160, 0, 7, 29, 167, 0, 4, 28, 61, 132, 3, 1, 167, 255, 220]
abbrev dktX5_thaw_1 : List UInt8 := dkwX5_thaw_1 ++ dktX5_thaw_2
def dkwX5_thaw_0 : List UInt8 := [42, 3, 181, 0, 35, 2, 61, 3, 62, 29, 42, 180, 0, 7, 16, 6, 46, 162, 0, 31, 42, 180, 0, 7]
abbrev dktX5_thaw_0 : List UInt8 := dkwX5_thaw_0 ++ dktX5_thaw_1
theorem dksX5_thaw_0 : cX5_thaw.data.toList.drop 0 = dktX5_thaw_0 := by decide +kernel
theorem dksX5_thaw_1 : cX5_thaw.data.toList.drop 24 = dktX5_thaw_1 := dk_seg dksX5_thaw_0 24 rfl rfl
theorem dksX5_thaw_2 : cX5_thaw.data.toList.drop 48 = dktX5_thaw_2 := dk_seg dksX5_thaw_1 24 rfl rfl
theorem dksX5_thaw_3 : cX5_thaw.data.toList.drop 72 = dktX5_thaw_3 := dk_seg dksX5_thaw_2 24 rfl rfl
theorem dksX5_thaw_4 : cX5_thaw.data.toList.drop 96 = dktX5_thaw_4 := dk_seg dksX5_thaw_3 24 rfl rfl
theorem dksX5_thaw_5 : cX5_thaw.data.toList.drop 119 = dktX5_thaw_5 := dk_seg dksX5_thaw_4 23 rfl rfl
theorem dksX5_thaw_6 : cX5_thaw.data.toList.drop 143 = dktX5_thaw_6 := dk_seg dksX5_thaw_5 24 rfl rfl
theorem dksX5_thaw_7 : cX5_thaw.data.toList.drop 165 = dktX5_thaw_7 := dk_seg dksX5_thaw_6 22 rfl rfl
theorem dX5_thaw_0 : decode cX5_thaw 0 = .ok (.aload_n 0, 1) := dk_42 (dk_at dksX5_thaw_0 0 rfl rfl)
theorem dX5_thaw_1 : decode cX5_thaw 1 = .ok (.iconst 0, 1) := dk_3 (dk_at dksX5_thaw_0 1 rfl rfl)
theorem dX5_thaw_2 : decode cX5_thaw 2 = .ok (.putfield 35, 3) := dk_181 0 35 (dk_at dksX5_thaw_0 2 rfl rfl)
theorem dX5_thaw_5 : decode cX5_thaw 5 = .ok (.iconst (-1), 1) := dk_2 (dk_at dksX5_thaw_0 5 rfl rfl)
theorem dX5_thaw_6 : decode cX5_thaw 6 = .ok (.istore_n 2, 1) := dk_61 (dk_at dksX5_thaw_0 6 rfl rfl)
theorem dX5_thaw_7 : decode cX5_thaw 7 = .ok (.iconst 0, 1) := dk_3 (dk_at dksX5_thaw_0 7 rfl rfl)
theorem dX5_thaw_8 : decode cX5_thaw 8 = .ok (.istore_n 3, 1) := dk_62 (dk_at dksX5_thaw_0 8 rfl rfl)
theorem dX5_thaw_9 : decode cX5_thaw 9 = .ok (.iload_n 3, 1) := dk_29 (dk_at dksX5_thaw_0 9 rfl rfl)
theorem dX5_thaw_10 : decode cX5_thaw 10 = .ok (.aload_n 0, 1) := dk_42 (dk_at dksX5_thaw_0 10 rfl rfl)
theorem dX5_thaw_11 : decode cX5_thaw 11 = .ok (.getfield 7, 3) := dk_180 0 7 (dk_at dksX5_thaw_0 11 rfl rfl)
theorem dX5_thaw_14 : decode cX5_thaw 14 = .ok (.bipush 6, 2) := dk_16 6 (dk_at dksX5_thaw_0 14 rfl rfl)
theorem dX5_thaw_16 : decode cX5_thaw 16 = .ok (.iaload, 1) := dk_46 (dk_at dksX5_thaw_0 16 rfl rfl)
theorem dX5_thaw_17 : decode cX5_thaw 17 = .ok (.if_icmp .ge 31, 3) := dk_162 0 31 (dk_at dksX5_thaw_0 17 rfl rfl)
theorem dX5_thaw_20 : decode cX5_thaw 20 = .ok (.aload_n 0, 1) := dk_42 (dk_at dksX5_thaw_0 20 rfl rfl)
theorem dX5_thaw_21 : decode cX5_thaw 21 = .ok (.getfield 7, 3) := dk_180 0 7 (dk_at dksX5_thaw_0 21 rfl rfl)
theorem dX5_thaw_24 : decode cX5_thaw 24 = .ok (.sipush 141, 3) := dk_17 0 141 (dk_at dksX5_thaw_1 0 rfl rfl)
theorem dX5_thaw_27 : decode cX5_thaw 27 = .ok (.iconst 2, 1) := dk_5 (dk_at dksX5_thaw_1 3 rfl rfl)
theorem dX5_thaw_28 : decode cX5_thaw 28 = .ok (.iload_n 3, 1) := dk_29 (dk_at dksX5_thaw_1 4 rfl rfl)
theorem dX5_thaw_29 : decode cX5_thaw 29 = .ok (.imul, 1) := dk_104 (dk_at dksX5_thaw_1 5 rfl rfl)
theorem dX5_thaw_30 : decode cX5_thaw 30 = .ok (.iadd, 1) := dk_96 (dk_at dksX5_thaw_1 6 rfl rfl)
theorem dX5_thaw_31 : decode cX5_thaw 31 = .ok (.iaload, 1) := dk_46 (dk_at dksX5_thaw_1 7 rfl rfl)
theorem dX5_thaw_32 : decode cX5_thaw 32 = .ok (.iload_n 1, 1) := dk_27 (dk_at dksX5_thaw_1 8 rfl rfl)
theorem dX5_thaw_33 : decode cX5_thaw 33 = .ok (.if_icmp .ne 7, 3) := dk_160 0 7 (dk_at dksX5_thaw_1 9 rfl rfl)
theorem dX5_thaw_36 : decode cX5_thaw 36 = .ok (.iload_n 3, 1) := dk_29 (dk_at dksX5_thaw_1 12 rfl rfl)
theorem dX5_thaw_37 : decode cX5_thaw 37 = .ok (.goto 4, 3) := dk_167 0 4 (dk_at dksX5_thaw_1 13 rfl rfl)
theorem dX5_thaw_40 : decode cX5_thaw 40 = .ok (.iload_n 2, 1) := dk_28 (dk_at dksX5_thaw_1 16 rfl rfl)
theorem dX5_thaw_41 : decode cX5_thaw 41 = .ok (.istore_n 2, 1) := dk_61 (dk_at dksX5_thaw_1 17 rfl rfl)
theorem dX5_thaw_42 : decode cX5_thaw 42 = .ok (.iinc 3 1, 3) := dk_132 3 1 (dk_at dksX5_thaw_1 18 rfl rfl)
theorem dX5_thaw_45 : decode cX5_thaw 45 = .ok (.goto (-36), 3) := dk_167 255 220 (dk_at dksX5_thaw_1 21 rfl rfl)
theorem dX5_thaw_48 : decode cX5_thaw 48 = .ok (.iload_n 2, 1) := dk_28 (dk_at dksX5_thaw_2 0 rfl rfl)
theorem dX5_thaw_49 : decode cX5_thaw 49 = .ok (.iconst (-1), 1) := dk_2 (dk_at dksX5_thaw_2 1 rfl rfl)
theorem dX5_thaw_50 : decode cX5_thaw 50 = .ok (.if_icmp .ne 9, 3) := dk_160 0 9 (dk_at dksX5_thaw_2 2 rfl rfl)
theorem dX5_thaw_53 : decode cX5_thaw 53 = .ok (.aload_n 0, 1) := dk_42 (dk_at dksX5_thaw_2 5 rfl rfl)
theorem dX5_thaw_54 : decode cX5_thaw 54 = .ok (.iconst 1, 1) := dk_4 (dk_at dksX5_thaw_2 6 rfl rfl)
theorem dX5_thaw_55 : decode cX5_thaw 55 = .ok (.invokevirtual 124, 3) := dk_182 0 124 (dk_at dksX5_thaw_2 7 rfl rfl)
theorem dX5_thaw_58 : decode cX5_thaw 58 = .ok (.ireturn, 1) := dk_172 (dk_at dksX5_thaw_2 10 rfl rfl)
theorem dX5_thaw_59 : decode cX5_thaw 59 = .ok (.aload_n 0, 1) := dk_42 (dk_at dksX5_thaw_2 11 rfl rfl)
theorem dX5_thaw_60 : decode cX5_thaw 60 = .ok (.invokevirtual 127, 3) := dk_182 0 127 (dk_at dksX5_thaw_2 12 rfl rfl)
theorem dX5_thaw_63 : decode cX5_thaw 63 = .ok (.aload_n 0, 1) := dk_42 (dk_at dksX5_thaw_2 15 rfl rfl)
theorem dX5_thaw_64 : decode cX5_thaw 64 = .ok (.getfield 7, 3) := dk_180 0 7 (dk_at dksX5_thaw_2 16 rfl rfl)
theorem dX5_thaw_67 : decode cX5_thaw 67 = .ok (.sipush 141, 3) := dk_17 0 141 (dk_at dksX5_thaw_2 19 rfl rfl)
theorem dX5_thaw_70 : decode cX5_thaw 70 = .ok (.iconst 2, 1) := dk_5 (dk_at dksX5_thaw_2 22 rfl rfl)
theorem dX5_thaw_71 : decode cX5_thaw 71 = .ok (.iload_n 2, 1) := dk_28 (dk_at dksX5_thaw_2 23 rfl rfl)
theorem dX5_thaw_72 : decode cX5_thaw 72 = .ok (.imul, 1) := dk_104 (dk_at dksX5_thaw_3 0 rfl rfl)
theorem dX5_thaw_73 : decode cX5_thaw 73 = .ok (.iadd, 1) := dk_96 (dk_at dksX5_thaw_3 1 rfl rfl)
theorem dX5_thaw_74 : decode cX5_thaw 74 = .ok (.iconst 1, 1) := dk_4 (dk_at dksX5_thaw_3 2 rfl rfl)
theorem dX5_thaw_75 : decode cX5_thaw 75 = .ok (.iadd, 1) := dk_96 (dk_at dksX5_thaw_3 3 rfl rfl)
theorem dX5_thaw_76 : decode cX5_thaw 76 = .ok (.iaload, 1) := dk_46 (dk_at dksX5_thaw_3 4 rfl rfl)
theorem dX5_thaw_77 : decode cX5_thaw 77 = .ok (.iload_n 1, 1) := dk_27 (dk_at dksX5_thaw_3 5 rfl rfl)
theorem dX5_thaw_78 : decode cX5_thaw 78 = .ok (.isub, 1) := dk_100 (dk_at dksX5_thaw_3 6 rfl rfl)
theorem dX5_thaw_79 : decode cX5_thaw 79 = .ok (.iconst 1, 1) := dk_4 (dk_at dksX5_thaw_3 7 rfl rfl)
theorem dX5_thaw_80 : decode cX5_thaw 80 = .ok (.iadd, 1) := dk_96 (dk_at dksX5_thaw_3 8 rfl rfl)
theorem dX5_thaw_81 : decode cX5_thaw 81 = .ok (.istore_n 3, 1) := dk_62 (dk_at dksX5_thaw_3 9 rfl rfl)
theorem dX5_thaw_82 : decode cX5_thaw 82 = .ok (.aload_n 0, 1) := dk_42 (dk_at dksX5_thaw_3 10 rfl rfl)
theorem dX5_thaw_83 : decode cX5_thaw 83 = .ok (.getfield 7, 3) := dk_180 0 7 (dk_at dksX5_thaw_3 11 rfl rfl)
theorem dX5_thaw_86 : decode cX5_thaw 86 = .ok (.bipush 6, 2) := dk_16 6 (dk_at dksX5_thaw_3 14 rfl rfl)
theorem dX5_thaw_88 : decode cX5_thaw 88 = .ok (.dup2, 1) := dk_92 (dk_at dksX5_thaw_3 16 rfl rfl)
theorem dX5_thaw_89 : decode cX5_thaw 89 = .ok (.iaload, 1) := dk_46 (dk_at dksX5_thaw_3 17 rfl rfl)
theorem dX5_thaw_90 : decode cX5_thaw 90 = .ok (.iconst 1, 1) := dk_4 (dk_at dksX5_thaw_3 18 rfl rfl)
theorem dX5_thaw_91 : decode cX5_thaw 91 = .ok (.isub, 1) := dk_100 (dk_at dksX5_thaw_3 19 rfl rfl)
theorem dX5_thaw_92 : decode cX5_thaw 92 = .ok (.iastore, 1) := dk_79 (dk_at dksX5_thaw_3 20 rfl rfl)
theorem dX5_thaw_93 : decode cX5_thaw 93 = .ok (.iconst 2, 1) := dk_5 (dk_at dksX5_thaw_3 21 rfl rfl)
theorem dX5_thaw_94 : decode cX5_thaw 94 = .ok (.iload_n 2, 1) := dk_28 (dk_at dksX5_thaw_3 22 rfl rfl)
theorem dX5_thaw_95 : decode cX5_thaw 95 = .ok (.imul, 1) := dk_104 (dk_at dksX5_thaw_3 23 rfl rfl)
theorem dX5_thaw_96 : decode cX5_thaw 96 = .ok (.istore 4, 2) := dk_54 4 (dk_at dksX5_thaw_4 0 rfl rfl)
theorem dX5_thaw_98 : decode cX5_thaw 98 = .ok (.iload 4, 2) := dk_21 4 (dk_at dksX5_thaw_4 2 rfl rfl)
theorem dX5_thaw_100 : decode cX5_thaw 100 = .ok (.iconst 2, 1) := dk_5 (dk_at dksX5_thaw_4 4 rfl rfl)
theorem dX5_thaw_101 : decode cX5_thaw 101 = .ok (.aload_n 0, 1) := dk_42 (dk_at dksX5_thaw_4 5 rfl rfl)
theorem dX5_thaw_102 : decode cX5_thaw 102 = .ok (.getfield 7, 3) := dk_180 0 7 (dk_at dksX5_thaw_4 6 rfl rfl)
theorem dX5_thaw_105 : decode cX5_thaw 105 = .ok (.bipush 6, 2) := dk_16 6 (dk_at dksX5_thaw_4 9 rfl rfl)
theorem dX5_thaw_107 : decode cX5_thaw 107 = .ok (.iaload, 1) := dk_46 (dk_at dksX5_thaw_4 11 rfl rfl)
theorem dX5_thaw_108 : decode cX5_thaw 108 = .ok (.imul, 1) := dk_104 (dk_at dksX5_thaw_4 12 rfl rfl)
theorem dX5_thaw_109 : decode cX5_thaw 109 = .ok (.if_icmp .ge 33, 3) := dk_162 0 33 (dk_at dksX5_thaw_4 13 rfl rfl)
theorem dX5_thaw_112 : decode cX5_thaw 112 = .ok (.aload_n 0, 1) := dk_42 (dk_at dksX5_thaw_4 16 rfl rfl)
theorem dX5_thaw_113 : decode cX5_thaw 113 = .ok (.getfield 7, 3) := dk_180 0 7 (dk_at dksX5_thaw_4 17 rfl rfl)
theorem dX5_thaw_116 : decode cX5_thaw 116 = .ok (.sipush 141, 3) := dk_17 0 141 (dk_at dksX5_thaw_4 20 rfl rfl)
theorem dX5_thaw_119 : decode cX5_thaw 119 = .ok (.iload 4, 2) := dk_21 4 (dk_at dksX5_thaw_5 0 rfl rfl)
theorem dX5_thaw_121 : decode cX5_thaw 121 = .ok (.iadd, 1) := dk_96 (dk_at dksX5_thaw_5 2 rfl rfl)
theorem dX5_thaw_122 : decode cX5_thaw 122 = .ok (.aload_n 0, 1) := dk_42 (dk_at dksX5_thaw_5 3 rfl rfl)
theorem dX5_thaw_123 : decode cX5_thaw 123 = .ok (.getfield 7, 3) := dk_180 0 7 (dk_at dksX5_thaw_5 4 rfl rfl)
theorem dX5_thaw_126 : decode cX5_thaw 126 = .ok (.sipush 141, 3) := dk_17 0 141 (dk_at dksX5_thaw_5 7 rfl rfl)
theorem dX5_thaw_129 : decode cX5_thaw 129 = .ok (.iload 4, 2) := dk_21 4 (dk_at dksX5_thaw_5 10 rfl rfl)
theorem dX5_thaw_131 : decode cX5_thaw 131 = .ok (.iadd, 1) := dk_96 (dk_at dksX5_thaw_5 12 rfl rfl)
theorem dX5_thaw_132 : decode cX5_thaw 132 = .ok (.iconst 2, 1) := dk_5 (dk_at dksX5_thaw_5 13 rfl rfl)
theorem dX5_thaw_133 : decode cX5_thaw 133 = .ok (.iadd, 1) := dk_96 (dk_at dksX5_thaw_5 14 rfl rfl)
theorem dX5_thaw_134 : decode cX5_thaw 134 = .ok (.iaload, 1) := dk_46 (dk_at dksX5_thaw_5 15 rfl rfl)
theorem dX5_thaw_135 : decode cX5_thaw 135 = .ok (.iastore, 1) := dk_79 (dk_at dksX5_thaw_5 16 rfl rfl)
theorem dX5_thaw_136 : decode cX5_thaw 136 = .ok (.iinc 4 1, 3) := dk_132 4 1 (dk_at dksX5_thaw_5 17 rfl rfl)
theorem dX5_thaw_139 : decode cX5_thaw 139 = .ok (.goto (-41), 3) := dk_167 255 215 (dk_at dksX5_thaw_5 20 rfl rfl)
theorem dX5_thaw_142 : decode cX5_thaw 142 = .ok (.aload_n 0, 1) := dk_42 (dk_at dksX5_thaw_5 23 rfl rfl)
theorem dX5_thaw_143 : decode cX5_thaw 143 = .ok (.getfield 7, 3) := dk_180 0 7 (dk_at dksX5_thaw_6 0 rfl rfl)
theorem dX5_thaw_146 : decode cX5_thaw 146 = .ok (.sipush 141, 3) := dk_17 0 141 (dk_at dksX5_thaw_6 3 rfl rfl)
theorem dX5_thaw_149 : decode cX5_thaw 149 = .ok (.iconst 2, 1) := dk_5 (dk_at dksX5_thaw_6 6 rfl rfl)
theorem dX5_thaw_150 : decode cX5_thaw 150 = .ok (.aload_n 0, 1) := dk_42 (dk_at dksX5_thaw_6 7 rfl rfl)
theorem dX5_thaw_151 : decode cX5_thaw 151 = .ok (.getfield 7, 3) := dk_180 0 7 (dk_at dksX5_thaw_6 8 rfl rfl)
theorem dX5_thaw_154 : decode cX5_thaw 154 = .ok (.bipush 6, 2) := dk_16 6 (dk_at dksX5_thaw_6 11 rfl rfl)
theorem dX5_thaw_156 : decode cX5_thaw 156 = .ok (.iaload, 1) := dk_46 (dk_at dksX5_thaw_6 13 rfl rfl)
theorem dX5_thaw_157 : decode cX5_thaw 157 = .ok (.imul, 1) := dk_104 (dk_at dksX5_thaw_6 14 rfl rfl)
theorem dX5_thaw_158 : decode cX5_thaw 158 = .ok (.iadd, 1) := dk_96 (dk_at dksX5_thaw_6 15 rfl rfl)
theorem dX5_thaw_159 : decode cX5_thaw 159 = .ok (.iconst 0, 1) := dk_3 (dk_at dksX5_thaw_6 16 rfl rfl)
theorem dX5_thaw_160 : decode cX5_thaw 160 = .ok (.iastore, 1) := dk_79 (dk_at dksX5_thaw_6 17 rfl rfl)
theorem dX5_thaw_161 : decode cX5_thaw 161 = .ok (.aload_n 0, 1) := dk_42 (dk_at dksX5_thaw_6 18 rfl rfl)
theorem dX5_thaw_162 : decode cX5_thaw 162 = .ok (.getfield 7, 3) := dk_180 0 7 (dk_at dksX5_thaw_6 19 rfl rfl)
theorem dX5_thaw_165 : decode cX5_thaw 165 = .ok (.sipush 141, 3) := dk_17 0 141 (dk_at dksX5_thaw_7 0 rfl rfl)
theorem dX5_thaw_168 : decode cX5_thaw 168 = .ok (.iconst 2, 1) := dk_5 (dk_at dksX5_thaw_7 3 rfl rfl)
theorem dX5_thaw_169 : decode cX5_thaw 169 = .ok (.aload_n 0, 1) := dk_42 (dk_at dksX5_thaw_7 4 rfl rfl)
theorem dX5_thaw_170 : decode cX5_thaw 170 = .ok (.getfield 7, 3) := dk_180 0 7 (dk_at dksX5_thaw_7 5 rfl rfl)
theorem dX5_thaw_173 : decode cX5_thaw 173 = .ok (.bipush 6, 2) := dk_16 6 (dk_at dksX5_thaw_7 8 rfl rfl)
theorem dX5_thaw_175 : decode cX5_thaw 175 = .ok (.iaload, 1) := dk_46 (dk_at dksX5_thaw_7 10 rfl rfl)
theorem dX5_thaw_176 : decode cX5_thaw 176 = .ok (.imul, 1) := dk_104 (dk_at dksX5_thaw_7 11 rfl rfl)
theorem dX5_thaw_177 : decode cX5_thaw 177 = .ok (.iadd, 1) := dk_96 (dk_at dksX5_thaw_7 12 rfl rfl)
theorem dX5_thaw_178 : decode cX5_thaw 178 = .ok (.iconst 1, 1) := dk_4 (dk_at dksX5_thaw_7 13 rfl rfl)
theorem dX5_thaw_179 : decode cX5_thaw 179 = .ok (.iadd, 1) := dk_96 (dk_at dksX5_thaw_7 14 rfl rfl)
theorem dX5_thaw_180 : decode cX5_thaw 180 = .ok (.iconst 0, 1) := dk_3 (dk_at dksX5_thaw_7 15 rfl rfl)
theorem dX5_thaw_181 : decode cX5_thaw 181 = .ok (.iastore, 1) := dk_79 (dk_at dksX5_thaw_7 16 rfl rfl)
theorem dX5_thaw_182 : decode cX5_thaw 182 = .ok (.iload_n 3, 1) := dk_29 (dk_at dksX5_thaw_7 17 rfl rfl)
theorem dX5_thaw_183 : decode cX5_thaw 183 = .ok (.ireturn, 1) := dk_172 (dk_at dksX5_thaw_7 18 rfl rfl)
abbrev cX5_plan : ByteArray := prog_8_method_43_code
def yX5_plan : MethodName := ⟨RX5, "plan", "(III)I"⟩
def dkwX5_plan_3 : List UInt8 := [29, 182, 0, 137, 42, 180, 0, 7, 16, 7, 46, 172]
abbrev dktX5_plan_3 : List UInt8 := dkwX5_plan_3 ++ []
def dkwX5_plan_2 : List UInt8 := [180, 0, 7, 16, 7, 46, 16, 16, 160, 0, 9, 42, 5, 182, 0, 124, 172, 42, 182, 0, 127, 42, 27, 28]
abbrev dktX5_plan_2 : List UInt8 := dkwX5_plan_2 ++ dktX5_plan_3
def dkwX5_plan_1 : List UInt8 := [16, 99, 184, 0, 39, 153, 0, 10, 29, 184, 0, 121, 154, 0, 9, 42, 4, 182, 0, 124, 172, 42]
abbrev dktX5_plan_1 : List UInt8 := dkwX5_plan_1 ++ dktX5_plan_2
def dkwX5_plan_0 : List UInt8 := [42, 3, 181, 0, 35, 27, 42, 180, 0, 7, 8, 46, 17, 3, 231, 184, 0, 39, 153, 0, 20, 28, 4]
abbrev dktX5_plan_0 : List UInt8 := dkwX5_plan_0 ++ dktX5_plan_1
theorem dksX5_plan_0 : cX5_plan.data.toList.drop 0 = dktX5_plan_0 := by decide +kernel
theorem dksX5_plan_1 : cX5_plan.data.toList.drop 23 = dktX5_plan_1 := dk_seg dksX5_plan_0 23 rfl rfl
theorem dksX5_plan_2 : cX5_plan.data.toList.drop 45 = dktX5_plan_2 := dk_seg dksX5_plan_1 22 rfl rfl
theorem dksX5_plan_3 : cX5_plan.data.toList.drop 69 = dktX5_plan_3 := dk_seg dksX5_plan_2 24 rfl rfl
theorem dX5_plan_0 : decode cX5_plan 0 = .ok (.aload_n 0, 1) := dk_42 (dk_at dksX5_plan_0 0 rfl rfl)
theorem dX5_plan_1 : decode cX5_plan 1 = .ok (.iconst 0, 1) := dk_3 (dk_at dksX5_plan_0 1 rfl rfl)
theorem dX5_plan_2 : decode cX5_plan 2 = .ok (.putfield 35, 3) := dk_181 0 35 (dk_at dksX5_plan_0 2 rfl rfl)
theorem dX5_plan_5 : decode cX5_plan 5 = .ok (.iload_n 1, 1) := dk_27 (dk_at dksX5_plan_0 5 rfl rfl)
theorem dX5_plan_6 : decode cX5_plan 6 = .ok (.aload_n 0, 1) := dk_42 (dk_at dksX5_plan_0 6 rfl rfl)
theorem dX5_plan_7 : decode cX5_plan 7 = .ok (.getfield 7, 3) := dk_180 0 7 (dk_at dksX5_plan_0 7 rfl rfl)
theorem dX5_plan_10 : decode cX5_plan 10 = .ok (.iconst 5, 1) := dk_8 (dk_at dksX5_plan_0 10 rfl rfl)
theorem dX5_plan_11 : decode cX5_plan 11 = .ok (.iaload, 1) := dk_46 (dk_at dksX5_plan_0 11 rfl rfl)
theorem dX5_plan_12 : decode cX5_plan 12 = .ok (.sipush 999, 3) := dk_17 3 231 (dk_at dksX5_plan_0 12 rfl rfl)
theorem dX5_plan_15 : decode cX5_plan 15 = .ok (.invokestatic 39, 3) := dk_184 0 39 (dk_at dksX5_plan_0 15 rfl rfl)
theorem dX5_plan_18 : decode cX5_plan 18 = .ok (.ifCond .eq 20, 3) := dk_153 0 20 (dk_at dksX5_plan_0 18 rfl rfl)
theorem dX5_plan_21 : decode cX5_plan 21 = .ok (.iload_n 2, 1) := dk_28 (dk_at dksX5_plan_0 21 rfl rfl)
theorem dX5_plan_22 : decode cX5_plan 22 = .ok (.iconst 1, 1) := dk_4 (dk_at dksX5_plan_0 22 rfl rfl)
theorem dX5_plan_23 : decode cX5_plan 23 = .ok (.bipush 99, 2) := dk_16 99 (dk_at dksX5_plan_1 0 rfl rfl)
theorem dX5_plan_25 : decode cX5_plan 25 = .ok (.invokestatic 39, 3) := dk_184 0 39 (dk_at dksX5_plan_1 2 rfl rfl)
theorem dX5_plan_28 : decode cX5_plan 28 = .ok (.ifCond .eq 10, 3) := dk_153 0 10 (dk_at dksX5_plan_1 5 rfl rfl)
theorem dX5_plan_31 : decode cX5_plan 31 = .ok (.iload_n 3, 1) := dk_29 (dk_at dksX5_plan_1 8 rfl rfl)
theorem dX5_plan_32 : decode cX5_plan 32 = .ok (.invokestatic 121, 3) := dk_184 0 121 (dk_at dksX5_plan_1 9 rfl rfl)
theorem dX5_plan_35 : decode cX5_plan 35 = .ok (.ifCond .ne 9, 3) := dk_154 0 9 (dk_at dksX5_plan_1 12 rfl rfl)
theorem dX5_plan_38 : decode cX5_plan 38 = .ok (.aload_n 0, 1) := dk_42 (dk_at dksX5_plan_1 15 rfl rfl)
theorem dX5_plan_39 : decode cX5_plan 39 = .ok (.iconst 1, 1) := dk_4 (dk_at dksX5_plan_1 16 rfl rfl)
theorem dX5_plan_40 : decode cX5_plan 40 = .ok (.invokevirtual 124, 3) := dk_182 0 124 (dk_at dksX5_plan_1 17 rfl rfl)
theorem dX5_plan_43 : decode cX5_plan 43 = .ok (.ireturn, 1) := dk_172 (dk_at dksX5_plan_1 20 rfl rfl)
theorem dX5_plan_44 : decode cX5_plan 44 = .ok (.aload_n 0, 1) := dk_42 (dk_at dksX5_plan_1 21 rfl rfl)
theorem dX5_plan_45 : decode cX5_plan 45 = .ok (.getfield 7, 3) := dk_180 0 7 (dk_at dksX5_plan_2 0 rfl rfl)
theorem dX5_plan_48 : decode cX5_plan 48 = .ok (.bipush 7, 2) := dk_16 7 (dk_at dksX5_plan_2 3 rfl rfl)
theorem dX5_plan_50 : decode cX5_plan 50 = .ok (.iaload, 1) := dk_46 (dk_at dksX5_plan_2 5 rfl rfl)
theorem dX5_plan_51 : decode cX5_plan 51 = .ok (.bipush 16, 2) := dk_16 16 (dk_at dksX5_plan_2 6 rfl rfl)
theorem dX5_plan_53 : decode cX5_plan 53 = .ok (.if_icmp .ne 9, 3) := dk_160 0 9 (dk_at dksX5_plan_2 8 rfl rfl)
theorem dX5_plan_56 : decode cX5_plan 56 = .ok (.aload_n 0, 1) := dk_42 (dk_at dksX5_plan_2 11 rfl rfl)
theorem dX5_plan_57 : decode cX5_plan 57 = .ok (.iconst 2, 1) := dk_5 (dk_at dksX5_plan_2 12 rfl rfl)
theorem dX5_plan_58 : decode cX5_plan 58 = .ok (.invokevirtual 124, 3) := dk_182 0 124 (dk_at dksX5_plan_2 13 rfl rfl)
theorem dX5_plan_61 : decode cX5_plan 61 = .ok (.ireturn, 1) := dk_172 (dk_at dksX5_plan_2 16 rfl rfl)
theorem dX5_plan_62 : decode cX5_plan 62 = .ok (.aload_n 0, 1) := dk_42 (dk_at dksX5_plan_2 17 rfl rfl)
theorem dX5_plan_63 : decode cX5_plan 63 = .ok (.invokevirtual 127, 3) := dk_182 0 127 (dk_at dksX5_plan_2 18 rfl rfl)
theorem dX5_plan_66 : decode cX5_plan 66 = .ok (.aload_n 0, 1) := dk_42 (dk_at dksX5_plan_2 21 rfl rfl)
theorem dX5_plan_67 : decode cX5_plan 67 = .ok (.iload_n 1, 1) := dk_27 (dk_at dksX5_plan_2 22 rfl rfl)
theorem dX5_plan_68 : decode cX5_plan 68 = .ok (.iload_n 2, 1) := dk_28 (dk_at dksX5_plan_2 23 rfl rfl)
theorem dX5_plan_69 : decode cX5_plan 69 = .ok (.iload_n 3, 1) := dk_29 (dk_at dksX5_plan_3 0 rfl rfl)
theorem dX5_plan_70 : decode cX5_plan 70 = .ok (.invokevirtual 137, 3) := dk_182 0 137 (dk_at dksX5_plan_3 1 rfl rfl)
theorem dX5_plan_73 : decode cX5_plan 73 = .ok (.aload_n 0, 1) := dk_42 (dk_at dksX5_plan_3 4 rfl rfl)
theorem dX5_plan_74 : decode cX5_plan 74 = .ok (.getfield 7, 3) := dk_180 0 7 (dk_at dksX5_plan_3 5 rfl rfl)
theorem dX5_plan_77 : decode cX5_plan 77 = .ok (.bipush 7, 2) := dk_16 7 (dk_at dksX5_plan_3 8 rfl rfl)
theorem dX5_plan_79 : decode cX5_plan 79 = .ok (.iaload, 1) := dk_46 (dk_at dksX5_plan_3 10 rfl rfl)
theorem dX5_plan_80 : decode cX5_plan 80 = .ok (.ireturn, 1) := dk_172 (dk_at dksX5_plan_3 11 rfl rfl)
abbrev cX5_plans : ByteArray := prog_8_method_42_code
def yX5_plans : MethodName := ⟨RX5, "plans", "(III)V"⟩
def dkwX5_plans_2 : List UInt8 := [180, 0, 7, 16, 7, 92, 46, 4, 96, 79, 177]
abbrev dktX5_plans_2 : List UInt8 := dkwX5_plans_2 ++ []
def dkwX5_plans_1 : List UInt8 := [79, 42, 180, 0, 7, 21, 4, 4, 96, 28, 79, 42, 180, 0, 7, 21, 4, 5, 96, 29, 79, 42]
abbrev dktX5_plans_1 : List UInt8 := dkwX5_plans_1 ++ dktX5_plans_2
def dkwX5_plans_0 : List UInt8 := [17, 0, 153, 6, 42, 180, 0, 7, 16, 7, 46, 104, 96, 54, 4, 42, 180, 0, 7, 21, 4, 3, 96, 27]
abbrev dktX5_plans_0 : List UInt8 := dkwX5_plans_0 ++ dktX5_plans_1
theorem dksX5_plans_0 : cX5_plans.data.toList.drop 0 = dktX5_plans_0 := by decide +kernel
theorem dksX5_plans_1 : cX5_plans.data.toList.drop 24 = dktX5_plans_1 := dk_seg dksX5_plans_0 24 rfl rfl
theorem dksX5_plans_2 : cX5_plans.data.toList.drop 46 = dktX5_plans_2 := dk_seg dksX5_plans_1 22 rfl rfl
theorem dX5_plans_0 : decode cX5_plans 0 = .ok (.sipush 153, 3) := dk_17 0 153 (dk_at dksX5_plans_0 0 rfl rfl)
theorem dX5_plans_3 : decode cX5_plans 3 = .ok (.iconst 3, 1) := dk_6 (dk_at dksX5_plans_0 3 rfl rfl)
theorem dX5_plans_4 : decode cX5_plans 4 = .ok (.aload_n 0, 1) := dk_42 (dk_at dksX5_plans_0 4 rfl rfl)
theorem dX5_plans_5 : decode cX5_plans 5 = .ok (.getfield 7, 3) := dk_180 0 7 (dk_at dksX5_plans_0 5 rfl rfl)
theorem dX5_plans_8 : decode cX5_plans 8 = .ok (.bipush 7, 2) := dk_16 7 (dk_at dksX5_plans_0 8 rfl rfl)
theorem dX5_plans_10 : decode cX5_plans 10 = .ok (.iaload, 1) := dk_46 (dk_at dksX5_plans_0 10 rfl rfl)
theorem dX5_plans_11 : decode cX5_plans 11 = .ok (.imul, 1) := dk_104 (dk_at dksX5_plans_0 11 rfl rfl)
theorem dX5_plans_12 : decode cX5_plans 12 = .ok (.iadd, 1) := dk_96 (dk_at dksX5_plans_0 12 rfl rfl)
theorem dX5_plans_13 : decode cX5_plans 13 = .ok (.istore 4, 2) := dk_54 4 (dk_at dksX5_plans_0 13 rfl rfl)
theorem dX5_plans_15 : decode cX5_plans 15 = .ok (.aload_n 0, 1) := dk_42 (dk_at dksX5_plans_0 15 rfl rfl)
theorem dX5_plans_16 : decode cX5_plans 16 = .ok (.getfield 7, 3) := dk_180 0 7 (dk_at dksX5_plans_0 16 rfl rfl)
theorem dX5_plans_19 : decode cX5_plans 19 = .ok (.iload 4, 2) := dk_21 4 (dk_at dksX5_plans_0 19 rfl rfl)
theorem dX5_plans_21 : decode cX5_plans 21 = .ok (.iconst 0, 1) := dk_3 (dk_at dksX5_plans_0 21 rfl rfl)
theorem dX5_plans_22 : decode cX5_plans 22 = .ok (.iadd, 1) := dk_96 (dk_at dksX5_plans_0 22 rfl rfl)
theorem dX5_plans_23 : decode cX5_plans 23 = .ok (.iload_n 1, 1) := dk_27 (dk_at dksX5_plans_0 23 rfl rfl)
theorem dX5_plans_24 : decode cX5_plans 24 = .ok (.iastore, 1) := dk_79 (dk_at dksX5_plans_1 0 rfl rfl)
theorem dX5_plans_25 : decode cX5_plans 25 = .ok (.aload_n 0, 1) := dk_42 (dk_at dksX5_plans_1 1 rfl rfl)
theorem dX5_plans_26 : decode cX5_plans 26 = .ok (.getfield 7, 3) := dk_180 0 7 (dk_at dksX5_plans_1 2 rfl rfl)
theorem dX5_plans_29 : decode cX5_plans 29 = .ok (.iload 4, 2) := dk_21 4 (dk_at dksX5_plans_1 5 rfl rfl)
theorem dX5_plans_31 : decode cX5_plans 31 = .ok (.iconst 1, 1) := dk_4 (dk_at dksX5_plans_1 7 rfl rfl)
theorem dX5_plans_32 : decode cX5_plans 32 = .ok (.iadd, 1) := dk_96 (dk_at dksX5_plans_1 8 rfl rfl)
theorem dX5_plans_33 : decode cX5_plans 33 = .ok (.iload_n 2, 1) := dk_28 (dk_at dksX5_plans_1 9 rfl rfl)
theorem dX5_plans_34 : decode cX5_plans 34 = .ok (.iastore, 1) := dk_79 (dk_at dksX5_plans_1 10 rfl rfl)
theorem dX5_plans_35 : decode cX5_plans 35 = .ok (.aload_n 0, 1) := dk_42 (dk_at dksX5_plans_1 11 rfl rfl)
theorem dX5_plans_36 : decode cX5_plans 36 = .ok (.getfield 7, 3) := dk_180 0 7 (dk_at dksX5_plans_1 12 rfl rfl)
theorem dX5_plans_39 : decode cX5_plans 39 = .ok (.iload 4, 2) := dk_21 4 (dk_at dksX5_plans_1 15 rfl rfl)
theorem dX5_plans_41 : decode cX5_plans 41 = .ok (.iconst 2, 1) := dk_5 (dk_at dksX5_plans_1 17 rfl rfl)
theorem dX5_plans_42 : decode cX5_plans 42 = .ok (.iadd, 1) := dk_96 (dk_at dksX5_plans_1 18 rfl rfl)
theorem dX5_plans_43 : decode cX5_plans 43 = .ok (.iload_n 3, 1) := dk_29 (dk_at dksX5_plans_1 19 rfl rfl)
theorem dX5_plans_44 : decode cX5_plans 44 = .ok (.iastore, 1) := dk_79 (dk_at dksX5_plans_1 20 rfl rfl)
theorem dX5_plans_45 : decode cX5_plans 45 = .ok (.aload_n 0, 1) := dk_42 (dk_at dksX5_plans_1 21 rfl rfl)
theorem dX5_plans_46 : decode cX5_plans 46 = .ok (.getfield 7, 3) := dk_180 0 7 (dk_at dksX5_plans_2 0 rfl rfl)
theorem dX5_plans_49 : decode cX5_plans 49 = .ok (.bipush 7, 2) := dk_16 7 (dk_at dksX5_plans_2 3 rfl rfl)
theorem dX5_plans_51 : decode cX5_plans 51 = .ok (.dup2, 1) := dk_92 (dk_at dksX5_plans_2 5 rfl rfl)
theorem dX5_plans_52 : decode cX5_plans 52 = .ok (.iaload, 1) := dk_46 (dk_at dksX5_plans_2 6 rfl rfl)
theorem dX5_plans_53 : decode cX5_plans 53 = .ok (.iconst 1, 1) := dk_4 (dk_at dksX5_plans_2 7 rfl rfl)
theorem dX5_plans_54 : decode cX5_plans 54 = .ok (.iadd, 1) := dk_96 (dk_at dksX5_plans_2 8 rfl rfl)
theorem dX5_plans_55 : decode cX5_plans 55 = .ok (.iastore, 1) := dk_79 (dk_at dksX5_plans_2 9 rfl rfl)
theorem dX5_plans_56 : decode cX5_plans 56 = .ok (.return_, 1) := dk_177 (dk_at dksX5_plans_2 10 rfl rfl)
abbrev cX5_callOff : ByteArray := prog_8_method_44_code
def yX5_callOff : MethodName := ⟨RX5, "callOff", "(I)I"⟩
def dkwX5_callOff_1 : List UInt8 := [182, 0, 127, 42, 27, 182, 0, 115, 172]
abbrev dktX5_callOff_1 : List UInt8 := dkwX5_callOff_1 ++ []
def dkwX5_callOff_0 : List UInt8 := [42, 3, 181, 0, 35, 27, 3, 17, 3, 231, 184, 0, 39, 154, 0, 9, 42, 4, 182, 0, 124, 172, 42]
abbrev dktX5_callOff_0 : List UInt8 := dkwX5_callOff_0 ++ dktX5_callOff_1
theorem dksX5_callOff_0 : cX5_callOff.data.toList.drop 0 = dktX5_callOff_0 := by decide +kernel
theorem dksX5_callOff_1 : cX5_callOff.data.toList.drop 23 = dktX5_callOff_1 := dk_seg dksX5_callOff_0 23 rfl rfl
theorem dX5_callOff_0 : decode cX5_callOff 0 = .ok (.aload_n 0, 1) := dk_42 (dk_at dksX5_callOff_0 0 rfl rfl)
theorem dX5_callOff_1 : decode cX5_callOff 1 = .ok (.iconst 0, 1) := dk_3 (dk_at dksX5_callOff_0 1 rfl rfl)
theorem dX5_callOff_2 : decode cX5_callOff 2 = .ok (.putfield 35, 3) := dk_181 0 35 (dk_at dksX5_callOff_0 2 rfl rfl)
theorem dX5_callOff_5 : decode cX5_callOff 5 = .ok (.iload_n 1, 1) := dk_27 (dk_at dksX5_callOff_0 5 rfl rfl)
theorem dX5_callOff_6 : decode cX5_callOff 6 = .ok (.iconst 0, 1) := dk_3 (dk_at dksX5_callOff_0 6 rfl rfl)
theorem dX5_callOff_7 : decode cX5_callOff 7 = .ok (.sipush 999, 3) := dk_17 3 231 (dk_at dksX5_callOff_0 7 rfl rfl)
theorem dX5_callOff_10 : decode cX5_callOff 10 = .ok (.invokestatic 39, 3) := dk_184 0 39 (dk_at dksX5_callOff_0 10 rfl rfl)
theorem dX5_callOff_13 : decode cX5_callOff 13 = .ok (.ifCond .ne 9, 3) := dk_154 0 9 (dk_at dksX5_callOff_0 13 rfl rfl)
theorem dX5_callOff_16 : decode cX5_callOff 16 = .ok (.aload_n 0, 1) := dk_42 (dk_at dksX5_callOff_0 16 rfl rfl)
theorem dX5_callOff_17 : decode cX5_callOff 17 = .ok (.iconst 1, 1) := dk_4 (dk_at dksX5_callOff_0 17 rfl rfl)
theorem dX5_callOff_18 : decode cX5_callOff 18 = .ok (.invokevirtual 124, 3) := dk_182 0 124 (dk_at dksX5_callOff_0 18 rfl rfl)
theorem dX5_callOff_21 : decode cX5_callOff 21 = .ok (.ireturn, 1) := dk_172 (dk_at dksX5_callOff_0 21 rfl rfl)
theorem dX5_callOff_22 : decode cX5_callOff 22 = .ok (.aload_n 0, 1) := dk_42 (dk_at dksX5_callOff_0 22 rfl rfl)
theorem dX5_callOff_23 : decode cX5_callOff 23 = .ok (.invokevirtual 127, 3) := dk_182 0 127 (dk_at dksX5_callOff_1 0 rfl rfl)
theorem dX5_callOff_26 : decode cX5_callOff 26 = .ok (.aload_n 0, 1) := dk_42 (dk_at dksX5_callOff_1 3 rfl rfl)
theorem dX5_callOff_27 : decode cX5_callOff 27 = .ok (.iload_n 1, 1) := dk_27 (dk_at dksX5_callOff_1 4 rfl rfl)
theorem dX5_callOff_28 : decode cX5_callOff 28 = .ok (.invokevirtual 115, 3) := dk_182 0 115 (dk_at dksX5_callOff_1 5 rfl rfl)
theorem dX5_callOff_31 : decode cX5_callOff 31 = .ok (.ireturn, 1) := dk_172 (dk_at dksX5_callOff_1 8 rfl rfl)
abbrev cX5_drops : ByteArray := prog_8_method_31_code
def yX5_drops : MethodName := ⟨RX5, "drops", "(I)I"⟩
def dkwX5_drops_7 : List UInt8 := [180, 0, 7, 16, 7, 28, 79, 29, 172]
abbrev dktX5_drops_7 : List UInt8 := dkwX5_drops_7 ++ []
def dkwX5_drops_6 : List UInt8 := [162, 0, 21, 42, 180, 0, 7, 17, 0, 153, 21, 4, 96, 3, 79, 132, 4, 1, 167, 255, 227, 42]
abbrev dktX5_drops_6 : List UInt8 := dkwX5_drops_6 ++ dktX5_drops_7
def dkwX5_drops_5 : List UInt8 := [61, 132, 4, 1, 167, 255, 140, 6, 28, 104, 54, 4, 21, 4, 6, 42, 180, 0, 7, 16, 7, 46, 104]
abbrev dktX5_drops_5 : List UInt8 := dkwX5_drops_5 ++ dktX5_drops_6
def dkwX5_drops_4 : List UInt8 := [96, 21, 6, 96, 46, 79, 132, 6, 1, 167, 255, 211, 28, 21, 5, 153, 0, 7, 3, 167, 0, 4, 4, 96]
abbrev dktX5_drops_4 : List UInt8 := dkwX5_drops_4 ++ dktX5_drops_5
def dkwX5_drops_3 : List UInt8 := [180, 0, 7, 17, 0, 153, 6, 28, 104, 96, 21, 6, 96, 42, 180, 0, 7, 17, 0, 153, 6, 21, 4, 104]
abbrev dktX5_drops_3 : List UInt8 := dkwX5_drops_3 ++ dktX5_drops_4
def dkwX5_drops_2 : List UInt8 := [182, 0, 98, 167, 0, 4, 3, 96, 62, 3, 54, 6, 21, 6, 6, 162, 0, 45, 21, 5, 154, 0, 40, 42]
abbrev dktX5_drops_2 : List UInt8 := dkwX5_drops_2 ++ dktX5_drops_3
def dkwX5_drops_1 : List UInt8 := [182, 0, 98, 27, 160, 0, 7, 4, 167, 0, 4, 3, 54, 5, 29, 21, 5, 153, 0, 13, 42, 21, 4, 4]
abbrev dktX5_drops_1 : List UInt8 := dkwX5_drops_1 ++ dktX5_drops_2
def dkwX5_drops_0 : List UInt8 := [3, 61, 3, 62, 3, 54, 4, 21, 4, 42, 180, 0, 7, 16, 7, 46, 162, 0, 110, 42, 21, 4, 3]
abbrev dktX5_drops_0 : List UInt8 := dkwX5_drops_0 ++ dktX5_drops_1
theorem dksX5_drops_0 : cX5_drops.data.toList.drop 0 = dktX5_drops_0 := by decide +kernel
theorem dksX5_drops_1 : cX5_drops.data.toList.drop 23 = dktX5_drops_1 := dk_seg dksX5_drops_0 23 rfl rfl
theorem dksX5_drops_2 : cX5_drops.data.toList.drop 47 = dktX5_drops_2 := dk_seg dksX5_drops_1 24 rfl rfl
theorem dksX5_drops_3 : cX5_drops.data.toList.drop 71 = dktX5_drops_3 := dk_seg dksX5_drops_2 24 rfl rfl
theorem dksX5_drops_4 : cX5_drops.data.toList.drop 95 = dktX5_drops_4 := dk_seg dksX5_drops_3 24 rfl rfl
theorem dksX5_drops_5 : cX5_drops.data.toList.drop 119 = dktX5_drops_5 := dk_seg dksX5_drops_4 24 rfl rfl
theorem dksX5_drops_6 : cX5_drops.data.toList.drop 142 = dktX5_drops_6 := dk_seg dksX5_drops_5 23 rfl rfl
theorem dksX5_drops_7 : cX5_drops.data.toList.drop 164 = dktX5_drops_7 := dk_seg dksX5_drops_6 22 rfl rfl
theorem dX5_drops_0 : decode cX5_drops 0 = .ok (.iconst 0, 1) := dk_3 (dk_at dksX5_drops_0 0 rfl rfl)
theorem dX5_drops_1 : decode cX5_drops 1 = .ok (.istore_n 2, 1) := dk_61 (dk_at dksX5_drops_0 1 rfl rfl)
theorem dX5_drops_2 : decode cX5_drops 2 = .ok (.iconst 0, 1) := dk_3 (dk_at dksX5_drops_0 2 rfl rfl)
theorem dX5_drops_3 : decode cX5_drops 3 = .ok (.istore_n 3, 1) := dk_62 (dk_at dksX5_drops_0 3 rfl rfl)
theorem dX5_drops_4 : decode cX5_drops 4 = .ok (.iconst 0, 1) := dk_3 (dk_at dksX5_drops_0 4 rfl rfl)
theorem dX5_drops_5 : decode cX5_drops 5 = .ok (.istore 4, 2) := dk_54 4 (dk_at dksX5_drops_0 5 rfl rfl)
theorem dX5_drops_7 : decode cX5_drops 7 = .ok (.iload 4, 2) := dk_21 4 (dk_at dksX5_drops_0 7 rfl rfl)
theorem dX5_drops_9 : decode cX5_drops 9 = .ok (.aload_n 0, 1) := dk_42 (dk_at dksX5_drops_0 9 rfl rfl)
theorem dX5_drops_10 : decode cX5_drops 10 = .ok (.getfield 7, 3) := dk_180 0 7 (dk_at dksX5_drops_0 10 rfl rfl)
theorem dX5_drops_13 : decode cX5_drops 13 = .ok (.bipush 7, 2) := dk_16 7 (dk_at dksX5_drops_0 13 rfl rfl)
theorem dX5_drops_15 : decode cX5_drops 15 = .ok (.iaload, 1) := dk_46 (dk_at dksX5_drops_0 15 rfl rfl)
theorem dX5_drops_16 : decode cX5_drops 16 = .ok (.if_icmp .ge 110, 3) := dk_162 0 110 (dk_at dksX5_drops_0 16 rfl rfl)
theorem dX5_drops_19 : decode cX5_drops 19 = .ok (.aload_n 0, 1) := dk_42 (dk_at dksX5_drops_0 19 rfl rfl)
theorem dX5_drops_20 : decode cX5_drops 20 = .ok (.iload 4, 2) := dk_21 4 (dk_at dksX5_drops_0 20 rfl rfl)
theorem dX5_drops_22 : decode cX5_drops 22 = .ok (.iconst 0, 1) := dk_3 (dk_at dksX5_drops_0 22 rfl rfl)
theorem dX5_drops_23 : decode cX5_drops 23 = .ok (.invokevirtual 98, 3) := dk_182 0 98 (dk_at dksX5_drops_1 0 rfl rfl)
theorem dX5_drops_26 : decode cX5_drops 26 = .ok (.iload_n 1, 1) := dk_27 (dk_at dksX5_drops_1 3 rfl rfl)
theorem dX5_drops_27 : decode cX5_drops 27 = .ok (.if_icmp .ne 7, 3) := dk_160 0 7 (dk_at dksX5_drops_1 4 rfl rfl)
theorem dX5_drops_30 : decode cX5_drops 30 = .ok (.iconst 1, 1) := dk_4 (dk_at dksX5_drops_1 7 rfl rfl)
theorem dX5_drops_31 : decode cX5_drops 31 = .ok (.goto 4, 3) := dk_167 0 4 (dk_at dksX5_drops_1 8 rfl rfl)
theorem dX5_drops_34 : decode cX5_drops 34 = .ok (.iconst 0, 1) := dk_3 (dk_at dksX5_drops_1 11 rfl rfl)
theorem dX5_drops_35 : decode cX5_drops 35 = .ok (.istore 5, 2) := dk_54 5 (dk_at dksX5_drops_1 12 rfl rfl)
theorem dX5_drops_37 : decode cX5_drops 37 = .ok (.iload_n 3, 1) := dk_29 (dk_at dksX5_drops_1 14 rfl rfl)
theorem dX5_drops_38 : decode cX5_drops 38 = .ok (.iload 5, 2) := dk_21 5 (dk_at dksX5_drops_1 15 rfl rfl)
theorem dX5_drops_40 : decode cX5_drops 40 = .ok (.ifCond .eq 13, 3) := dk_153 0 13 (dk_at dksX5_drops_1 17 rfl rfl)
theorem dX5_drops_43 : decode cX5_drops 43 = .ok (.aload_n 0, 1) := dk_42 (dk_at dksX5_drops_1 20 rfl rfl)
theorem dX5_drops_44 : decode cX5_drops 44 = .ok (.iload 4, 2) := dk_21 4 (dk_at dksX5_drops_1 21 rfl rfl)
theorem dX5_drops_46 : decode cX5_drops 46 = .ok (.iconst 1, 1) := dk_4 (dk_at dksX5_drops_1 23 rfl rfl)
theorem dX5_drops_47 : decode cX5_drops 47 = .ok (.invokevirtual 98, 3) := dk_182 0 98 (dk_at dksX5_drops_2 0 rfl rfl)
theorem dX5_drops_50 : decode cX5_drops 50 = .ok (.goto 4, 3) := dk_167 0 4 (dk_at dksX5_drops_2 3 rfl rfl)
theorem dX5_drops_53 : decode cX5_drops 53 = .ok (.iconst 0, 1) := dk_3 (dk_at dksX5_drops_2 6 rfl rfl)
theorem dX5_drops_54 : decode cX5_drops 54 = .ok (.iadd, 1) := dk_96 (dk_at dksX5_drops_2 7 rfl rfl)
theorem dX5_drops_55 : decode cX5_drops 55 = .ok (.istore_n 3, 1) := dk_62 (dk_at dksX5_drops_2 8 rfl rfl)
theorem dX5_drops_56 : decode cX5_drops 56 = .ok (.iconst 0, 1) := dk_3 (dk_at dksX5_drops_2 9 rfl rfl)
theorem dX5_drops_57 : decode cX5_drops 57 = .ok (.istore 6, 2) := dk_54 6 (dk_at dksX5_drops_2 10 rfl rfl)
theorem dX5_drops_59 : decode cX5_drops 59 = .ok (.iload 6, 2) := dk_21 6 (dk_at dksX5_drops_2 12 rfl rfl)
theorem dX5_drops_61 : decode cX5_drops 61 = .ok (.iconst 3, 1) := dk_6 (dk_at dksX5_drops_2 14 rfl rfl)
theorem dX5_drops_62 : decode cX5_drops 62 = .ok (.if_icmp .ge 45, 3) := dk_162 0 45 (dk_at dksX5_drops_2 15 rfl rfl)
theorem dX5_drops_65 : decode cX5_drops 65 = .ok (.iload 5, 2) := dk_21 5 (dk_at dksX5_drops_2 18 rfl rfl)
theorem dX5_drops_67 : decode cX5_drops 67 = .ok (.ifCond .ne 40, 3) := dk_154 0 40 (dk_at dksX5_drops_2 20 rfl rfl)
theorem dX5_drops_70 : decode cX5_drops 70 = .ok (.aload_n 0, 1) := dk_42 (dk_at dksX5_drops_2 23 rfl rfl)
theorem dX5_drops_71 : decode cX5_drops 71 = .ok (.getfield 7, 3) := dk_180 0 7 (dk_at dksX5_drops_3 0 rfl rfl)
theorem dX5_drops_74 : decode cX5_drops 74 = .ok (.sipush 153, 3) := dk_17 0 153 (dk_at dksX5_drops_3 3 rfl rfl)
theorem dX5_drops_77 : decode cX5_drops 77 = .ok (.iconst 3, 1) := dk_6 (dk_at dksX5_drops_3 6 rfl rfl)
theorem dX5_drops_78 : decode cX5_drops 78 = .ok (.iload_n 2, 1) := dk_28 (dk_at dksX5_drops_3 7 rfl rfl)
theorem dX5_drops_79 : decode cX5_drops 79 = .ok (.imul, 1) := dk_104 (dk_at dksX5_drops_3 8 rfl rfl)
theorem dX5_drops_80 : decode cX5_drops 80 = .ok (.iadd, 1) := dk_96 (dk_at dksX5_drops_3 9 rfl rfl)
theorem dX5_drops_81 : decode cX5_drops 81 = .ok (.iload 6, 2) := dk_21 6 (dk_at dksX5_drops_3 10 rfl rfl)
theorem dX5_drops_83 : decode cX5_drops 83 = .ok (.iadd, 1) := dk_96 (dk_at dksX5_drops_3 12 rfl rfl)
theorem dX5_drops_84 : decode cX5_drops 84 = .ok (.aload_n 0, 1) := dk_42 (dk_at dksX5_drops_3 13 rfl rfl)
theorem dX5_drops_85 : decode cX5_drops 85 = .ok (.getfield 7, 3) := dk_180 0 7 (dk_at dksX5_drops_3 14 rfl rfl)
theorem dX5_drops_88 : decode cX5_drops 88 = .ok (.sipush 153, 3) := dk_17 0 153 (dk_at dksX5_drops_3 17 rfl rfl)
theorem dX5_drops_91 : decode cX5_drops 91 = .ok (.iconst 3, 1) := dk_6 (dk_at dksX5_drops_3 20 rfl rfl)
theorem dX5_drops_92 : decode cX5_drops 92 = .ok (.iload 4, 2) := dk_21 4 (dk_at dksX5_drops_3 21 rfl rfl)
theorem dX5_drops_94 : decode cX5_drops 94 = .ok (.imul, 1) := dk_104 (dk_at dksX5_drops_3 23 rfl rfl)
theorem dX5_drops_95 : decode cX5_drops 95 = .ok (.iadd, 1) := dk_96 (dk_at dksX5_drops_4 0 rfl rfl)
theorem dX5_drops_96 : decode cX5_drops 96 = .ok (.iload 6, 2) := dk_21 6 (dk_at dksX5_drops_4 1 rfl rfl)
theorem dX5_drops_98 : decode cX5_drops 98 = .ok (.iadd, 1) := dk_96 (dk_at dksX5_drops_4 3 rfl rfl)
theorem dX5_drops_99 : decode cX5_drops 99 = .ok (.iaload, 1) := dk_46 (dk_at dksX5_drops_4 4 rfl rfl)
theorem dX5_drops_100 : decode cX5_drops 100 = .ok (.iastore, 1) := dk_79 (dk_at dksX5_drops_4 5 rfl rfl)
theorem dX5_drops_101 : decode cX5_drops 101 = .ok (.iinc 6 1, 3) := dk_132 6 1 (dk_at dksX5_drops_4 6 rfl rfl)
theorem dX5_drops_104 : decode cX5_drops 104 = .ok (.goto (-45), 3) := dk_167 255 211 (dk_at dksX5_drops_4 9 rfl rfl)
theorem dX5_drops_107 : decode cX5_drops 107 = .ok (.iload_n 2, 1) := dk_28 (dk_at dksX5_drops_4 12 rfl rfl)
theorem dX5_drops_108 : decode cX5_drops 108 = .ok (.iload 5, 2) := dk_21 5 (dk_at dksX5_drops_4 13 rfl rfl)
theorem dX5_drops_110 : decode cX5_drops 110 = .ok (.ifCond .eq 7, 3) := dk_153 0 7 (dk_at dksX5_drops_4 15 rfl rfl)
theorem dX5_drops_113 : decode cX5_drops 113 = .ok (.iconst 0, 1) := dk_3 (dk_at dksX5_drops_4 18 rfl rfl)
theorem dX5_drops_114 : decode cX5_drops 114 = .ok (.goto 4, 3) := dk_167 0 4 (dk_at dksX5_drops_4 19 rfl rfl)
theorem dX5_drops_117 : decode cX5_drops 117 = .ok (.iconst 1, 1) := dk_4 (dk_at dksX5_drops_4 22 rfl rfl)
theorem dX5_drops_118 : decode cX5_drops 118 = .ok (.iadd, 1) := dk_96 (dk_at dksX5_drops_4 23 rfl rfl)
theorem dX5_drops_119 : decode cX5_drops 119 = .ok (.istore_n 2, 1) := dk_61 (dk_at dksX5_drops_5 0 rfl rfl)
theorem dX5_drops_120 : decode cX5_drops 120 = .ok (.iinc 4 1, 3) := dk_132 4 1 (dk_at dksX5_drops_5 1 rfl rfl)
theorem dX5_drops_123 : decode cX5_drops 123 = .ok (.goto (-116), 3) := dk_167 255 140 (dk_at dksX5_drops_5 4 rfl rfl)
theorem dX5_drops_126 : decode cX5_drops 126 = .ok (.iconst 3, 1) := dk_6 (dk_at dksX5_drops_5 7 rfl rfl)
theorem dX5_drops_127 : decode cX5_drops 127 = .ok (.iload_n 2, 1) := dk_28 (dk_at dksX5_drops_5 8 rfl rfl)
theorem dX5_drops_128 : decode cX5_drops 128 = .ok (.imul, 1) := dk_104 (dk_at dksX5_drops_5 9 rfl rfl)
theorem dX5_drops_129 : decode cX5_drops 129 = .ok (.istore 4, 2) := dk_54 4 (dk_at dksX5_drops_5 10 rfl rfl)
theorem dX5_drops_131 : decode cX5_drops 131 = .ok (.iload 4, 2) := dk_21 4 (dk_at dksX5_drops_5 12 rfl rfl)
theorem dX5_drops_133 : decode cX5_drops 133 = .ok (.iconst 3, 1) := dk_6 (dk_at dksX5_drops_5 14 rfl rfl)
theorem dX5_drops_134 : decode cX5_drops 134 = .ok (.aload_n 0, 1) := dk_42 (dk_at dksX5_drops_5 15 rfl rfl)
theorem dX5_drops_135 : decode cX5_drops 135 = .ok (.getfield 7, 3) := dk_180 0 7 (dk_at dksX5_drops_5 16 rfl rfl)
theorem dX5_drops_138 : decode cX5_drops 138 = .ok (.bipush 7, 2) := dk_16 7 (dk_at dksX5_drops_5 19 rfl rfl)
theorem dX5_drops_140 : decode cX5_drops 140 = .ok (.iaload, 1) := dk_46 (dk_at dksX5_drops_5 21 rfl rfl)
theorem dX5_drops_141 : decode cX5_drops 141 = .ok (.imul, 1) := dk_104 (dk_at dksX5_drops_5 22 rfl rfl)
theorem dX5_drops_142 : decode cX5_drops 142 = .ok (.if_icmp .ge 21, 3) := dk_162 0 21 (dk_at dksX5_drops_6 0 rfl rfl)
theorem dX5_drops_145 : decode cX5_drops 145 = .ok (.aload_n 0, 1) := dk_42 (dk_at dksX5_drops_6 3 rfl rfl)
theorem dX5_drops_146 : decode cX5_drops 146 = .ok (.getfield 7, 3) := dk_180 0 7 (dk_at dksX5_drops_6 4 rfl rfl)
theorem dX5_drops_149 : decode cX5_drops 149 = .ok (.sipush 153, 3) := dk_17 0 153 (dk_at dksX5_drops_6 7 rfl rfl)
theorem dX5_drops_152 : decode cX5_drops 152 = .ok (.iload 4, 2) := dk_21 4 (dk_at dksX5_drops_6 10 rfl rfl)
theorem dX5_drops_154 : decode cX5_drops 154 = .ok (.iadd, 1) := dk_96 (dk_at dksX5_drops_6 12 rfl rfl)
theorem dX5_drops_155 : decode cX5_drops 155 = .ok (.iconst 0, 1) := dk_3 (dk_at dksX5_drops_6 13 rfl rfl)
theorem dX5_drops_156 : decode cX5_drops 156 = .ok (.iastore, 1) := dk_79 (dk_at dksX5_drops_6 14 rfl rfl)
theorem dX5_drops_157 : decode cX5_drops 157 = .ok (.iinc 4 1, 3) := dk_132 4 1 (dk_at dksX5_drops_6 15 rfl rfl)
theorem dX5_drops_160 : decode cX5_drops 160 = .ok (.goto (-29), 3) := dk_167 255 227 (dk_at dksX5_drops_6 18 rfl rfl)
theorem dX5_drops_163 : decode cX5_drops 163 = .ok (.aload_n 0, 1) := dk_42 (dk_at dksX5_drops_6 21 rfl rfl)
theorem dX5_drops_164 : decode cX5_drops 164 = .ok (.getfield 7, 3) := dk_180 0 7 (dk_at dksX5_drops_7 0 rfl rfl)
theorem dX5_drops_167 : decode cX5_drops 167 = .ok (.bipush 7, 2) := dk_16 7 (dk_at dksX5_drops_7 3 rfl rfl)
theorem dX5_drops_169 : decode cX5_drops 169 = .ok (.iload_n 2, 1) := dk_28 (dk_at dksX5_drops_7 5 rfl rfl)
theorem dX5_drops_170 : decode cX5_drops 170 = .ok (.iastore, 1) := dk_79 (dk_at dksX5_drops_7 6 rfl rfl)
theorem dX5_drops_171 : decode cX5_drops 171 = .ok (.iload_n 3, 1) := dk_29 (dk_at dksX5_drops_7 7 rfl rfl)
theorem dX5_drops_172 : decode cX5_drops 172 = .ok (.ireturn, 1) := dk_172 (dk_at dksX5_drops_7 8 rfl rfl)
abbrev cX5_outingOf : ByteArray := prog_8_method_12_code
def yX5_outingOf : MethodName := ⟨RX5, "outingOf", "(II)I"⟩
def dkwX5_outingOf_0 : List UInt8 := [42, 180, 0, 7, 17, 0, 153, 6, 27, 104, 96, 28, 96, 46, 172]
abbrev dktX5_outingOf_0 : List UInt8 := dkwX5_outingOf_0 ++ []
theorem dksX5_outingOf_0 : cX5_outingOf.data.toList.drop 0 = dktX5_outingOf_0 := by decide +kernel
theorem dX5_outingOf_0 : decode cX5_outingOf 0 = .ok (.aload_n 0, 1) := dk_42 (dk_at dksX5_outingOf_0 0 rfl rfl)
theorem dX5_outingOf_1 : decode cX5_outingOf 1 = .ok (.getfield 7, 3) := dk_180 0 7 (dk_at dksX5_outingOf_0 1 rfl rfl)
theorem dX5_outingOf_4 : decode cX5_outingOf 4 = .ok (.sipush 153, 3) := dk_17 0 153 (dk_at dksX5_outingOf_0 4 rfl rfl)
theorem dX5_outingOf_7 : decode cX5_outingOf 7 = .ok (.iconst 3, 1) := dk_6 (dk_at dksX5_outingOf_0 7 rfl rfl)
theorem dX5_outingOf_8 : decode cX5_outingOf 8 = .ok (.iload_n 1, 1) := dk_27 (dk_at dksX5_outingOf_0 8 rfl rfl)
theorem dX5_outingOf_9 : decode cX5_outingOf 9 = .ok (.imul, 1) := dk_104 (dk_at dksX5_outingOf_0 9 rfl rfl)
theorem dX5_outingOf_10 : decode cX5_outingOf 10 = .ok (.iadd, 1) := dk_96 (dk_at dksX5_outingOf_0 10 rfl rfl)
theorem dX5_outingOf_11 : decode cX5_outingOf 11 = .ok (.iload_n 2, 1) := dk_28 (dk_at dksX5_outingOf_0 11 rfl rfl)
theorem dX5_outingOf_12 : decode cX5_outingOf 12 = .ok (.iadd, 1) := dk_96 (dk_at dksX5_outingOf_0 12 rfl rfl)
theorem dX5_outingOf_13 : decode cX5_outingOf 13 = .ok (.iaload, 1) := dk_46 (dk_at dksX5_outingOf_0 13 rfl rfl)
theorem dX5_outingOf_14 : decode cX5_outingOf 14 = .ok (.ireturn, 1) := dk_172 (dk_at dksX5_outingOf_0 14 rfl rfl)
abbrev cX5_set : ByteArray := prog_8_method_46_code
def yX5_set : MethodName := ⟨RX5, "set", "(II)I"⟩
def dkwX5_set_2 : List UInt8 := [180, 0, 7, 27, 28, 79, 29, 172]
abbrev dktX5_set_2 : List UInt8 := dkwX5_set_2 ++ []
def dkwX5_set_1 : List UInt8 := [184, 0, 140, 154, 0, 9, 42, 5, 182, 0, 124, 172, 42, 182, 0, 127, 42, 180, 0, 7, 27, 46, 62, 42]
abbrev dktX5_set_1 : List UInt8 := dkwX5_set_1 ++ dktX5_set_2
def dkwX5_set_0 : List UInt8 := [42, 3, 181, 0, 35, 27, 3, 7, 184, 0, 39, 154, 0, 9, 42, 4, 182, 0, 124, 172, 27, 28]
abbrev dktX5_set_0 : List UInt8 := dkwX5_set_0 ++ dktX5_set_1
theorem dksX5_set_0 : cX5_set.data.toList.drop 0 = dktX5_set_0 := by decide +kernel
theorem dksX5_set_1 : cX5_set.data.toList.drop 22 = dktX5_set_1 := dk_seg dksX5_set_0 22 rfl rfl
theorem dksX5_set_2 : cX5_set.data.toList.drop 46 = dktX5_set_2 := dk_seg dksX5_set_1 24 rfl rfl
theorem dX5_set_0 : decode cX5_set 0 = .ok (.aload_n 0, 1) := dk_42 (dk_at dksX5_set_0 0 rfl rfl)
theorem dX5_set_1 : decode cX5_set 1 = .ok (.iconst 0, 1) := dk_3 (dk_at dksX5_set_0 1 rfl rfl)
theorem dX5_set_2 : decode cX5_set 2 = .ok (.putfield 35, 3) := dk_181 0 35 (dk_at dksX5_set_0 2 rfl rfl)
theorem dX5_set_5 : decode cX5_set 5 = .ok (.iload_n 1, 1) := dk_27 (dk_at dksX5_set_0 5 rfl rfl)
theorem dX5_set_6 : decode cX5_set 6 = .ok (.iconst 0, 1) := dk_3 (dk_at dksX5_set_0 6 rfl rfl)
theorem dX5_set_7 : decode cX5_set 7 = .ok (.iconst 4, 1) := dk_7 (dk_at dksX5_set_0 7 rfl rfl)
theorem dX5_set_8 : decode cX5_set 8 = .ok (.invokestatic 39, 3) := dk_184 0 39 (dk_at dksX5_set_0 8 rfl rfl)
theorem dX5_set_11 : decode cX5_set 11 = .ok (.ifCond .ne 9, 3) := dk_154 0 9 (dk_at dksX5_set_0 11 rfl rfl)
theorem dX5_set_14 : decode cX5_set 14 = .ok (.aload_n 0, 1) := dk_42 (dk_at dksX5_set_0 14 rfl rfl)
theorem dX5_set_15 : decode cX5_set 15 = .ok (.iconst 1, 1) := dk_4 (dk_at dksX5_set_0 15 rfl rfl)
theorem dX5_set_16 : decode cX5_set 16 = .ok (.invokevirtual 124, 3) := dk_182 0 124 (dk_at dksX5_set_0 16 rfl rfl)
theorem dX5_set_19 : decode cX5_set 19 = .ok (.ireturn, 1) := dk_172 (dk_at dksX5_set_0 19 rfl rfl)
theorem dX5_set_20 : decode cX5_set 20 = .ok (.iload_n 1, 1) := dk_27 (dk_at dksX5_set_0 20 rfl rfl)
theorem dX5_set_21 : decode cX5_set 21 = .ok (.iload_n 2, 1) := dk_28 (dk_at dksX5_set_0 21 rfl rfl)
theorem dX5_set_22 : decode cX5_set 22 = .ok (.invokestatic 140, 3) := dk_184 0 140 (dk_at dksX5_set_1 0 rfl rfl)
theorem dX5_set_25 : decode cX5_set 25 = .ok (.ifCond .ne 9, 3) := dk_154 0 9 (dk_at dksX5_set_1 3 rfl rfl)
theorem dX5_set_28 : decode cX5_set 28 = .ok (.aload_n 0, 1) := dk_42 (dk_at dksX5_set_1 6 rfl rfl)
theorem dX5_set_29 : decode cX5_set 29 = .ok (.iconst 2, 1) := dk_5 (dk_at dksX5_set_1 7 rfl rfl)
theorem dX5_set_30 : decode cX5_set 30 = .ok (.invokevirtual 124, 3) := dk_182 0 124 (dk_at dksX5_set_1 8 rfl rfl)
theorem dX5_set_33 : decode cX5_set 33 = .ok (.ireturn, 1) := dk_172 (dk_at dksX5_set_1 11 rfl rfl)
theorem dX5_set_34 : decode cX5_set 34 = .ok (.aload_n 0, 1) := dk_42 (dk_at dksX5_set_1 12 rfl rfl)
theorem dX5_set_35 : decode cX5_set 35 = .ok (.invokevirtual 127, 3) := dk_182 0 127 (dk_at dksX5_set_1 13 rfl rfl)
theorem dX5_set_38 : decode cX5_set 38 = .ok (.aload_n 0, 1) := dk_42 (dk_at dksX5_set_1 16 rfl rfl)
theorem dX5_set_39 : decode cX5_set 39 = .ok (.getfield 7, 3) := dk_180 0 7 (dk_at dksX5_set_1 17 rfl rfl)
theorem dX5_set_42 : decode cX5_set 42 = .ok (.iload_n 1, 1) := dk_27 (dk_at dksX5_set_1 20 rfl rfl)
theorem dX5_set_43 : decode cX5_set 43 = .ok (.iaload, 1) := dk_46 (dk_at dksX5_set_1 21 rfl rfl)
theorem dX5_set_44 : decode cX5_set 44 = .ok (.istore_n 3, 1) := dk_62 (dk_at dksX5_set_1 22 rfl rfl)
theorem dX5_set_45 : decode cX5_set 45 = .ok (.aload_n 0, 1) := dk_42 (dk_at dksX5_set_1 23 rfl rfl)
theorem dX5_set_46 : decode cX5_set 46 = .ok (.getfield 7, 3) := dk_180 0 7 (dk_at dksX5_set_2 0 rfl rfl)
theorem dX5_set_49 : decode cX5_set 49 = .ok (.iload_n 1, 1) := dk_27 (dk_at dksX5_set_2 3 rfl rfl)
theorem dX5_set_50 : decode cX5_set 50 = .ok (.iload_n 2, 1) := dk_28 (dk_at dksX5_set_2 4 rfl rfl)
theorem dX5_set_51 : decode cX5_set 51 = .ok (.iastore, 1) := dk_79 (dk_at dksX5_set_2 5 rfl rfl)
theorem dX5_set_52 : decode cX5_set 52 = .ok (.iload_n 3, 1) := dk_29 (dk_at dksX5_set_2 6 rfl rfl)
theorem dX5_set_53 : decode cX5_set 53 = .ok (.ireturn, 1) := dk_172 (dk_at dksX5_set_2 7 rfl rfl)
abbrev cX5_isSetting : ByteArray := prog_8_method_45_code
def yX5_isSetting : MethodName := ⟨RX5, "isSetting", "(II)Z"⟩
def dkwX5_isSetting_3 : List UInt8 := [3, 16, 90, 184, 0, 39, 172, 27, 3, 16, 50, 184, 0, 39, 172]
abbrev dktX5_isSetting_3 : List UInt8 := dkwX5_isSetting_3 ++ []
def dkwX5_isSetting_2 : List UInt8 := [27, 3, 16, 20, 184, 0, 39, 172, 27, 3, 5, 184, 0, 39, 172, 27, 4, 16, 9, 184, 0, 39, 172, 27]
abbrev dktX5_isSetting_2 : List UInt8 := dkwX5_isSetting_2 ++ dktX5_isSetting_3
def dkwX5_isSetting_1 : List UInt8 := [170, 0, 0, 0, 0, 0, 62, 0, 0, 0, 0, 0, 0, 0, 3, 0, 0, 0, 31, 0, 0, 0, 39, 0, 0, 0, 46, 0, 0, 0, 54]
abbrev dktX5_isSetting_1 : List UInt8 := dkwX5_isSetting_1 ++ dktX5_isSetting_2
def dkwX5_isSetting_0 : List UInt8 := [26]
abbrev dktX5_isSetting_0 : List UInt8 := dkwX5_isSetting_0 ++ dktX5_isSetting_1
theorem dksX5_isSetting_0 : cX5_isSetting.data.toList.drop 0 = dktX5_isSetting_0 := by decide +kernel
theorem dksX5_isSetting_1 : cX5_isSetting.data.toList.drop 1 = dktX5_isSetting_1 := dk_seg dksX5_isSetting_0 1 rfl rfl
theorem dksX5_isSetting_2 : cX5_isSetting.data.toList.drop 32 = dktX5_isSetting_2 := dk_seg dksX5_isSetting_1 31 rfl rfl
theorem dksX5_isSetting_3 : cX5_isSetting.data.toList.drop 56 = dktX5_isSetting_3 := dk_seg dksX5_isSetting_2 24 rfl rfl
theorem dX5_isSetting_0 : decode cX5_isSetting 0 = .ok (.iload_n 0, 1) := dk_26 (dk_at dksX5_isSetting_0 0 rfl rfl)
theorem dX5_isSetting_1 : decode cX5_isSetting 1 = .ok (.tableswitch 62 0 3 #[31, 39, 46, 54], 31) := by decide +kernel
theorem dX5_isSetting_32 : decode cX5_isSetting 32 = .ok (.iload_n 1, 1) := dk_27 (dk_at dksX5_isSetting_2 0 rfl rfl)
theorem dX5_isSetting_33 : decode cX5_isSetting 33 = .ok (.iconst 0, 1) := dk_3 (dk_at dksX5_isSetting_2 1 rfl rfl)
theorem dX5_isSetting_34 : decode cX5_isSetting 34 = .ok (.bipush 20, 2) := dk_16 20 (dk_at dksX5_isSetting_2 2 rfl rfl)
theorem dX5_isSetting_36 : decode cX5_isSetting 36 = .ok (.invokestatic 39, 3) := dk_184 0 39 (dk_at dksX5_isSetting_2 4 rfl rfl)
theorem dX5_isSetting_39 : decode cX5_isSetting 39 = .ok (.ireturn, 1) := dk_172 (dk_at dksX5_isSetting_2 7 rfl rfl)
theorem dX5_isSetting_40 : decode cX5_isSetting 40 = .ok (.iload_n 1, 1) := dk_27 (dk_at dksX5_isSetting_2 8 rfl rfl)
theorem dX5_isSetting_41 : decode cX5_isSetting 41 = .ok (.iconst 0, 1) := dk_3 (dk_at dksX5_isSetting_2 9 rfl rfl)
theorem dX5_isSetting_42 : decode cX5_isSetting 42 = .ok (.iconst 2, 1) := dk_5 (dk_at dksX5_isSetting_2 10 rfl rfl)
theorem dX5_isSetting_43 : decode cX5_isSetting 43 = .ok (.invokestatic 39, 3) := dk_184 0 39 (dk_at dksX5_isSetting_2 11 rfl rfl)
theorem dX5_isSetting_46 : decode cX5_isSetting 46 = .ok (.ireturn, 1) := dk_172 (dk_at dksX5_isSetting_2 14 rfl rfl)
theorem dX5_isSetting_47 : decode cX5_isSetting 47 = .ok (.iload_n 1, 1) := dk_27 (dk_at dksX5_isSetting_2 15 rfl rfl)
theorem dX5_isSetting_48 : decode cX5_isSetting 48 = .ok (.iconst 1, 1) := dk_4 (dk_at dksX5_isSetting_2 16 rfl rfl)
theorem dX5_isSetting_49 : decode cX5_isSetting 49 = .ok (.bipush 9, 2) := dk_16 9 (dk_at dksX5_isSetting_2 17 rfl rfl)
theorem dX5_isSetting_51 : decode cX5_isSetting 51 = .ok (.invokestatic 39, 3) := dk_184 0 39 (dk_at dksX5_isSetting_2 19 rfl rfl)
theorem dX5_isSetting_54 : decode cX5_isSetting 54 = .ok (.ireturn, 1) := dk_172 (dk_at dksX5_isSetting_2 22 rfl rfl)
theorem dX5_isSetting_55 : decode cX5_isSetting 55 = .ok (.iload_n 1, 1) := dk_27 (dk_at dksX5_isSetting_2 23 rfl rfl)
theorem dX5_isSetting_56 : decode cX5_isSetting 56 = .ok (.iconst 0, 1) := dk_3 (dk_at dksX5_isSetting_3 0 rfl rfl)
theorem dX5_isSetting_57 : decode cX5_isSetting 57 = .ok (.bipush 90, 2) := dk_16 90 (dk_at dksX5_isSetting_3 1 rfl rfl)
theorem dX5_isSetting_59 : decode cX5_isSetting 59 = .ok (.invokestatic 39, 3) := dk_184 0 39 (dk_at dksX5_isSetting_3 3 rfl rfl)
theorem dX5_isSetting_62 : decode cX5_isSetting 62 = .ok (.ireturn, 1) := dk_172 (dk_at dksX5_isSetting_3 6 rfl rfl)
theorem dX5_isSetting_63 : decode cX5_isSetting 63 = .ok (.iload_n 1, 1) := dk_27 (dk_at dksX5_isSetting_3 7 rfl rfl)
theorem dX5_isSetting_64 : decode cX5_isSetting 64 = .ok (.iconst 0, 1) := dk_3 (dk_at dksX5_isSetting_3 8 rfl rfl)
theorem dX5_isSetting_65 : decode cX5_isSetting 65 = .ok (.bipush 50, 2) := dk_16 50 (dk_at dksX5_isSetting_3 9 rfl rfl)
theorem dX5_isSetting_67 : decode cX5_isSetting 67 = .ok (.invokestatic 39, 3) := dk_184 0 39 (dk_at dksX5_isSetting_3 11 rfl rfl)
theorem dX5_isSetting_70 : decode cX5_isSetting 70 = .ok (.ireturn, 1) := dk_172 (dk_at dksX5_isSetting_3 14 rfl rfl)
abbrev cX5_pass : ByteArray := prog_8_method_47_code
def yX5_pass : MethodName := ⟨RX5, "pass", "(I)I"⟩
def dkwX5_pass_2 : List UInt8 := [27, 182, 0, 143, 172]
abbrev dktX5_pass_2 : List UInt8 := dkwX5_pass_2 ++ []
def dkwX5_pass_1 : List UInt8 := [180, 0, 7, 8, 46, 27, 96, 17, 3, 231, 164, 0, 9, 42, 5, 182, 0, 124, 172, 42, 182, 0, 127, 42]
abbrev dktX5_pass_1 : List UInt8 := dkwX5_pass_1 ++ dktX5_pass_2
def dkwX5_pass_0 : List UInt8 := [42, 3, 181, 0, 35, 27, 4, 16, 60, 184, 0, 39, 154, 0, 9, 42, 4, 182, 0, 124, 172, 42]
abbrev dktX5_pass_0 : List UInt8 := dkwX5_pass_0 ++ dktX5_pass_1
theorem dksX5_pass_0 : cX5_pass.data.toList.drop 0 = dktX5_pass_0 := by decide +kernel
theorem dksX5_pass_1 : cX5_pass.data.toList.drop 22 = dktX5_pass_1 := dk_seg dksX5_pass_0 22 rfl rfl
theorem dksX5_pass_2 : cX5_pass.data.toList.drop 46 = dktX5_pass_2 := dk_seg dksX5_pass_1 24 rfl rfl
theorem dX5_pass_0 : decode cX5_pass 0 = .ok (.aload_n 0, 1) := dk_42 (dk_at dksX5_pass_0 0 rfl rfl)
theorem dX5_pass_1 : decode cX5_pass 1 = .ok (.iconst 0, 1) := dk_3 (dk_at dksX5_pass_0 1 rfl rfl)
theorem dX5_pass_2 : decode cX5_pass 2 = .ok (.putfield 35, 3) := dk_181 0 35 (dk_at dksX5_pass_0 2 rfl rfl)
theorem dX5_pass_5 : decode cX5_pass 5 = .ok (.iload_n 1, 1) := dk_27 (dk_at dksX5_pass_0 5 rfl rfl)
theorem dX5_pass_6 : decode cX5_pass 6 = .ok (.iconst 1, 1) := dk_4 (dk_at dksX5_pass_0 6 rfl rfl)
theorem dX5_pass_7 : decode cX5_pass 7 = .ok (.bipush 60, 2) := dk_16 60 (dk_at dksX5_pass_0 7 rfl rfl)
theorem dX5_pass_9 : decode cX5_pass 9 = .ok (.invokestatic 39, 3) := dk_184 0 39 (dk_at dksX5_pass_0 9 rfl rfl)
theorem dX5_pass_12 : decode cX5_pass 12 = .ok (.ifCond .ne 9, 3) := dk_154 0 9 (dk_at dksX5_pass_0 12 rfl rfl)
theorem dX5_pass_15 : decode cX5_pass 15 = .ok (.aload_n 0, 1) := dk_42 (dk_at dksX5_pass_0 15 rfl rfl)
theorem dX5_pass_16 : decode cX5_pass 16 = .ok (.iconst 1, 1) := dk_4 (dk_at dksX5_pass_0 16 rfl rfl)
theorem dX5_pass_17 : decode cX5_pass 17 = .ok (.invokevirtual 124, 3) := dk_182 0 124 (dk_at dksX5_pass_0 17 rfl rfl)
theorem dX5_pass_20 : decode cX5_pass 20 = .ok (.ireturn, 1) := dk_172 (dk_at dksX5_pass_0 20 rfl rfl)
theorem dX5_pass_21 : decode cX5_pass 21 = .ok (.aload_n 0, 1) := dk_42 (dk_at dksX5_pass_0 21 rfl rfl)
theorem dX5_pass_22 : decode cX5_pass 22 = .ok (.getfield 7, 3) := dk_180 0 7 (dk_at dksX5_pass_1 0 rfl rfl)
theorem dX5_pass_25 : decode cX5_pass 25 = .ok (.iconst 5, 1) := dk_8 (dk_at dksX5_pass_1 3 rfl rfl)
theorem dX5_pass_26 : decode cX5_pass 26 = .ok (.iaload, 1) := dk_46 (dk_at dksX5_pass_1 4 rfl rfl)
theorem dX5_pass_27 : decode cX5_pass 27 = .ok (.iload_n 1, 1) := dk_27 (dk_at dksX5_pass_1 5 rfl rfl)
theorem dX5_pass_28 : decode cX5_pass 28 = .ok (.iadd, 1) := dk_96 (dk_at dksX5_pass_1 6 rfl rfl)
theorem dX5_pass_29 : decode cX5_pass 29 = .ok (.sipush 999, 3) := dk_17 3 231 (dk_at dksX5_pass_1 7 rfl rfl)
theorem dX5_pass_32 : decode cX5_pass 32 = .ok (.if_icmp .le 9, 3) := dk_164 0 9 (dk_at dksX5_pass_1 10 rfl rfl)
theorem dX5_pass_35 : decode cX5_pass 35 = .ok (.aload_n 0, 1) := dk_42 (dk_at dksX5_pass_1 13 rfl rfl)
theorem dX5_pass_36 : decode cX5_pass 36 = .ok (.iconst 2, 1) := dk_5 (dk_at dksX5_pass_1 14 rfl rfl)
theorem dX5_pass_37 : decode cX5_pass 37 = .ok (.invokevirtual 124, 3) := dk_182 0 124 (dk_at dksX5_pass_1 15 rfl rfl)
theorem dX5_pass_40 : decode cX5_pass 40 = .ok (.ireturn, 1) := dk_172 (dk_at dksX5_pass_1 18 rfl rfl)
theorem dX5_pass_41 : decode cX5_pass 41 = .ok (.aload_n 0, 1) := dk_42 (dk_at dksX5_pass_1 19 rfl rfl)
theorem dX5_pass_42 : decode cX5_pass 42 = .ok (.invokevirtual 127, 3) := dk_182 0 127 (dk_at dksX5_pass_1 20 rfl rfl)
theorem dX5_pass_45 : decode cX5_pass 45 = .ok (.aload_n 0, 1) := dk_42 (dk_at dksX5_pass_1 23 rfl rfl)
theorem dX5_pass_46 : decode cX5_pass 46 = .ok (.iload_n 1, 1) := dk_27 (dk_at dksX5_pass_2 0 rfl rfl)
theorem dX5_pass_47 : decode cX5_pass 47 = .ok (.invokevirtual 143, 3) := dk_182 0 143 (dk_at dksX5_pass_2 1 rfl rfl)
theorem dX5_pass_50 : decode cX5_pass 50 = .ok (.ireturn, 1) := dk_172 (dk_at dksX5_pass_2 4 rfl rfl)
abbrev cX5_days : ByteArray := prog_8_method_33_code
def yX5_days : MethodName := ⟨RX5, "days", "(I)I"⟩
def dkwX5_days_1 : List UInt8 := [167, 255, 244, 42, 180, 0, 7, 16, 8, 46, 28, 100, 172]
abbrev dktX5_days_1 : List UInt8 := dkwX5_days_1 ++ []
def dkwX5_days_0 : List UInt8 := [42, 180, 0, 7, 16, 8, 46, 61, 3, 62, 29, 27, 162, 0, 13, 42, 182, 0, 118, 132, 3, 1]
abbrev dktX5_days_0 : List UInt8 := dkwX5_days_0 ++ dktX5_days_1
theorem dksX5_days_0 : cX5_days.data.toList.drop 0 = dktX5_days_0 := by decide +kernel
theorem dksX5_days_1 : cX5_days.data.toList.drop 22 = dktX5_days_1 := dk_seg dksX5_days_0 22 rfl rfl
theorem dX5_days_0 : decode cX5_days 0 = .ok (.aload_n 0, 1) := dk_42 (dk_at dksX5_days_0 0 rfl rfl)
theorem dX5_days_1 : decode cX5_days 1 = .ok (.getfield 7, 3) := dk_180 0 7 (dk_at dksX5_days_0 1 rfl rfl)
theorem dX5_days_4 : decode cX5_days 4 = .ok (.bipush 8, 2) := dk_16 8 (dk_at dksX5_days_0 4 rfl rfl)
theorem dX5_days_6 : decode cX5_days 6 = .ok (.iaload, 1) := dk_46 (dk_at dksX5_days_0 6 rfl rfl)
theorem dX5_days_7 : decode cX5_days 7 = .ok (.istore_n 2, 1) := dk_61 (dk_at dksX5_days_0 7 rfl rfl)
theorem dX5_days_8 : decode cX5_days 8 = .ok (.iconst 0, 1) := dk_3 (dk_at dksX5_days_0 8 rfl rfl)
theorem dX5_days_9 : decode cX5_days 9 = .ok (.istore_n 3, 1) := dk_62 (dk_at dksX5_days_0 9 rfl rfl)
theorem dX5_days_10 : decode cX5_days 10 = .ok (.iload_n 3, 1) := dk_29 (dk_at dksX5_days_0 10 rfl rfl)
theorem dX5_days_11 : decode cX5_days 11 = .ok (.iload_n 1, 1) := dk_27 (dk_at dksX5_days_0 11 rfl rfl)
theorem dX5_days_12 : decode cX5_days 12 = .ok (.if_icmp .ge 13, 3) := dk_162 0 13 (dk_at dksX5_days_0 12 rfl rfl)
theorem dX5_days_15 : decode cX5_days 15 = .ok (.aload_n 0, 1) := dk_42 (dk_at dksX5_days_0 15 rfl rfl)
theorem dX5_days_16 : decode cX5_days 16 = .ok (.invokevirtual 118, 3) := dk_182 0 118 (dk_at dksX5_days_0 16 rfl rfl)
theorem dX5_days_19 : decode cX5_days 19 = .ok (.iinc 3 1, 3) := dk_132 3 1 (dk_at dksX5_days_0 19 rfl rfl)
theorem dX5_days_22 : decode cX5_days 22 = .ok (.goto (-12), 3) := dk_167 255 244 (dk_at dksX5_days_1 0 rfl rfl)
theorem dX5_days_25 : decode cX5_days 25 = .ok (.aload_n 0, 1) := dk_42 (dk_at dksX5_days_1 3 rfl rfl)
theorem dX5_days_26 : decode cX5_days 26 = .ok (.getfield 7, 3) := dk_180 0 7 (dk_at dksX5_days_1 4 rfl rfl)
theorem dX5_days_29 : decode cX5_days 29 = .ok (.bipush 8, 2) := dk_16 8 (dk_at dksX5_days_1 7 rfl rfl)
theorem dX5_days_31 : decode cX5_days 31 = .ok (.iaload, 1) := dk_46 (dk_at dksX5_days_1 9 rfl rfl)
theorem dX5_days_32 : decode cX5_days 32 = .ok (.iload_n 2, 1) := dk_28 (dk_at dksX5_days_1 10 rfl rfl)
theorem dX5_days_33 : decode cX5_days 33 = .ok (.isub, 1) := dk_100 (dk_at dksX5_days_1 11 rfl rfl)
theorem dX5_days_34 : decode cX5_days 34 = .ok (.ireturn, 1) := dk_172 (dk_at dksX5_days_1 12 rfl rfl)
abbrev cX5_day : ByteArray := prog_8_method_32_code
def yX5_day : MethodName := ⟨RX5, "day", "()V"⟩
def dkwX5_day_7 : List UInt8 := [96, 79, 177]
abbrev dktX5_day_7 : List UInt8 := dkwX5_day_7 ++ []
def dkwX5_day_6 : List UInt8 := [180, 0, 7, 6, 46, 104, 182, 0, 95, 87, 132, 3, 1, 167, 255, 225, 42, 180, 0, 7, 8, 92, 46, 4]
abbrev dktX5_day_6 : List UInt8 := dkwX5_day_6 ++ dktX5_day_7
def dkwX5_day_5 : List UInt8 := [182, 0, 115, 87, 3, 62, 29, 16, 8, 162, 0, 31, 42, 29, 182, 0, 54, 154, 0, 17, 42, 29, 7, 42]
abbrev dktX5_day_5 : List UInt8 := dkwX5_day_5 ++ dktX5_day_6
def dkwX5_day_4 : List UInt8 := [182, 0, 111, 42, 42, 180, 0, 7, 8, 46, 182, 0, 108, 61, 167, 255, 217, 42, 42, 180, 0, 7, 8, 46]
abbrev dktX5_day_4 : List UInt8 := dkwX5_day_4 ++ dktX5_day_5
def dkwX5_day_3 : List UInt8 := [159, 0, 40, 42, 180, 0, 25, 28, 4, 84, 42, 42, 28, 4, 182, 0, 98, 42, 28, 5, 182, 0, 98]
abbrev dktX5_day_3 : List UInt8 := dkwX5_day_3 ++ dktX5_day_4
def dkwX5_day_2 : List UInt8 := [132, 2, 1, 167, 255, 233, 42, 182, 0, 76, 42, 42, 180, 0, 7, 8, 46, 182, 0, 108, 61, 28, 2]
abbrev dktX5_day_2 : List UInt8 := dkwX5_day_2 ++ dktX5_day_3
def dkwX5_day_1 : List UInt8 := [3, 61, 28, 16, 8, 162, 0, 23, 42, 180, 0, 22, 28, 7, 42, 28, 3, 182, 0, 46, 104, 79]
abbrev dktX5_day_1 : List UInt8 := dkwX5_day_1 ++ dktX5_day_2
def dkwX5_day_0 : List UInt8 := [42, 42, 180, 0, 7, 8, 46, 182, 0, 50, 60, 27, 153, 0, 7, 42, 182, 0, 101, 42, 27, 182, 0, 104]
abbrev dktX5_day_0 : List UInt8 := dkwX5_day_0 ++ dktX5_day_1
theorem dksX5_day_0 : cX5_day.data.toList.drop 0 = dktX5_day_0 := by decide +kernel
theorem dksX5_day_1 : cX5_day.data.toList.drop 24 = dktX5_day_1 := dk_seg dksX5_day_0 24 rfl rfl
theorem dksX5_day_2 : cX5_day.data.toList.drop 46 = dktX5_day_2 := dk_seg dksX5_day_1 22 rfl rfl
theorem dksX5_day_3 : cX5_day.data.toList.drop 69 = dktX5_day_3 := dk_seg dksX5_day_2 23 rfl rfl
theorem dksX5_day_4 : cX5_day.data.toList.drop 92 = dktX5_day_4 := dk_seg dksX5_day_3 23 rfl rfl
theorem dksX5_day_5 : cX5_day.data.toList.drop 116 = dktX5_day_5 := dk_seg dksX5_day_4 24 rfl rfl
theorem dksX5_day_6 : cX5_day.data.toList.drop 140 = dktX5_day_6 := dk_seg dksX5_day_5 24 rfl rfl
theorem dksX5_day_7 : cX5_day.data.toList.drop 164 = dktX5_day_7 := dk_seg dksX5_day_6 24 rfl rfl
theorem dX5_day_0 : decode cX5_day 0 = .ok (.aload_n 0, 1) := dk_42 (dk_at dksX5_day_0 0 rfl rfl)
theorem dX5_day_1 : decode cX5_day 1 = .ok (.aload_n 0, 1) := dk_42 (dk_at dksX5_day_0 1 rfl rfl)
theorem dX5_day_2 : decode cX5_day 2 = .ok (.getfield 7, 3) := dk_180 0 7 (dk_at dksX5_day_0 2 rfl rfl)
theorem dX5_day_5 : decode cX5_day 5 = .ok (.iconst 5, 1) := dk_8 (dk_at dksX5_day_0 5 rfl rfl)
theorem dX5_day_6 : decode cX5_day 6 = .ok (.iaload, 1) := dk_46 (dk_at dksX5_day_0 6 rfl rfl)
theorem dX5_day_7 : decode cX5_day 7 = .ok (.invokevirtual 50, 3) := dk_182 0 50 (dk_at dksX5_day_0 7 rfl rfl)
theorem dX5_day_10 : decode cX5_day 10 = .ok (.istore_n 1, 1) := dk_60 (dk_at dksX5_day_0 10 rfl rfl)
theorem dX5_day_11 : decode cX5_day 11 = .ok (.iload_n 1, 1) := dk_27 (dk_at dksX5_day_0 11 rfl rfl)
theorem dX5_day_12 : decode cX5_day 12 = .ok (.ifCond .eq 7, 3) := dk_153 0 7 (dk_at dksX5_day_0 12 rfl rfl)
theorem dX5_day_15 : decode cX5_day 15 = .ok (.aload_n 0, 1) := dk_42 (dk_at dksX5_day_0 15 rfl rfl)
theorem dX5_day_16 : decode cX5_day 16 = .ok (.invokevirtual 101, 3) := dk_182 0 101 (dk_at dksX5_day_0 16 rfl rfl)
theorem dX5_day_19 : decode cX5_day 19 = .ok (.aload_n 0, 1) := dk_42 (dk_at dksX5_day_0 19 rfl rfl)
theorem dX5_day_20 : decode cX5_day 20 = .ok (.iload_n 1, 1) := dk_27 (dk_at dksX5_day_0 20 rfl rfl)
theorem dX5_day_21 : decode cX5_day 21 = .ok (.invokevirtual 104, 3) := dk_182 0 104 (dk_at dksX5_day_0 21 rfl rfl)
theorem dX5_day_24 : decode cX5_day 24 = .ok (.iconst 0, 1) := dk_3 (dk_at dksX5_day_1 0 rfl rfl)
theorem dX5_day_25 : decode cX5_day 25 = .ok (.istore_n 2, 1) := dk_61 (dk_at dksX5_day_1 1 rfl rfl)
theorem dX5_day_26 : decode cX5_day 26 = .ok (.iload_n 2, 1) := dk_28 (dk_at dksX5_day_1 2 rfl rfl)
theorem dX5_day_27 : decode cX5_day 27 = .ok (.bipush 8, 2) := dk_16 8 (dk_at dksX5_day_1 3 rfl rfl)
theorem dX5_day_29 : decode cX5_day 29 = .ok (.if_icmp .ge 23, 3) := dk_162 0 23 (dk_at dksX5_day_1 5 rfl rfl)
theorem dX5_day_32 : decode cX5_day 32 = .ok (.aload_n 0, 1) := dk_42 (dk_at dksX5_day_1 8 rfl rfl)
theorem dX5_day_33 : decode cX5_day 33 = .ok (.getfield 22, 3) := dk_180 0 22 (dk_at dksX5_day_1 9 rfl rfl)
theorem dX5_day_36 : decode cX5_day 36 = .ok (.iload_n 2, 1) := dk_28 (dk_at dksX5_day_1 12 rfl rfl)
theorem dX5_day_37 : decode cX5_day 37 = .ok (.iconst 4, 1) := dk_7 (dk_at dksX5_day_1 13 rfl rfl)
theorem dX5_day_38 : decode cX5_day 38 = .ok (.aload_n 0, 1) := dk_42 (dk_at dksX5_day_1 14 rfl rfl)
theorem dX5_day_39 : decode cX5_day 39 = .ok (.iload_n 2, 1) := dk_28 (dk_at dksX5_day_1 15 rfl rfl)
theorem dX5_day_40 : decode cX5_day 40 = .ok (.iconst 0, 1) := dk_3 (dk_at dksX5_day_1 16 rfl rfl)
theorem dX5_day_41 : decode cX5_day 41 = .ok (.invokevirtual 46, 3) := dk_182 0 46 (dk_at dksX5_day_1 17 rfl rfl)
theorem dX5_day_44 : decode cX5_day 44 = .ok (.imul, 1) := dk_104 (dk_at dksX5_day_1 20 rfl rfl)
theorem dX5_day_45 : decode cX5_day 45 = .ok (.iastore, 1) := dk_79 (dk_at dksX5_day_1 21 rfl rfl)
theorem dX5_day_46 : decode cX5_day 46 = .ok (.iinc 2 1, 3) := dk_132 2 1 (dk_at dksX5_day_2 0 rfl rfl)
theorem dX5_day_49 : decode cX5_day 49 = .ok (.goto (-23), 3) := dk_167 255 233 (dk_at dksX5_day_2 3 rfl rfl)
theorem dX5_day_52 : decode cX5_day 52 = .ok (.aload_n 0, 1) := dk_42 (dk_at dksX5_day_2 6 rfl rfl)
theorem dX5_day_53 : decode cX5_day 53 = .ok (.invokevirtual 76, 3) := dk_182 0 76 (dk_at dksX5_day_2 7 rfl rfl)
theorem dX5_day_56 : decode cX5_day 56 = .ok (.aload_n 0, 1) := dk_42 (dk_at dksX5_day_2 10 rfl rfl)
theorem dX5_day_57 : decode cX5_day 57 = .ok (.aload_n 0, 1) := dk_42 (dk_at dksX5_day_2 11 rfl rfl)
theorem dX5_day_58 : decode cX5_day 58 = .ok (.getfield 7, 3) := dk_180 0 7 (dk_at dksX5_day_2 12 rfl rfl)
theorem dX5_day_61 : decode cX5_day 61 = .ok (.iconst 5, 1) := dk_8 (dk_at dksX5_day_2 15 rfl rfl)
theorem dX5_day_62 : decode cX5_day 62 = .ok (.iaload, 1) := dk_46 (dk_at dksX5_day_2 16 rfl rfl)
theorem dX5_day_63 : decode cX5_day 63 = .ok (.invokevirtual 108, 3) := dk_182 0 108 (dk_at dksX5_day_2 17 rfl rfl)
theorem dX5_day_66 : decode cX5_day 66 = .ok (.istore_n 2, 1) := dk_61 (dk_at dksX5_day_2 20 rfl rfl)
theorem dX5_day_67 : decode cX5_day 67 = .ok (.iload_n 2, 1) := dk_28 (dk_at dksX5_day_2 21 rfl rfl)
theorem dX5_day_68 : decode cX5_day 68 = .ok (.iconst (-1), 1) := dk_2 (dk_at dksX5_day_2 22 rfl rfl)
theorem dX5_day_69 : decode cX5_day 69 = .ok (.if_icmp .eq 40, 3) := dk_159 0 40 (dk_at dksX5_day_3 0 rfl rfl)
theorem dX5_day_72 : decode cX5_day 72 = .ok (.aload_n 0, 1) := dk_42 (dk_at dksX5_day_3 3 rfl rfl)
theorem dX5_day_73 : decode cX5_day 73 = .ok (.getfield 25, 3) := dk_180 0 25 (dk_at dksX5_day_3 4 rfl rfl)
theorem dX5_day_76 : decode cX5_day 76 = .ok (.iload_n 2, 1) := dk_28 (dk_at dksX5_day_3 7 rfl rfl)
theorem dX5_day_77 : decode cX5_day 77 = .ok (.iconst 1, 1) := dk_4 (dk_at dksX5_day_3 8 rfl rfl)
theorem dX5_day_78 : decode cX5_day 78 = .ok (.bastore, 1) := dk_84 (dk_at dksX5_day_3 9 rfl rfl)
theorem dX5_day_79 : decode cX5_day 79 = .ok (.aload_n 0, 1) := dk_42 (dk_at dksX5_day_3 10 rfl rfl)
theorem dX5_day_80 : decode cX5_day 80 = .ok (.aload_n 0, 1) := dk_42 (dk_at dksX5_day_3 11 rfl rfl)
theorem dX5_day_81 : decode cX5_day 81 = .ok (.iload_n 2, 1) := dk_28 (dk_at dksX5_day_3 12 rfl rfl)
theorem dX5_day_82 : decode cX5_day 82 = .ok (.iconst 1, 1) := dk_4 (dk_at dksX5_day_3 13 rfl rfl)
theorem dX5_day_83 : decode cX5_day 83 = .ok (.invokevirtual 98, 3) := dk_182 0 98 (dk_at dksX5_day_3 14 rfl rfl)
theorem dX5_day_86 : decode cX5_day 86 = .ok (.aload_n 0, 1) := dk_42 (dk_at dksX5_day_3 17 rfl rfl)
theorem dX5_day_87 : decode cX5_day 87 = .ok (.iload_n 2, 1) := dk_28 (dk_at dksX5_day_3 18 rfl rfl)
theorem dX5_day_88 : decode cX5_day 88 = .ok (.iconst 2, 1) := dk_5 (dk_at dksX5_day_3 19 rfl rfl)
theorem dX5_day_89 : decode cX5_day 89 = .ok (.invokevirtual 98, 3) := dk_182 0 98 (dk_at dksX5_day_3 20 rfl rfl)
theorem dX5_day_92 : decode cX5_day 92 = .ok (.invokevirtual 111, 3) := dk_182 0 111 (dk_at dksX5_day_4 0 rfl rfl)
theorem dX5_day_95 : decode cX5_day 95 = .ok (.aload_n 0, 1) := dk_42 (dk_at dksX5_day_4 3 rfl rfl)
theorem dX5_day_96 : decode cX5_day 96 = .ok (.aload_n 0, 1) := dk_42 (dk_at dksX5_day_4 4 rfl rfl)
theorem dX5_day_97 : decode cX5_day 97 = .ok (.getfield 7, 3) := dk_180 0 7 (dk_at dksX5_day_4 5 rfl rfl)
theorem dX5_day_100 : decode cX5_day 100 = .ok (.iconst 5, 1) := dk_8 (dk_at dksX5_day_4 8 rfl rfl)
theorem dX5_day_101 : decode cX5_day 101 = .ok (.iaload, 1) := dk_46 (dk_at dksX5_day_4 9 rfl rfl)
theorem dX5_day_102 : decode cX5_day 102 = .ok (.invokevirtual 108, 3) := dk_182 0 108 (dk_at dksX5_day_4 10 rfl rfl)
theorem dX5_day_105 : decode cX5_day 105 = .ok (.istore_n 2, 1) := dk_61 (dk_at dksX5_day_4 13 rfl rfl)
theorem dX5_day_106 : decode cX5_day 106 = .ok (.goto (-39), 3) := dk_167 255 217 (dk_at dksX5_day_4 14 rfl rfl)
theorem dX5_day_109 : decode cX5_day 109 = .ok (.aload_n 0, 1) := dk_42 (dk_at dksX5_day_4 17 rfl rfl)
theorem dX5_day_110 : decode cX5_day 110 = .ok (.aload_n 0, 1) := dk_42 (dk_at dksX5_day_4 18 rfl rfl)
theorem dX5_day_111 : decode cX5_day 111 = .ok (.getfield 7, 3) := dk_180 0 7 (dk_at dksX5_day_4 19 rfl rfl)
theorem dX5_day_114 : decode cX5_day 114 = .ok (.iconst 5, 1) := dk_8 (dk_at dksX5_day_4 22 rfl rfl)
theorem dX5_day_115 : decode cX5_day 115 = .ok (.iaload, 1) := dk_46 (dk_at dksX5_day_4 23 rfl rfl)
theorem dX5_day_116 : decode cX5_day 116 = .ok (.invokevirtual 115, 3) := dk_182 0 115 (dk_at dksX5_day_5 0 rfl rfl)
theorem dX5_day_119 : decode cX5_day 119 = .ok (.pop, 1) := dk_87 (dk_at dksX5_day_5 3 rfl rfl)
theorem dX5_day_120 : decode cX5_day 120 = .ok (.iconst 0, 1) := dk_3 (dk_at dksX5_day_5 4 rfl rfl)
theorem dX5_day_121 : decode cX5_day 121 = .ok (.istore_n 3, 1) := dk_62 (dk_at dksX5_day_5 5 rfl rfl)
theorem dX5_day_122 : decode cX5_day 122 = .ok (.iload_n 3, 1) := dk_29 (dk_at dksX5_day_5 6 rfl rfl)
theorem dX5_day_123 : decode cX5_day 123 = .ok (.bipush 8, 2) := dk_16 8 (dk_at dksX5_day_5 7 rfl rfl)
theorem dX5_day_125 : decode cX5_day 125 = .ok (.if_icmp .ge 31, 3) := dk_162 0 31 (dk_at dksX5_day_5 9 rfl rfl)
theorem dX5_day_128 : decode cX5_day 128 = .ok (.aload_n 0, 1) := dk_42 (dk_at dksX5_day_5 12 rfl rfl)
theorem dX5_day_129 : decode cX5_day 129 = .ok (.iload_n 3, 1) := dk_29 (dk_at dksX5_day_5 13 rfl rfl)
theorem dX5_day_130 : decode cX5_day 130 = .ok (.invokevirtual 54, 3) := dk_182 0 54 (dk_at dksX5_day_5 14 rfl rfl)
theorem dX5_day_133 : decode cX5_day 133 = .ok (.ifCond .ne 17, 3) := dk_154 0 17 (dk_at dksX5_day_5 17 rfl rfl)
theorem dX5_day_136 : decode cX5_day 136 = .ok (.aload_n 0, 1) := dk_42 (dk_at dksX5_day_5 20 rfl rfl)
theorem dX5_day_137 : decode cX5_day 137 = .ok (.iload_n 3, 1) := dk_29 (dk_at dksX5_day_5 21 rfl rfl)
theorem dX5_day_138 : decode cX5_day 138 = .ok (.iconst 4, 1) := dk_7 (dk_at dksX5_day_5 22 rfl rfl)
theorem dX5_day_139 : decode cX5_day 139 = .ok (.aload_n 0, 1) := dk_42 (dk_at dksX5_day_5 23 rfl rfl)
theorem dX5_day_140 : decode cX5_day 140 = .ok (.getfield 7, 3) := dk_180 0 7 (dk_at dksX5_day_6 0 rfl rfl)
theorem dX5_day_143 : decode cX5_day 143 = .ok (.iconst 3, 1) := dk_6 (dk_at dksX5_day_6 3 rfl rfl)
theorem dX5_day_144 : decode cX5_day 144 = .ok (.iaload, 1) := dk_46 (dk_at dksX5_day_6 4 rfl rfl)
theorem dX5_day_145 : decode cX5_day 145 = .ok (.imul, 1) := dk_104 (dk_at dksX5_day_6 5 rfl rfl)
theorem dX5_day_146 : decode cX5_day 146 = .ok (.invokevirtual 95, 3) := dk_182 0 95 (dk_at dksX5_day_6 6 rfl rfl)
theorem dX5_day_149 : decode cX5_day 149 = .ok (.pop, 1) := dk_87 (dk_at dksX5_day_6 9 rfl rfl)
theorem dX5_day_150 : decode cX5_day 150 = .ok (.iinc 3 1, 3) := dk_132 3 1 (dk_at dksX5_day_6 10 rfl rfl)
theorem dX5_day_153 : decode cX5_day 153 = .ok (.goto (-31), 3) := dk_167 255 225 (dk_at dksX5_day_6 13 rfl rfl)
theorem dX5_day_156 : decode cX5_day 156 = .ok (.aload_n 0, 1) := dk_42 (dk_at dksX5_day_6 16 rfl rfl)
theorem dX5_day_157 : decode cX5_day 157 = .ok (.getfield 7, 3) := dk_180 0 7 (dk_at dksX5_day_6 17 rfl rfl)
theorem dX5_day_160 : decode cX5_day 160 = .ok (.iconst 5, 1) := dk_8 (dk_at dksX5_day_6 20 rfl rfl)
theorem dX5_day_161 : decode cX5_day 161 = .ok (.dup2, 1) := dk_92 (dk_at dksX5_day_6 21 rfl rfl)
theorem dX5_day_162 : decode cX5_day 162 = .ok (.iaload, 1) := dk_46 (dk_at dksX5_day_6 22 rfl rfl)
theorem dX5_day_163 : decode cX5_day 163 = .ok (.iconst 1, 1) := dk_4 (dk_at dksX5_day_6 23 rfl rfl)
theorem dX5_day_164 : decode cX5_day 164 = .ok (.iadd, 1) := dk_96 (dk_at dksX5_day_7 0 rfl rfl)
theorem dX5_day_165 : decode cX5_day 165 = .ok (.iastore, 1) := dk_79 (dk_at dksX5_day_7 1 rfl rfl)
theorem dX5_day_166 : decode cX5_day 166 = .ok (.return_, 1) := dk_177 (dk_at dksX5_day_7 2 rfl rfl)
abbrev cX5_isFrosty : ByteArray := prog_8_method_13_code
def yX5_isFrosty : MethodName := ⟨RX5, "isFrosty", "(I)Z"⟩
def dkwX5_isFrosty_2 : List UInt8 := [184, 0, 39, 153, 0, 7, 4, 167, 0, 4, 3, 61, 132, 3, 1, 167, 255, 199, 28, 172]
abbrev dktX5_isFrosty_2 : List UInt8 := dkwX5_isFrosty_2 ++ []
def dkwX5_isFrosty_1 : List UInt8 := [17, 0, 141, 5, 29, 104, 96, 46, 42, 180, 0, 7, 17, 0, 141, 5, 29, 104, 96, 4, 96, 46]
abbrev dktX5_isFrosty_1 : List UInt8 := dkwX5_isFrosty_1 ++ dktX5_isFrosty_2
def dkwX5_isFrosty_0 : List UInt8 := [3, 61, 3, 62, 29, 42, 180, 0, 7, 16, 6, 46, 162, 0, 52, 28, 154, 0, 36, 27, 42, 180, 0, 7]
abbrev dktX5_isFrosty_0 : List UInt8 := dkwX5_isFrosty_0 ++ dktX5_isFrosty_1
theorem dksX5_isFrosty_0 : cX5_isFrosty.data.toList.drop 0 = dktX5_isFrosty_0 := by decide +kernel
theorem dksX5_isFrosty_1 : cX5_isFrosty.data.toList.drop 24 = dktX5_isFrosty_1 := dk_seg dksX5_isFrosty_0 24 rfl rfl
theorem dksX5_isFrosty_2 : cX5_isFrosty.data.toList.drop 46 = dktX5_isFrosty_2 := dk_seg dksX5_isFrosty_1 22 rfl rfl
theorem dX5_isFrosty_0 : decode cX5_isFrosty 0 = .ok (.iconst 0, 1) := dk_3 (dk_at dksX5_isFrosty_0 0 rfl rfl)
theorem dX5_isFrosty_1 : decode cX5_isFrosty 1 = .ok (.istore_n 2, 1) := dk_61 (dk_at dksX5_isFrosty_0 1 rfl rfl)
theorem dX5_isFrosty_2 : decode cX5_isFrosty 2 = .ok (.iconst 0, 1) := dk_3 (dk_at dksX5_isFrosty_0 2 rfl rfl)
theorem dX5_isFrosty_3 : decode cX5_isFrosty 3 = .ok (.istore_n 3, 1) := dk_62 (dk_at dksX5_isFrosty_0 3 rfl rfl)
theorem dX5_isFrosty_4 : decode cX5_isFrosty 4 = .ok (.iload_n 3, 1) := dk_29 (dk_at dksX5_isFrosty_0 4 rfl rfl)
theorem dX5_isFrosty_5 : decode cX5_isFrosty 5 = .ok (.aload_n 0, 1) := dk_42 (dk_at dksX5_isFrosty_0 5 rfl rfl)
theorem dX5_isFrosty_6 : decode cX5_isFrosty 6 = .ok (.getfield 7, 3) := dk_180 0 7 (dk_at dksX5_isFrosty_0 6 rfl rfl)
theorem dX5_isFrosty_9 : decode cX5_isFrosty 9 = .ok (.bipush 6, 2) := dk_16 6 (dk_at dksX5_isFrosty_0 9 rfl rfl)
theorem dX5_isFrosty_11 : decode cX5_isFrosty 11 = .ok (.iaload, 1) := dk_46 (dk_at dksX5_isFrosty_0 11 rfl rfl)
theorem dX5_isFrosty_12 : decode cX5_isFrosty 12 = .ok (.if_icmp .ge 52, 3) := dk_162 0 52 (dk_at dksX5_isFrosty_0 12 rfl rfl)
theorem dX5_isFrosty_15 : decode cX5_isFrosty 15 = .ok (.iload_n 2, 1) := dk_28 (dk_at dksX5_isFrosty_0 15 rfl rfl)
theorem dX5_isFrosty_16 : decode cX5_isFrosty 16 = .ok (.ifCond .ne 36, 3) := dk_154 0 36 (dk_at dksX5_isFrosty_0 16 rfl rfl)
theorem dX5_isFrosty_19 : decode cX5_isFrosty 19 = .ok (.iload_n 1, 1) := dk_27 (dk_at dksX5_isFrosty_0 19 rfl rfl)
theorem dX5_isFrosty_20 : decode cX5_isFrosty 20 = .ok (.aload_n 0, 1) := dk_42 (dk_at dksX5_isFrosty_0 20 rfl rfl)
theorem dX5_isFrosty_21 : decode cX5_isFrosty 21 = .ok (.getfield 7, 3) := dk_180 0 7 (dk_at dksX5_isFrosty_0 21 rfl rfl)
theorem dX5_isFrosty_24 : decode cX5_isFrosty 24 = .ok (.sipush 141, 3) := dk_17 0 141 (dk_at dksX5_isFrosty_1 0 rfl rfl)
theorem dX5_isFrosty_27 : decode cX5_isFrosty 27 = .ok (.iconst 2, 1) := dk_5 (dk_at dksX5_isFrosty_1 3 rfl rfl)
theorem dX5_isFrosty_28 : decode cX5_isFrosty 28 = .ok (.iload_n 3, 1) := dk_29 (dk_at dksX5_isFrosty_1 4 rfl rfl)
theorem dX5_isFrosty_29 : decode cX5_isFrosty 29 = .ok (.imul, 1) := dk_104 (dk_at dksX5_isFrosty_1 5 rfl rfl)
theorem dX5_isFrosty_30 : decode cX5_isFrosty 30 = .ok (.iadd, 1) := dk_96 (dk_at dksX5_isFrosty_1 6 rfl rfl)
theorem dX5_isFrosty_31 : decode cX5_isFrosty 31 = .ok (.iaload, 1) := dk_46 (dk_at dksX5_isFrosty_1 7 rfl rfl)
theorem dX5_isFrosty_32 : decode cX5_isFrosty 32 = .ok (.aload_n 0, 1) := dk_42 (dk_at dksX5_isFrosty_1 8 rfl rfl)
theorem dX5_isFrosty_33 : decode cX5_isFrosty 33 = .ok (.getfield 7, 3) := dk_180 0 7 (dk_at dksX5_isFrosty_1 9 rfl rfl)
theorem dX5_isFrosty_36 : decode cX5_isFrosty 36 = .ok (.sipush 141, 3) := dk_17 0 141 (dk_at dksX5_isFrosty_1 12 rfl rfl)
theorem dX5_isFrosty_39 : decode cX5_isFrosty 39 = .ok (.iconst 2, 1) := dk_5 (dk_at dksX5_isFrosty_1 15 rfl rfl)
theorem dX5_isFrosty_40 : decode cX5_isFrosty 40 = .ok (.iload_n 3, 1) := dk_29 (dk_at dksX5_isFrosty_1 16 rfl rfl)
theorem dX5_isFrosty_41 : decode cX5_isFrosty 41 = .ok (.imul, 1) := dk_104 (dk_at dksX5_isFrosty_1 17 rfl rfl)
theorem dX5_isFrosty_42 : decode cX5_isFrosty 42 = .ok (.iadd, 1) := dk_96 (dk_at dksX5_isFrosty_1 18 rfl rfl)
theorem dX5_isFrosty_43 : decode cX5_isFrosty 43 = .ok (.iconst 1, 1) := dk_4 (dk_at dksX5_isFrosty_1 19 rfl rfl)
theorem dX5_isFrosty_44 : decode cX5_isFrosty 44 = .ok (.iadd, 1) := dk_96 (dk_at dksX5_isFrosty_1 20 rfl rfl)
theorem dX5_isFrosty_45 : decode cX5_isFrosty 45 = .ok (.iaload, 1) := dk_46 (dk_at dksX5_isFrosty_1 21 rfl rfl)
theorem dX5_isFrosty_46 : decode cX5_isFrosty 46 = .ok (.invokestatic 39, 3) := dk_184 0 39 (dk_at dksX5_isFrosty_2 0 rfl rfl)
theorem dX5_isFrosty_49 : decode cX5_isFrosty 49 = .ok (.ifCond .eq 7, 3) := dk_153 0 7 (dk_at dksX5_isFrosty_2 3 rfl rfl)
theorem dX5_isFrosty_52 : decode cX5_isFrosty 52 = .ok (.iconst 1, 1) := dk_4 (dk_at dksX5_isFrosty_2 6 rfl rfl)
theorem dX5_isFrosty_53 : decode cX5_isFrosty 53 = .ok (.goto 4, 3) := dk_167 0 4 (dk_at dksX5_isFrosty_2 7 rfl rfl)
theorem dX5_isFrosty_56 : decode cX5_isFrosty 56 = .ok (.iconst 0, 1) := dk_3 (dk_at dksX5_isFrosty_2 10 rfl rfl)
theorem dX5_isFrosty_57 : decode cX5_isFrosty 57 = .ok (.istore_n 2, 1) := dk_61 (dk_at dksX5_isFrosty_2 11 rfl rfl)
theorem dX5_isFrosty_58 : decode cX5_isFrosty 58 = .ok (.iinc 3 1, 3) := dk_132 3 1 (dk_at dksX5_isFrosty_2 12 rfl rfl)
theorem dX5_isFrosty_61 : decode cX5_isFrosty 61 = .ok (.goto (-57), 3) := dk_167 255 199 (dk_at dksX5_isFrosty_2 15 rfl rfl)
theorem dX5_isFrosty_64 : decode cX5_isFrosty 64 = .ok (.iload_n 2, 1) := dk_28 (dk_at dksX5_isFrosty_2 18 rfl rfl)
theorem dX5_isFrosty_65 : decode cX5_isFrosty 65 = .ok (.ireturn, 1) := dk_172 (dk_at dksX5_isFrosty_2 19 rfl rfl)
abbrev cX5_freezes : ByteArray := prog_8_method_23_code
def yX5_freezes : MethodName := ⟨RX5, "freezes", "()V"⟩
def dkwX5_freezes_3 : List UInt8 := [182, 0, 69, 132, 1, 1, 167, 255, 183, 177]
abbrev dktX5_freezes_3 : List UInt8 := dkwX5_freezes_3 ++ []
def dkwX5_freezes_2 : List UInt8 := [182, 0, 65, 42, 27, 16, 9, 42, 27, 16, 9, 182, 0, 46, 4, 96, 182, 0, 65, 42, 5, 27, 104]
abbrev dktX5_freezes_2 : List UInt8 := dkwX5_freezes_2 ++ dktX5_freezes_3
def dkwX5_freezes_1 : List UInt8 := [182, 0, 46, 42, 27, 7, 182, 0, 46, 96, 42, 27, 8, 182, 0, 46, 96, 154, 0, 33, 42, 27, 8, 4]
abbrev dktX5_freezes_1 : List UInt8 := dkwX5_freezes_1 ++ dktX5_freezes_2
def dkwX5_freezes_0 : List UInt8 := [3, 60, 27, 16, 8, 162, 0, 73, 42, 27, 16, 6, 182, 0, 46, 4, 160, 0, 56, 42, 27, 6]
abbrev dktX5_freezes_0 : List UInt8 := dkwX5_freezes_0 ++ dktX5_freezes_1
theorem dksX5_freezes_0 : cX5_freezes.data.toList.drop 0 = dktX5_freezes_0 := by decide +kernel
theorem dksX5_freezes_1 : cX5_freezes.data.toList.drop 22 = dktX5_freezes_1 := dk_seg dksX5_freezes_0 22 rfl rfl
theorem dksX5_freezes_2 : cX5_freezes.data.toList.drop 46 = dktX5_freezes_2 := dk_seg dksX5_freezes_1 24 rfl rfl
theorem dksX5_freezes_3 : cX5_freezes.data.toList.drop 69 = dktX5_freezes_3 := dk_seg dksX5_freezes_2 23 rfl rfl
theorem dX5_freezes_0 : decode cX5_freezes 0 = .ok (.iconst 0, 1) := dk_3 (dk_at dksX5_freezes_0 0 rfl rfl)
theorem dX5_freezes_1 : decode cX5_freezes 1 = .ok (.istore_n 1, 1) := dk_60 (dk_at dksX5_freezes_0 1 rfl rfl)
theorem dX5_freezes_2 : decode cX5_freezes 2 = .ok (.iload_n 1, 1) := dk_27 (dk_at dksX5_freezes_0 2 rfl rfl)
theorem dX5_freezes_3 : decode cX5_freezes 3 = .ok (.bipush 8, 2) := dk_16 8 (dk_at dksX5_freezes_0 3 rfl rfl)
theorem dX5_freezes_5 : decode cX5_freezes 5 = .ok (.if_icmp .ge 73, 3) := dk_162 0 73 (dk_at dksX5_freezes_0 5 rfl rfl)
theorem dX5_freezes_8 : decode cX5_freezes 8 = .ok (.aload_n 0, 1) := dk_42 (dk_at dksX5_freezes_0 8 rfl rfl)
theorem dX5_freezes_9 : decode cX5_freezes 9 = .ok (.iload_n 1, 1) := dk_27 (dk_at dksX5_freezes_0 9 rfl rfl)
theorem dX5_freezes_10 : decode cX5_freezes 10 = .ok (.bipush 6, 2) := dk_16 6 (dk_at dksX5_freezes_0 10 rfl rfl)
theorem dX5_freezes_12 : decode cX5_freezes 12 = .ok (.invokevirtual 46, 3) := dk_182 0 46 (dk_at dksX5_freezes_0 12 rfl rfl)
theorem dX5_freezes_15 : decode cX5_freezes 15 = .ok (.iconst 1, 1) := dk_4 (dk_at dksX5_freezes_0 15 rfl rfl)
theorem dX5_freezes_16 : decode cX5_freezes 16 = .ok (.if_icmp .ne 56, 3) := dk_160 0 56 (dk_at dksX5_freezes_0 16 rfl rfl)
theorem dX5_freezes_19 : decode cX5_freezes 19 = .ok (.aload_n 0, 1) := dk_42 (dk_at dksX5_freezes_0 19 rfl rfl)
theorem dX5_freezes_20 : decode cX5_freezes 20 = .ok (.iload_n 1, 1) := dk_27 (dk_at dksX5_freezes_0 20 rfl rfl)
theorem dX5_freezes_21 : decode cX5_freezes 21 = .ok (.iconst 3, 1) := dk_6 (dk_at dksX5_freezes_0 21 rfl rfl)
theorem dX5_freezes_22 : decode cX5_freezes 22 = .ok (.invokevirtual 46, 3) := dk_182 0 46 (dk_at dksX5_freezes_1 0 rfl rfl)
theorem dX5_freezes_25 : decode cX5_freezes 25 = .ok (.aload_n 0, 1) := dk_42 (dk_at dksX5_freezes_1 3 rfl rfl)
theorem dX5_freezes_26 : decode cX5_freezes 26 = .ok (.iload_n 1, 1) := dk_27 (dk_at dksX5_freezes_1 4 rfl rfl)
theorem dX5_freezes_27 : decode cX5_freezes 27 = .ok (.iconst 4, 1) := dk_7 (dk_at dksX5_freezes_1 5 rfl rfl)
theorem dX5_freezes_28 : decode cX5_freezes 28 = .ok (.invokevirtual 46, 3) := dk_182 0 46 (dk_at dksX5_freezes_1 6 rfl rfl)
theorem dX5_freezes_31 : decode cX5_freezes 31 = .ok (.iadd, 1) := dk_96 (dk_at dksX5_freezes_1 9 rfl rfl)
theorem dX5_freezes_32 : decode cX5_freezes 32 = .ok (.aload_n 0, 1) := dk_42 (dk_at dksX5_freezes_1 10 rfl rfl)
theorem dX5_freezes_33 : decode cX5_freezes 33 = .ok (.iload_n 1, 1) := dk_27 (dk_at dksX5_freezes_1 11 rfl rfl)
theorem dX5_freezes_34 : decode cX5_freezes 34 = .ok (.iconst 5, 1) := dk_8 (dk_at dksX5_freezes_1 12 rfl rfl)
theorem dX5_freezes_35 : decode cX5_freezes 35 = .ok (.invokevirtual 46, 3) := dk_182 0 46 (dk_at dksX5_freezes_1 13 rfl rfl)
theorem dX5_freezes_38 : decode cX5_freezes 38 = .ok (.iadd, 1) := dk_96 (dk_at dksX5_freezes_1 16 rfl rfl)
theorem dX5_freezes_39 : decode cX5_freezes 39 = .ok (.ifCond .ne 33, 3) := dk_154 0 33 (dk_at dksX5_freezes_1 17 rfl rfl)
theorem dX5_freezes_42 : decode cX5_freezes 42 = .ok (.aload_n 0, 1) := dk_42 (dk_at dksX5_freezes_1 20 rfl rfl)
theorem dX5_freezes_43 : decode cX5_freezes 43 = .ok (.iload_n 1, 1) := dk_27 (dk_at dksX5_freezes_1 21 rfl rfl)
theorem dX5_freezes_44 : decode cX5_freezes 44 = .ok (.iconst 5, 1) := dk_8 (dk_at dksX5_freezes_1 22 rfl rfl)
theorem dX5_freezes_45 : decode cX5_freezes 45 = .ok (.iconst 1, 1) := dk_4 (dk_at dksX5_freezes_1 23 rfl rfl)
theorem dX5_freezes_46 : decode cX5_freezes 46 = .ok (.invokevirtual 65, 3) := dk_182 0 65 (dk_at dksX5_freezes_2 0 rfl rfl)
theorem dX5_freezes_49 : decode cX5_freezes 49 = .ok (.aload_n 0, 1) := dk_42 (dk_at dksX5_freezes_2 3 rfl rfl)
theorem dX5_freezes_50 : decode cX5_freezes 50 = .ok (.iload_n 1, 1) := dk_27 (dk_at dksX5_freezes_2 4 rfl rfl)
theorem dX5_freezes_51 : decode cX5_freezes 51 = .ok (.bipush 9, 2) := dk_16 9 (dk_at dksX5_freezes_2 5 rfl rfl)
theorem dX5_freezes_53 : decode cX5_freezes 53 = .ok (.aload_n 0, 1) := dk_42 (dk_at dksX5_freezes_2 7 rfl rfl)
theorem dX5_freezes_54 : decode cX5_freezes 54 = .ok (.iload_n 1, 1) := dk_27 (dk_at dksX5_freezes_2 8 rfl rfl)
theorem dX5_freezes_55 : decode cX5_freezes 55 = .ok (.bipush 9, 2) := dk_16 9 (dk_at dksX5_freezes_2 9 rfl rfl)
theorem dX5_freezes_57 : decode cX5_freezes 57 = .ok (.invokevirtual 46, 3) := dk_182 0 46 (dk_at dksX5_freezes_2 11 rfl rfl)
theorem dX5_freezes_60 : decode cX5_freezes 60 = .ok (.iconst 1, 1) := dk_4 (dk_at dksX5_freezes_2 14 rfl rfl)
theorem dX5_freezes_61 : decode cX5_freezes 61 = .ok (.iadd, 1) := dk_96 (dk_at dksX5_freezes_2 15 rfl rfl)
theorem dX5_freezes_62 : decode cX5_freezes 62 = .ok (.invokevirtual 65, 3) := dk_182 0 65 (dk_at dksX5_freezes_2 16 rfl rfl)
theorem dX5_freezes_65 : decode cX5_freezes 65 = .ok (.aload_n 0, 1) := dk_42 (dk_at dksX5_freezes_2 19 rfl rfl)
theorem dX5_freezes_66 : decode cX5_freezes 66 = .ok (.iconst 2, 1) := dk_5 (dk_at dksX5_freezes_2 20 rfl rfl)
theorem dX5_freezes_67 : decode cX5_freezes 67 = .ok (.iload_n 1, 1) := dk_27 (dk_at dksX5_freezes_2 21 rfl rfl)
theorem dX5_freezes_68 : decode cX5_freezes 68 = .ok (.imul, 1) := dk_104 (dk_at dksX5_freezes_2 22 rfl rfl)
theorem dX5_freezes_69 : decode cX5_freezes 69 = .ok (.invokevirtual 69, 3) := dk_182 0 69 (dk_at dksX5_freezes_3 0 rfl rfl)
theorem dX5_freezes_72 : decode cX5_freezes 72 = .ok (.iinc 1 1, 3) := dk_132 1 1 (dk_at dksX5_freezes_3 3 rfl rfl)
theorem dX5_freezes_75 : decode cX5_freezes 75 = .ok (.goto (-73), 3) := dk_167 255 183 (dk_at dksX5_freezes_3 6 rfl rfl)
theorem dX5_freezes_78 : decode cX5_freezes 78 = .ok (.return_, 1) := dk_177 (dk_at dksX5_freezes_3 9 rfl rfl)
abbrev cX5_reports : ByteArray := prog_8_method_16_code
def yX5_reports : MethodName := ⟨RX5, "reports", "(I)V"⟩
def dkwX5_reports_1 : List UInt8 := [4, 96, 42, 180, 0, 7, 8, 46, 79, 42, 180, 0, 7, 16, 93, 6, 27, 104, 96, 5, 96, 3, 79, 177]
abbrev dktX5_reports_1 : List UInt8 := dkwX5_reports_1 ++ []
def dkwX5_reports_0 : List UInt8 := [42, 180, 0, 7, 16, 93, 6, 27, 104, 96, 3, 96, 4, 79, 42, 180, 0, 7, 16, 93, 6, 27, 104, 96]
abbrev dktX5_reports_0 : List UInt8 := dkwX5_reports_0 ++ dktX5_reports_1
theorem dksX5_reports_0 : cX5_reports.data.toList.drop 0 = dktX5_reports_0 := by decide +kernel
theorem dksX5_reports_1 : cX5_reports.data.toList.drop 24 = dktX5_reports_1 := dk_seg dksX5_reports_0 24 rfl rfl
theorem dX5_reports_0 : decode cX5_reports 0 = .ok (.aload_n 0, 1) := dk_42 (dk_at dksX5_reports_0 0 rfl rfl)
theorem dX5_reports_1 : decode cX5_reports 1 = .ok (.getfield 7, 3) := dk_180 0 7 (dk_at dksX5_reports_0 1 rfl rfl)
theorem dX5_reports_4 : decode cX5_reports 4 = .ok (.bipush 93, 2) := dk_16 93 (dk_at dksX5_reports_0 4 rfl rfl)
theorem dX5_reports_6 : decode cX5_reports 6 = .ok (.iconst 3, 1) := dk_6 (dk_at dksX5_reports_0 6 rfl rfl)
theorem dX5_reports_7 : decode cX5_reports 7 = .ok (.iload_n 1, 1) := dk_27 (dk_at dksX5_reports_0 7 rfl rfl)
theorem dX5_reports_8 : decode cX5_reports 8 = .ok (.imul, 1) := dk_104 (dk_at dksX5_reports_0 8 rfl rfl)
theorem dX5_reports_9 : decode cX5_reports 9 = .ok (.iadd, 1) := dk_96 (dk_at dksX5_reports_0 9 rfl rfl)
theorem dX5_reports_10 : decode cX5_reports 10 = .ok (.iconst 0, 1) := dk_3 (dk_at dksX5_reports_0 10 rfl rfl)
theorem dX5_reports_11 : decode cX5_reports 11 = .ok (.iadd, 1) := dk_96 (dk_at dksX5_reports_0 11 rfl rfl)
theorem dX5_reports_12 : decode cX5_reports 12 = .ok (.iconst 1, 1) := dk_4 (dk_at dksX5_reports_0 12 rfl rfl)
theorem dX5_reports_13 : decode cX5_reports 13 = .ok (.iastore, 1) := dk_79 (dk_at dksX5_reports_0 13 rfl rfl)
theorem dX5_reports_14 : decode cX5_reports 14 = .ok (.aload_n 0, 1) := dk_42 (dk_at dksX5_reports_0 14 rfl rfl)
theorem dX5_reports_15 : decode cX5_reports 15 = .ok (.getfield 7, 3) := dk_180 0 7 (dk_at dksX5_reports_0 15 rfl rfl)
theorem dX5_reports_18 : decode cX5_reports 18 = .ok (.bipush 93, 2) := dk_16 93 (dk_at dksX5_reports_0 18 rfl rfl)
theorem dX5_reports_20 : decode cX5_reports 20 = .ok (.iconst 3, 1) := dk_6 (dk_at dksX5_reports_0 20 rfl rfl)
theorem dX5_reports_21 : decode cX5_reports 21 = .ok (.iload_n 1, 1) := dk_27 (dk_at dksX5_reports_0 21 rfl rfl)
theorem dX5_reports_22 : decode cX5_reports 22 = .ok (.imul, 1) := dk_104 (dk_at dksX5_reports_0 22 rfl rfl)
theorem dX5_reports_23 : decode cX5_reports 23 = .ok (.iadd, 1) := dk_96 (dk_at dksX5_reports_0 23 rfl rfl)
theorem dX5_reports_24 : decode cX5_reports 24 = .ok (.iconst 1, 1) := dk_4 (dk_at dksX5_reports_1 0 rfl rfl)
theorem dX5_reports_25 : decode cX5_reports 25 = .ok (.iadd, 1) := dk_96 (dk_at dksX5_reports_1 1 rfl rfl)
theorem dX5_reports_26 : decode cX5_reports 26 = .ok (.aload_n 0, 1) := dk_42 (dk_at dksX5_reports_1 2 rfl rfl)
theorem dX5_reports_27 : decode cX5_reports 27 = .ok (.getfield 7, 3) := dk_180 0 7 (dk_at dksX5_reports_1 3 rfl rfl)
theorem dX5_reports_30 : decode cX5_reports 30 = .ok (.iconst 5, 1) := dk_8 (dk_at dksX5_reports_1 6 rfl rfl)
theorem dX5_reports_31 : decode cX5_reports 31 = .ok (.iaload, 1) := dk_46 (dk_at dksX5_reports_1 7 rfl rfl)
theorem dX5_reports_32 : decode cX5_reports 32 = .ok (.iastore, 1) := dk_79 (dk_at dksX5_reports_1 8 rfl rfl)
theorem dX5_reports_33 : decode cX5_reports 33 = .ok (.aload_n 0, 1) := dk_42 (dk_at dksX5_reports_1 9 rfl rfl)
theorem dX5_reports_34 : decode cX5_reports 34 = .ok (.getfield 7, 3) := dk_180 0 7 (dk_at dksX5_reports_1 10 rfl rfl)
theorem dX5_reports_37 : decode cX5_reports 37 = .ok (.bipush 93, 2) := dk_16 93 (dk_at dksX5_reports_1 13 rfl rfl)
theorem dX5_reports_39 : decode cX5_reports 39 = .ok (.iconst 3, 1) := dk_6 (dk_at dksX5_reports_1 15 rfl rfl)
theorem dX5_reports_40 : decode cX5_reports 40 = .ok (.iload_n 1, 1) := dk_27 (dk_at dksX5_reports_1 16 rfl rfl)
theorem dX5_reports_41 : decode cX5_reports 41 = .ok (.imul, 1) := dk_104 (dk_at dksX5_reports_1 17 rfl rfl)
theorem dX5_reports_42 : decode cX5_reports 42 = .ok (.iadd, 1) := dk_96 (dk_at dksX5_reports_1 18 rfl rfl)
theorem dX5_reports_43 : decode cX5_reports 43 = .ok (.iconst 2, 1) := dk_5 (dk_at dksX5_reports_1 19 rfl rfl)
theorem dX5_reports_44 : decode cX5_reports 44 = .ok (.iadd, 1) := dk_96 (dk_at dksX5_reports_1 20 rfl rfl)
theorem dX5_reports_45 : decode cX5_reports 45 = .ok (.iconst 0, 1) := dk_3 (dk_at dksX5_reports_1 21 rfl rfl)
theorem dX5_reports_46 : decode cX5_reports 46 = .ok (.iastore, 1) := dk_79 (dk_at dksX5_reports_1 22 rfl rfl)
theorem dX5_reports_47 : decode cX5_reports 47 = .ok (.return_, 1) := dk_177 (dk_at dksX5_reports_1 23 rfl rfl)
abbrev cX5_works : ByteArray := prog_8_method_25_code
def yX5_works : MethodName := ⟨RX5, "works", "(Z)V"⟩
def dkwX5_works_5 : List UInt8 := [96, 79, 21, 5, 21, 4, 160, 0, 8, 42, 29, 182, 0, 86, 42, 182, 0, 79, 62, 167, 255, 138, 177]
abbrev dktX5_works_5 : List UInt8 := dkwX5_works_5 ++ []
def dkwX5_works_4 : List UInt8 := [180, 0, 7, 7, 46, 104, 96, 79, 42, 180, 0, 7, 16, 93, 6, 29, 104, 96, 5, 96, 92, 46, 21, 5]
abbrev dktX5_works_4 : List UInt8 := dkwX5_works_4 ++ dktX5_works_5
def dkwX5_works_3 : List UInt8 := [180, 0, 7, 16, 11, 92, 46, 21, 5, 96, 79, 42, 180, 0, 7, 16, 10, 92, 46, 21, 5, 42]
abbrev dktX5_works_3 : List UInt8 := dkwX5_works_3 ++ dktX5_works_4
def dkwX5_works_2 : List UInt8 := [167, 0, 15, 21, 4, 28, 162, 0, 8, 21, 4, 167, 0, 4, 28, 54, 5, 28, 21, 5, 100, 61, 42]
abbrev dktX5_works_2 : List UInt8 := dkwX5_works_2 ++ dktX5_works_3
def dkwX5_works_1 : List UInt8 := [180, 0, 25, 29, 4, 84, 42, 29, 182, 0, 83, 54, 4, 27, 153, 0, 13, 29, 5, 112, 154, 0, 7, 3]
abbrev dktX5_works_1 : List UInt8 := dkwX5_works_1 ++ dktX5_works_2
def dkwX5_works_0 : List UInt8 := [42, 182, 0, 76, 42, 180, 0, 7, 3, 46, 61, 42, 182, 0, 79, 62, 29, 2, 159, 0, 119, 42]
abbrev dktX5_works_0 : List UInt8 := dkwX5_works_0 ++ dktX5_works_1
theorem dksX5_works_0 : cX5_works.data.toList.drop 0 = dktX5_works_0 := by decide +kernel
theorem dksX5_works_1 : cX5_works.data.toList.drop 22 = dktX5_works_1 := dk_seg dksX5_works_0 22 rfl rfl
theorem dksX5_works_2 : cX5_works.data.toList.drop 46 = dktX5_works_2 := dk_seg dksX5_works_1 24 rfl rfl
theorem dksX5_works_3 : cX5_works.data.toList.drop 69 = dktX5_works_3 := dk_seg dksX5_works_2 23 rfl rfl
theorem dksX5_works_4 : cX5_works.data.toList.drop 91 = dktX5_works_4 := dk_seg dksX5_works_3 22 rfl rfl
theorem dksX5_works_5 : cX5_works.data.toList.drop 115 = dktX5_works_5 := dk_seg dksX5_works_4 24 rfl rfl
theorem dX5_works_0 : decode cX5_works 0 = .ok (.aload_n 0, 1) := dk_42 (dk_at dksX5_works_0 0 rfl rfl)
theorem dX5_works_1 : decode cX5_works 1 = .ok (.invokevirtual 76, 3) := dk_182 0 76 (dk_at dksX5_works_0 1 rfl rfl)
theorem dX5_works_4 : decode cX5_works 4 = .ok (.aload_n 0, 1) := dk_42 (dk_at dksX5_works_0 4 rfl rfl)
theorem dX5_works_5 : decode cX5_works 5 = .ok (.getfield 7, 3) := dk_180 0 7 (dk_at dksX5_works_0 5 rfl rfl)
theorem dX5_works_8 : decode cX5_works 8 = .ok (.iconst 0, 1) := dk_3 (dk_at dksX5_works_0 8 rfl rfl)
theorem dX5_works_9 : decode cX5_works 9 = .ok (.iaload, 1) := dk_46 (dk_at dksX5_works_0 9 rfl rfl)
theorem dX5_works_10 : decode cX5_works 10 = .ok (.istore_n 2, 1) := dk_61 (dk_at dksX5_works_0 10 rfl rfl)
theorem dX5_works_11 : decode cX5_works 11 = .ok (.aload_n 0, 1) := dk_42 (dk_at dksX5_works_0 11 rfl rfl)
theorem dX5_works_12 : decode cX5_works 12 = .ok (.invokevirtual 79, 3) := dk_182 0 79 (dk_at dksX5_works_0 12 rfl rfl)
theorem dX5_works_15 : decode cX5_works 15 = .ok (.istore_n 3, 1) := dk_62 (dk_at dksX5_works_0 15 rfl rfl)
theorem dX5_works_16 : decode cX5_works 16 = .ok (.iload_n 3, 1) := dk_29 (dk_at dksX5_works_0 16 rfl rfl)
theorem dX5_works_17 : decode cX5_works 17 = .ok (.iconst (-1), 1) := dk_2 (dk_at dksX5_works_0 17 rfl rfl)
theorem dX5_works_18 : decode cX5_works 18 = .ok (.if_icmp .eq 119, 3) := dk_159 0 119 (dk_at dksX5_works_0 18 rfl rfl)
theorem dX5_works_21 : decode cX5_works 21 = .ok (.aload_n 0, 1) := dk_42 (dk_at dksX5_works_0 21 rfl rfl)
theorem dX5_works_22 : decode cX5_works 22 = .ok (.getfield 25, 3) := dk_180 0 25 (dk_at dksX5_works_1 0 rfl rfl)
theorem dX5_works_25 : decode cX5_works 25 = .ok (.iload_n 3, 1) := dk_29 (dk_at dksX5_works_1 3 rfl rfl)
theorem dX5_works_26 : decode cX5_works 26 = .ok (.iconst 1, 1) := dk_4 (dk_at dksX5_works_1 4 rfl rfl)
theorem dX5_works_27 : decode cX5_works 27 = .ok (.bastore, 1) := dk_84 (dk_at dksX5_works_1 5 rfl rfl)
theorem dX5_works_28 : decode cX5_works 28 = .ok (.aload_n 0, 1) := dk_42 (dk_at dksX5_works_1 6 rfl rfl)
theorem dX5_works_29 : decode cX5_works 29 = .ok (.iload_n 3, 1) := dk_29 (dk_at dksX5_works_1 7 rfl rfl)
theorem dX5_works_30 : decode cX5_works 30 = .ok (.invokevirtual 83, 3) := dk_182 0 83 (dk_at dksX5_works_1 8 rfl rfl)
theorem dX5_works_33 : decode cX5_works 33 = .ok (.istore 4, 2) := dk_54 4 (dk_at dksX5_works_1 11 rfl rfl)
theorem dX5_works_35 : decode cX5_works 35 = .ok (.iload_n 1, 1) := dk_27 (dk_at dksX5_works_1 13 rfl rfl)
theorem dX5_works_36 : decode cX5_works 36 = .ok (.ifCond .eq 13, 3) := dk_153 0 13 (dk_at dksX5_works_1 14 rfl rfl)
theorem dX5_works_39 : decode cX5_works 39 = .ok (.iload_n 3, 1) := dk_29 (dk_at dksX5_works_1 17 rfl rfl)
theorem dX5_works_40 : decode cX5_works 40 = .ok (.iconst 2, 1) := dk_5 (dk_at dksX5_works_1 18 rfl rfl)
theorem dX5_works_41 : decode cX5_works 41 = .ok (.irem, 1) := dk_112 (dk_at dksX5_works_1 19 rfl rfl)
theorem dX5_works_42 : decode cX5_works 42 = .ok (.ifCond .ne 7, 3) := dk_154 0 7 (dk_at dksX5_works_1 20 rfl rfl)
theorem dX5_works_45 : decode cX5_works 45 = .ok (.iconst 0, 1) := dk_3 (dk_at dksX5_works_1 23 rfl rfl)
theorem dX5_works_46 : decode cX5_works 46 = .ok (.goto 15, 3) := dk_167 0 15 (dk_at dksX5_works_2 0 rfl rfl)
theorem dX5_works_49 : decode cX5_works 49 = .ok (.iload 4, 2) := dk_21 4 (dk_at dksX5_works_2 3 rfl rfl)
theorem dX5_works_51 : decode cX5_works 51 = .ok (.iload_n 2, 1) := dk_28 (dk_at dksX5_works_2 5 rfl rfl)
theorem dX5_works_52 : decode cX5_works 52 = .ok (.if_icmp .ge 8, 3) := dk_162 0 8 (dk_at dksX5_works_2 6 rfl rfl)
theorem dX5_works_55 : decode cX5_works 55 = .ok (.iload 4, 2) := dk_21 4 (dk_at dksX5_works_2 9 rfl rfl)
theorem dX5_works_57 : decode cX5_works 57 = .ok (.goto 4, 3) := dk_167 0 4 (dk_at dksX5_works_2 11 rfl rfl)
theorem dX5_works_60 : decode cX5_works 60 = .ok (.iload_n 2, 1) := dk_28 (dk_at dksX5_works_2 14 rfl rfl)
theorem dX5_works_61 : decode cX5_works 61 = .ok (.istore 5, 2) := dk_54 5 (dk_at dksX5_works_2 15 rfl rfl)
theorem dX5_works_63 : decode cX5_works 63 = .ok (.iload_n 2, 1) := dk_28 (dk_at dksX5_works_2 17 rfl rfl)
theorem dX5_works_64 : decode cX5_works 64 = .ok (.iload 5, 2) := dk_21 5 (dk_at dksX5_works_2 18 rfl rfl)
theorem dX5_works_66 : decode cX5_works 66 = .ok (.isub, 1) := dk_100 (dk_at dksX5_works_2 20 rfl rfl)
theorem dX5_works_67 : decode cX5_works 67 = .ok (.istore_n 2, 1) := dk_61 (dk_at dksX5_works_2 21 rfl rfl)
theorem dX5_works_68 : decode cX5_works 68 = .ok (.aload_n 0, 1) := dk_42 (dk_at dksX5_works_2 22 rfl rfl)
theorem dX5_works_69 : decode cX5_works 69 = .ok (.getfield 7, 3) := dk_180 0 7 (dk_at dksX5_works_3 0 rfl rfl)
theorem dX5_works_72 : decode cX5_works 72 = .ok (.bipush 11, 2) := dk_16 11 (dk_at dksX5_works_3 3 rfl rfl)
theorem dX5_works_74 : decode cX5_works 74 = .ok (.dup2, 1) := dk_92 (dk_at dksX5_works_3 5 rfl rfl)
theorem dX5_works_75 : decode cX5_works 75 = .ok (.iaload, 1) := dk_46 (dk_at dksX5_works_3 6 rfl rfl)
theorem dX5_works_76 : decode cX5_works 76 = .ok (.iload 5, 2) := dk_21 5 (dk_at dksX5_works_3 7 rfl rfl)
theorem dX5_works_78 : decode cX5_works 78 = .ok (.iadd, 1) := dk_96 (dk_at dksX5_works_3 9 rfl rfl)
theorem dX5_works_79 : decode cX5_works 79 = .ok (.iastore, 1) := dk_79 (dk_at dksX5_works_3 10 rfl rfl)
theorem dX5_works_80 : decode cX5_works 80 = .ok (.aload_n 0, 1) := dk_42 (dk_at dksX5_works_3 11 rfl rfl)
theorem dX5_works_81 : decode cX5_works 81 = .ok (.getfield 7, 3) := dk_180 0 7 (dk_at dksX5_works_3 12 rfl rfl)
theorem dX5_works_84 : decode cX5_works 84 = .ok (.bipush 10, 2) := dk_16 10 (dk_at dksX5_works_3 15 rfl rfl)
theorem dX5_works_86 : decode cX5_works 86 = .ok (.dup2, 1) := dk_92 (dk_at dksX5_works_3 17 rfl rfl)
theorem dX5_works_87 : decode cX5_works 87 = .ok (.iaload, 1) := dk_46 (dk_at dksX5_works_3 18 rfl rfl)
theorem dX5_works_88 : decode cX5_works 88 = .ok (.iload 5, 2) := dk_21 5 (dk_at dksX5_works_3 19 rfl rfl)
theorem dX5_works_90 : decode cX5_works 90 = .ok (.aload_n 0, 1) := dk_42 (dk_at dksX5_works_3 21 rfl rfl)
theorem dX5_works_91 : decode cX5_works 91 = .ok (.getfield 7, 3) := dk_180 0 7 (dk_at dksX5_works_4 0 rfl rfl)
theorem dX5_works_94 : decode cX5_works 94 = .ok (.iconst 4, 1) := dk_7 (dk_at dksX5_works_4 3 rfl rfl)
theorem dX5_works_95 : decode cX5_works 95 = .ok (.iaload, 1) := dk_46 (dk_at dksX5_works_4 4 rfl rfl)
theorem dX5_works_96 : decode cX5_works 96 = .ok (.imul, 1) := dk_104 (dk_at dksX5_works_4 5 rfl rfl)
theorem dX5_works_97 : decode cX5_works 97 = .ok (.iadd, 1) := dk_96 (dk_at dksX5_works_4 6 rfl rfl)
theorem dX5_works_98 : decode cX5_works 98 = .ok (.iastore, 1) := dk_79 (dk_at dksX5_works_4 7 rfl rfl)
theorem dX5_works_99 : decode cX5_works 99 = .ok (.aload_n 0, 1) := dk_42 (dk_at dksX5_works_4 8 rfl rfl)
theorem dX5_works_100 : decode cX5_works 100 = .ok (.getfield 7, 3) := dk_180 0 7 (dk_at dksX5_works_4 9 rfl rfl)
theorem dX5_works_103 : decode cX5_works 103 = .ok (.bipush 93, 2) := dk_16 93 (dk_at dksX5_works_4 12 rfl rfl)
theorem dX5_works_105 : decode cX5_works 105 = .ok (.iconst 3, 1) := dk_6 (dk_at dksX5_works_4 14 rfl rfl)
theorem dX5_works_106 : decode cX5_works 106 = .ok (.iload_n 3, 1) := dk_29 (dk_at dksX5_works_4 15 rfl rfl)
theorem dX5_works_107 : decode cX5_works 107 = .ok (.imul, 1) := dk_104 (dk_at dksX5_works_4 16 rfl rfl)
theorem dX5_works_108 : decode cX5_works 108 = .ok (.iadd, 1) := dk_96 (dk_at dksX5_works_4 17 rfl rfl)
theorem dX5_works_109 : decode cX5_works 109 = .ok (.iconst 2, 1) := dk_5 (dk_at dksX5_works_4 18 rfl rfl)
theorem dX5_works_110 : decode cX5_works 110 = .ok (.iadd, 1) := dk_96 (dk_at dksX5_works_4 19 rfl rfl)
theorem dX5_works_111 : decode cX5_works 111 = .ok (.dup2, 1) := dk_92 (dk_at dksX5_works_4 20 rfl rfl)
theorem dX5_works_112 : decode cX5_works 112 = .ok (.iaload, 1) := dk_46 (dk_at dksX5_works_4 21 rfl rfl)
theorem dX5_works_113 : decode cX5_works 113 = .ok (.iload 5, 2) := dk_21 5 (dk_at dksX5_works_4 22 rfl rfl)
theorem dX5_works_115 : decode cX5_works 115 = .ok (.iadd, 1) := dk_96 (dk_at dksX5_works_5 0 rfl rfl)
theorem dX5_works_116 : decode cX5_works 116 = .ok (.iastore, 1) := dk_79 (dk_at dksX5_works_5 1 rfl rfl)
theorem dX5_works_117 : decode cX5_works 117 = .ok (.iload 5, 2) := dk_21 5 (dk_at dksX5_works_5 2 rfl rfl)
theorem dX5_works_119 : decode cX5_works 119 = .ok (.iload 4, 2) := dk_21 4 (dk_at dksX5_works_5 4 rfl rfl)
theorem dX5_works_121 : decode cX5_works 121 = .ok (.if_icmp .ne 8, 3) := dk_160 0 8 (dk_at dksX5_works_5 6 rfl rfl)
theorem dX5_works_124 : decode cX5_works 124 = .ok (.aload_n 0, 1) := dk_42 (dk_at dksX5_works_5 9 rfl rfl)
theorem dX5_works_125 : decode cX5_works 125 = .ok (.iload_n 3, 1) := dk_29 (dk_at dksX5_works_5 10 rfl rfl)
theorem dX5_works_126 : decode cX5_works 126 = .ok (.invokevirtual 86, 3) := dk_182 0 86 (dk_at dksX5_works_5 11 rfl rfl)
theorem dX5_works_129 : decode cX5_works 129 = .ok (.aload_n 0, 1) := dk_42 (dk_at dksX5_works_5 14 rfl rfl)
theorem dX5_works_130 : decode cX5_works 130 = .ok (.invokevirtual 79, 3) := dk_182 0 79 (dk_at dksX5_works_5 15 rfl rfl)
theorem dX5_works_133 : decode cX5_works 133 = .ok (.istore_n 3, 1) := dk_62 (dk_at dksX5_works_5 18 rfl rfl)
theorem dX5_works_134 : decode cX5_works 134 = .ok (.goto (-118), 3) := dk_167 255 138 (dk_at dksX5_works_5 19 rfl rfl)
theorem dX5_works_137 : decode cX5_works 137 = .ok (.return_, 1) := dk_177 (dk_at dksX5_works_5 22 rfl rfl)
abbrev cX5_opensRound : ByteArray := prog_8_method_22_code
def yX5_opensRound : MethodName := ⟨RX5, "opensRound", "()V"⟩
def dkwX5_opensRound_0 : List UInt8 := [3, 60, 27, 16, 17, 162, 0, 16, 42, 180, 0, 25, 27, 3, 84, 132, 1, 1, 167, 255, 240, 177]
abbrev dktX5_opensRound_0 : List UInt8 := dkwX5_opensRound_0 ++ []
theorem dksX5_opensRound_0 : cX5_opensRound.data.toList.drop 0 = dktX5_opensRound_0 := by decide +kernel
theorem dX5_opensRound_0 : decode cX5_opensRound 0 = .ok (.iconst 0, 1) := dk_3 (dk_at dksX5_opensRound_0 0 rfl rfl)
theorem dX5_opensRound_1 : decode cX5_opensRound 1 = .ok (.istore_n 1, 1) := dk_60 (dk_at dksX5_opensRound_0 1 rfl rfl)
theorem dX5_opensRound_2 : decode cX5_opensRound 2 = .ok (.iload_n 1, 1) := dk_27 (dk_at dksX5_opensRound_0 2 rfl rfl)
theorem dX5_opensRound_3 : decode cX5_opensRound 3 = .ok (.bipush 17, 2) := dk_16 17 (dk_at dksX5_opensRound_0 3 rfl rfl)
theorem dX5_opensRound_5 : decode cX5_opensRound 5 = .ok (.if_icmp .ge 16, 3) := dk_162 0 16 (dk_at dksX5_opensRound_0 5 rfl rfl)
theorem dX5_opensRound_8 : decode cX5_opensRound 8 = .ok (.aload_n 0, 1) := dk_42 (dk_at dksX5_opensRound_0 8 rfl rfl)
theorem dX5_opensRound_9 : decode cX5_opensRound 9 = .ok (.getfield 25, 3) := dk_180 0 25 (dk_at dksX5_opensRound_0 9 rfl rfl)
theorem dX5_opensRound_12 : decode cX5_opensRound 12 = .ok (.iload_n 1, 1) := dk_27 (dk_at dksX5_opensRound_0 12 rfl rfl)
theorem dX5_opensRound_13 : decode cX5_opensRound 13 = .ok (.iconst 0, 1) := dk_3 (dk_at dksX5_opensRound_0 13 rfl rfl)
theorem dX5_opensRound_14 : decode cX5_opensRound 14 = .ok (.bastore, 1) := dk_84 (dk_at dksX5_opensRound_0 14 rfl rfl)
theorem dX5_opensRound_15 : decode cX5_opensRound 15 = .ok (.iinc 1 1, 3) := dk_132 1 1 (dk_at dksX5_opensRound_0 15 rfl rfl)
theorem dX5_opensRound_18 : decode cX5_opensRound 18 = .ok (.goto (-16), 3) := dk_167 255 240 (dk_at dksX5_opensRound_0 18 rfl rfl)
theorem dX5_opensRound_21 : decode cX5_opensRound 21 = .ok (.return_, 1) := dk_177 (dk_at dksX5_opensRound_0 21 rfl rfl)
abbrev cX5_nextJob : ByteArray := prog_8_method_21_code
def yX5_nextJob : MethodName := ⟨RX5, "nextJob", "()I"⟩
def dkwX5_nextJob_2 : List UInt8 := [60, 132, 2, 1, 167, 255, 208, 27, 172]
abbrev dktX5_nextJob_2 : List UInt8 := dkwX5_nextJob_2 ++ []
def dkwX5_nextJob_1 : List UInt8 := [28, 51, 154, 0, 21, 27, 2, 159, 0, 12, 42, 28, 27, 182, 0, 61, 153, 0, 7, 28, 167, 0, 4, 27]
abbrev dktX5_nextJob_1 : List UInt8 := dkwX5_nextJob_1 ++ dktX5_nextJob_2
def dkwX5_nextJob_0 : List UInt8 := [2, 60, 3, 61, 28, 16, 16, 162, 0, 48, 42, 28, 3, 182, 0, 58, 4, 160, 0, 30, 42, 180, 0, 25]
abbrev dktX5_nextJob_0 : List UInt8 := dkwX5_nextJob_0 ++ dktX5_nextJob_1
theorem dksX5_nextJob_0 : cX5_nextJob.data.toList.drop 0 = dktX5_nextJob_0 := by decide +kernel
theorem dksX5_nextJob_1 : cX5_nextJob.data.toList.drop 24 = dktX5_nextJob_1 := dk_seg dksX5_nextJob_0 24 rfl rfl
theorem dksX5_nextJob_2 : cX5_nextJob.data.toList.drop 48 = dktX5_nextJob_2 := dk_seg dksX5_nextJob_1 24 rfl rfl
theorem dX5_nextJob_0 : decode cX5_nextJob 0 = .ok (.iconst (-1), 1) := dk_2 (dk_at dksX5_nextJob_0 0 rfl rfl)
theorem dX5_nextJob_1 : decode cX5_nextJob 1 = .ok (.istore_n 1, 1) := dk_60 (dk_at dksX5_nextJob_0 1 rfl rfl)
theorem dX5_nextJob_2 : decode cX5_nextJob 2 = .ok (.iconst 0, 1) := dk_3 (dk_at dksX5_nextJob_0 2 rfl rfl)
theorem dX5_nextJob_3 : decode cX5_nextJob 3 = .ok (.istore_n 2, 1) := dk_61 (dk_at dksX5_nextJob_0 3 rfl rfl)
theorem dX5_nextJob_4 : decode cX5_nextJob 4 = .ok (.iload_n 2, 1) := dk_28 (dk_at dksX5_nextJob_0 4 rfl rfl)
theorem dX5_nextJob_5 : decode cX5_nextJob 5 = .ok (.bipush 16, 2) := dk_16 16 (dk_at dksX5_nextJob_0 5 rfl rfl)
theorem dX5_nextJob_7 : decode cX5_nextJob 7 = .ok (.if_icmp .ge 48, 3) := dk_162 0 48 (dk_at dksX5_nextJob_0 7 rfl rfl)
theorem dX5_nextJob_10 : decode cX5_nextJob 10 = .ok (.aload_n 0, 1) := dk_42 (dk_at dksX5_nextJob_0 10 rfl rfl)
theorem dX5_nextJob_11 : decode cX5_nextJob 11 = .ok (.iload_n 2, 1) := dk_28 (dk_at dksX5_nextJob_0 11 rfl rfl)
theorem dX5_nextJob_12 : decode cX5_nextJob 12 = .ok (.iconst 0, 1) := dk_3 (dk_at dksX5_nextJob_0 12 rfl rfl)
theorem dX5_nextJob_13 : decode cX5_nextJob 13 = .ok (.invokevirtual 58, 3) := dk_182 0 58 (dk_at dksX5_nextJob_0 13 rfl rfl)
theorem dX5_nextJob_16 : decode cX5_nextJob 16 = .ok (.iconst 1, 1) := dk_4 (dk_at dksX5_nextJob_0 16 rfl rfl)
theorem dX5_nextJob_17 : decode cX5_nextJob 17 = .ok (.if_icmp .ne 30, 3) := dk_160 0 30 (dk_at dksX5_nextJob_0 17 rfl rfl)
theorem dX5_nextJob_20 : decode cX5_nextJob 20 = .ok (.aload_n 0, 1) := dk_42 (dk_at dksX5_nextJob_0 20 rfl rfl)
theorem dX5_nextJob_21 : decode cX5_nextJob 21 = .ok (.getfield 25, 3) := dk_180 0 25 (dk_at dksX5_nextJob_0 21 rfl rfl)
theorem dX5_nextJob_24 : decode cX5_nextJob 24 = .ok (.iload_n 2, 1) := dk_28 (dk_at dksX5_nextJob_1 0 rfl rfl)
theorem dX5_nextJob_25 : decode cX5_nextJob 25 = .ok (.baload, 1) := dk_51 (dk_at dksX5_nextJob_1 1 rfl rfl)
theorem dX5_nextJob_26 : decode cX5_nextJob 26 = .ok (.ifCond .ne 21, 3) := dk_154 0 21 (dk_at dksX5_nextJob_1 2 rfl rfl)
theorem dX5_nextJob_29 : decode cX5_nextJob 29 = .ok (.iload_n 1, 1) := dk_27 (dk_at dksX5_nextJob_1 5 rfl rfl)
theorem dX5_nextJob_30 : decode cX5_nextJob 30 = .ok (.iconst (-1), 1) := dk_2 (dk_at dksX5_nextJob_1 6 rfl rfl)
theorem dX5_nextJob_31 : decode cX5_nextJob 31 = .ok (.if_icmp .eq 12, 3) := dk_159 0 12 (dk_at dksX5_nextJob_1 7 rfl rfl)
theorem dX5_nextJob_34 : decode cX5_nextJob 34 = .ok (.aload_n 0, 1) := dk_42 (dk_at dksX5_nextJob_1 10 rfl rfl)
theorem dX5_nextJob_35 : decode cX5_nextJob 35 = .ok (.iload_n 2, 1) := dk_28 (dk_at dksX5_nextJob_1 11 rfl rfl)
theorem dX5_nextJob_36 : decode cX5_nextJob 36 = .ok (.iload_n 1, 1) := dk_27 (dk_at dksX5_nextJob_1 12 rfl rfl)
theorem dX5_nextJob_37 : decode cX5_nextJob 37 = .ok (.invokevirtual 61, 3) := dk_182 0 61 (dk_at dksX5_nextJob_1 13 rfl rfl)
theorem dX5_nextJob_40 : decode cX5_nextJob 40 = .ok (.ifCond .eq 7, 3) := dk_153 0 7 (dk_at dksX5_nextJob_1 16 rfl rfl)
theorem dX5_nextJob_43 : decode cX5_nextJob 43 = .ok (.iload_n 2, 1) := dk_28 (dk_at dksX5_nextJob_1 19 rfl rfl)
theorem dX5_nextJob_44 : decode cX5_nextJob 44 = .ok (.goto 4, 3) := dk_167 0 4 (dk_at dksX5_nextJob_1 20 rfl rfl)
theorem dX5_nextJob_47 : decode cX5_nextJob 47 = .ok (.iload_n 1, 1) := dk_27 (dk_at dksX5_nextJob_1 23 rfl rfl)
theorem dX5_nextJob_48 : decode cX5_nextJob 48 = .ok (.istore_n 1, 1) := dk_60 (dk_at dksX5_nextJob_2 0 rfl rfl)
theorem dX5_nextJob_49 : decode cX5_nextJob 49 = .ok (.iinc 2 1, 3) := dk_132 2 1 (dk_at dksX5_nextJob_2 1 rfl rfl)
theorem dX5_nextJob_52 : decode cX5_nextJob 52 = .ok (.goto (-48), 3) := dk_167 255 208 (dk_at dksX5_nextJob_2 4 rfl rfl)
theorem dX5_nextJob_55 : decode cX5_nextJob 55 = .ok (.iload_n 1, 1) := dk_27 (dk_at dksX5_nextJob_2 7 rfl rfl)
theorem dX5_nextJob_56 : decode cX5_nextJob 56 = .ok (.ireturn, 1) := dk_172 (dk_at dksX5_nextJob_2 8 rfl rfl)
abbrev cX5_isAhead : ByteArray := prog_8_method_20_code
def yX5_isAhead : MethodName := ⟨RX5, "isAhead", "(II)Z"⟩
def dkwX5_isAhead_2 : List UInt8 := [182, 0, 58, 100, 62, 29, 157, 0, 12, 29, 154, 0, 12, 27, 28, 162, 0, 7, 4, 167, 0, 4, 3, 172]
abbrev dktX5_isAhead_2 : List UInt8 := dkwX5_isAhead_2 ++ []
def dkwX5_isAhead_1 : List UInt8 := [180, 0, 7, 4, 46, 160, 0, 7, 4, 167, 0, 4, 3, 172, 42, 28, 4, 182, 0, 58, 42, 27, 4]
abbrev dktX5_isAhead_1 : List UInt8 := dkwX5_isAhead_1 ++ dktX5_isAhead_2
def dkwX5_isAhead_0 : List UInt8 := [42, 180, 0, 7, 4, 46, 5, 162, 0, 30, 27, 5, 112, 28, 5, 112, 159, 0, 21, 27, 5, 112, 42]
abbrev dktX5_isAhead_0 : List UInt8 := dkwX5_isAhead_0 ++ dktX5_isAhead_1
theorem dksX5_isAhead_0 : cX5_isAhead.data.toList.drop 0 = dktX5_isAhead_0 := by decide +kernel
theorem dksX5_isAhead_1 : cX5_isAhead.data.toList.drop 23 = dktX5_isAhead_1 := dk_seg dksX5_isAhead_0 23 rfl rfl
theorem dksX5_isAhead_2 : cX5_isAhead.data.toList.drop 46 = dktX5_isAhead_2 := dk_seg dksX5_isAhead_1 23 rfl rfl
theorem dX5_isAhead_0 : decode cX5_isAhead 0 = .ok (.aload_n 0, 1) := dk_42 (dk_at dksX5_isAhead_0 0 rfl rfl)
theorem dX5_isAhead_1 : decode cX5_isAhead 1 = .ok (.getfield 7, 3) := dk_180 0 7 (dk_at dksX5_isAhead_0 1 rfl rfl)
theorem dX5_isAhead_4 : decode cX5_isAhead 4 = .ok (.iconst 1, 1) := dk_4 (dk_at dksX5_isAhead_0 4 rfl rfl)
theorem dX5_isAhead_5 : decode cX5_isAhead 5 = .ok (.iaload, 1) := dk_46 (dk_at dksX5_isAhead_0 5 rfl rfl)
theorem dX5_isAhead_6 : decode cX5_isAhead 6 = .ok (.iconst 2, 1) := dk_5 (dk_at dksX5_isAhead_0 6 rfl rfl)
theorem dX5_isAhead_7 : decode cX5_isAhead 7 = .ok (.if_icmp .ge 30, 3) := dk_162 0 30 (dk_at dksX5_isAhead_0 7 rfl rfl)
theorem dX5_isAhead_10 : decode cX5_isAhead 10 = .ok (.iload_n 1, 1) := dk_27 (dk_at dksX5_isAhead_0 10 rfl rfl)
theorem dX5_isAhead_11 : decode cX5_isAhead 11 = .ok (.iconst 2, 1) := dk_5 (dk_at dksX5_isAhead_0 11 rfl rfl)
theorem dX5_isAhead_12 : decode cX5_isAhead 12 = .ok (.irem, 1) := dk_112 (dk_at dksX5_isAhead_0 12 rfl rfl)
theorem dX5_isAhead_13 : decode cX5_isAhead 13 = .ok (.iload_n 2, 1) := dk_28 (dk_at dksX5_isAhead_0 13 rfl rfl)
theorem dX5_isAhead_14 : decode cX5_isAhead 14 = .ok (.iconst 2, 1) := dk_5 (dk_at dksX5_isAhead_0 14 rfl rfl)
theorem dX5_isAhead_15 : decode cX5_isAhead 15 = .ok (.irem, 1) := dk_112 (dk_at dksX5_isAhead_0 15 rfl rfl)
theorem dX5_isAhead_16 : decode cX5_isAhead 16 = .ok (.if_icmp .eq 21, 3) := dk_159 0 21 (dk_at dksX5_isAhead_0 16 rfl rfl)
theorem dX5_isAhead_19 : decode cX5_isAhead 19 = .ok (.iload_n 1, 1) := dk_27 (dk_at dksX5_isAhead_0 19 rfl rfl)
theorem dX5_isAhead_20 : decode cX5_isAhead 20 = .ok (.iconst 2, 1) := dk_5 (dk_at dksX5_isAhead_0 20 rfl rfl)
theorem dX5_isAhead_21 : decode cX5_isAhead 21 = .ok (.irem, 1) := dk_112 (dk_at dksX5_isAhead_0 21 rfl rfl)
theorem dX5_isAhead_22 : decode cX5_isAhead 22 = .ok (.aload_n 0, 1) := dk_42 (dk_at dksX5_isAhead_0 22 rfl rfl)
theorem dX5_isAhead_23 : decode cX5_isAhead 23 = .ok (.getfield 7, 3) := dk_180 0 7 (dk_at dksX5_isAhead_1 0 rfl rfl)
theorem dX5_isAhead_26 : decode cX5_isAhead 26 = .ok (.iconst 1, 1) := dk_4 (dk_at dksX5_isAhead_1 3 rfl rfl)
theorem dX5_isAhead_27 : decode cX5_isAhead 27 = .ok (.iaload, 1) := dk_46 (dk_at dksX5_isAhead_1 4 rfl rfl)
theorem dX5_isAhead_28 : decode cX5_isAhead 28 = .ok (.if_icmp .ne 7, 3) := dk_160 0 7 (dk_at dksX5_isAhead_1 5 rfl rfl)
theorem dX5_isAhead_31 : decode cX5_isAhead 31 = .ok (.iconst 1, 1) := dk_4 (dk_at dksX5_isAhead_1 8 rfl rfl)
theorem dX5_isAhead_32 : decode cX5_isAhead 32 = .ok (.goto 4, 3) := dk_167 0 4 (dk_at dksX5_isAhead_1 9 rfl rfl)
theorem dX5_isAhead_35 : decode cX5_isAhead 35 = .ok (.iconst 0, 1) := dk_3 (dk_at dksX5_isAhead_1 12 rfl rfl)
theorem dX5_isAhead_36 : decode cX5_isAhead 36 = .ok (.ireturn, 1) := dk_172 (dk_at dksX5_isAhead_1 13 rfl rfl)
theorem dX5_isAhead_37 : decode cX5_isAhead 37 = .ok (.aload_n 0, 1) := dk_42 (dk_at dksX5_isAhead_1 14 rfl rfl)
theorem dX5_isAhead_38 : decode cX5_isAhead 38 = .ok (.iload_n 2, 1) := dk_28 (dk_at dksX5_isAhead_1 15 rfl rfl)
theorem dX5_isAhead_39 : decode cX5_isAhead 39 = .ok (.iconst 1, 1) := dk_4 (dk_at dksX5_isAhead_1 16 rfl rfl)
theorem dX5_isAhead_40 : decode cX5_isAhead 40 = .ok (.invokevirtual 58, 3) := dk_182 0 58 (dk_at dksX5_isAhead_1 17 rfl rfl)
theorem dX5_isAhead_43 : decode cX5_isAhead 43 = .ok (.aload_n 0, 1) := dk_42 (dk_at dksX5_isAhead_1 20 rfl rfl)
theorem dX5_isAhead_44 : decode cX5_isAhead 44 = .ok (.iload_n 1, 1) := dk_27 (dk_at dksX5_isAhead_1 21 rfl rfl)
theorem dX5_isAhead_45 : decode cX5_isAhead 45 = .ok (.iconst 1, 1) := dk_4 (dk_at dksX5_isAhead_1 22 rfl rfl)
theorem dX5_isAhead_46 : decode cX5_isAhead 46 = .ok (.invokevirtual 58, 3) := dk_182 0 58 (dk_at dksX5_isAhead_2 0 rfl rfl)
theorem dX5_isAhead_49 : decode cX5_isAhead 49 = .ok (.isub, 1) := dk_100 (dk_at dksX5_isAhead_2 3 rfl rfl)
theorem dX5_isAhead_50 : decode cX5_isAhead 50 = .ok (.istore_n 3, 1) := dk_62 (dk_at dksX5_isAhead_2 4 rfl rfl)
theorem dX5_isAhead_51 : decode cX5_isAhead 51 = .ok (.iload_n 3, 1) := dk_29 (dk_at dksX5_isAhead_2 5 rfl rfl)
theorem dX5_isAhead_52 : decode cX5_isAhead 52 = .ok (.ifCond .gt 12, 3) := dk_157 0 12 (dk_at dksX5_isAhead_2 6 rfl rfl)
theorem dX5_isAhead_55 : decode cX5_isAhead 55 = .ok (.iload_n 3, 1) := dk_29 (dk_at dksX5_isAhead_2 9 rfl rfl)
theorem dX5_isAhead_56 : decode cX5_isAhead 56 = .ok (.ifCond .ne 12, 3) := dk_154 0 12 (dk_at dksX5_isAhead_2 10 rfl rfl)
theorem dX5_isAhead_59 : decode cX5_isAhead 59 = .ok (.iload_n 1, 1) := dk_27 (dk_at dksX5_isAhead_2 13 rfl rfl)
theorem dX5_isAhead_60 : decode cX5_isAhead 60 = .ok (.iload_n 2, 1) := dk_28 (dk_at dksX5_isAhead_2 14 rfl rfl)
theorem dX5_isAhead_61 : decode cX5_isAhead 61 = .ok (.if_icmp .ge 7, 3) := dk_162 0 7 (dk_at dksX5_isAhead_2 15 rfl rfl)
theorem dX5_isAhead_64 : decode cX5_isAhead 64 = .ok (.iconst 1, 1) := dk_4 (dk_at dksX5_isAhead_2 18 rfl rfl)
theorem dX5_isAhead_65 : decode cX5_isAhead 65 = .ok (.goto 4, 3) := dk_167 0 4 (dk_at dksX5_isAhead_2 19 rfl rfl)
theorem dX5_isAhead_68 : decode cX5_isAhead 68 = .ok (.iconst 0, 1) := dk_3 (dk_at dksX5_isAhead_2 22 rfl rfl)
theorem dX5_isAhead_69 : decode cX5_isAhead 69 = .ok (.ireturn, 1) := dk_172 (dk_at dksX5_isAhead_2 23 rfl rfl)
abbrev cX5_needs : ByteArray := prog_8_method_18_code
def yX5_needs : MethodName := ⟨RX5, "needs", "(I)I"⟩
def dkwX5_needs_0 : List UInt8 := [27, 5, 112, 154, 0, 8, 16, 6, 167, 0, 4, 5, 42, 27, 5, 182, 0, 58, 100, 172]
abbrev dktX5_needs_0 : List UInt8 := dkwX5_needs_0 ++ []
theorem dksX5_needs_0 : cX5_needs.data.toList.drop 0 = dktX5_needs_0 := by decide +kernel
theorem dX5_needs_0 : decode cX5_needs 0 = .ok (.iload_n 1, 1) := dk_27 (dk_at dksX5_needs_0 0 rfl rfl)
theorem dX5_needs_1 : decode cX5_needs 1 = .ok (.iconst 2, 1) := dk_5 (dk_at dksX5_needs_0 1 rfl rfl)
theorem dX5_needs_2 : decode cX5_needs 2 = .ok (.irem, 1) := dk_112 (dk_at dksX5_needs_0 2 rfl rfl)
theorem dX5_needs_3 : decode cX5_needs 3 = .ok (.ifCond .ne 8, 3) := dk_154 0 8 (dk_at dksX5_needs_0 3 rfl rfl)
theorem dX5_needs_6 : decode cX5_needs 6 = .ok (.bipush 6, 2) := dk_16 6 (dk_at dksX5_needs_0 6 rfl rfl)
theorem dX5_needs_8 : decode cX5_needs 8 = .ok (.goto 4, 3) := dk_167 0 4 (dk_at dksX5_needs_0 8 rfl rfl)
theorem dX5_needs_11 : decode cX5_needs 11 = .ok (.iconst 2, 1) := dk_5 (dk_at dksX5_needs_0 11 rfl rfl)
theorem dX5_needs_12 : decode cX5_needs 12 = .ok (.aload_n 0, 1) := dk_42 (dk_at dksX5_needs_0 12 rfl rfl)
theorem dX5_needs_13 : decode cX5_needs 13 = .ok (.iload_n 1, 1) := dk_27 (dk_at dksX5_needs_0 13 rfl rfl)
theorem dX5_needs_14 : decode cX5_needs 14 = .ok (.iconst 2, 1) := dk_5 (dk_at dksX5_needs_0 14 rfl rfl)
theorem dX5_needs_15 : decode cX5_needs 15 = .ok (.invokevirtual 58, 3) := dk_182 0 58 (dk_at dksX5_needs_0 15 rfl rfl)
theorem dX5_needs_18 : decode cX5_needs 18 = .ok (.isub, 1) := dk_100 (dk_at dksX5_needs_0 18 rfl rfl)
theorem dX5_needs_19 : decode cX5_needs 19 = .ok (.ireturn, 1) := dk_172 (dk_at dksX5_needs_0 19 rfl rfl)
abbrev cX5_finishes : ByteArray := prog_8_method_24_code
def yX5_finishes : MethodName := ⟨RX5, "finishes", "(I)V"⟩
def dkwX5_finishes_2 : List UInt8 := [177]
abbrev dktX5_finishes_2 : List UInt8 := dkwX5_finishes_2 ++ []
def dkwX5_finishes_1 : List UInt8 := [182, 0, 65, 42, 28, 16, 8, 42, 28, 16, 8, 182, 0, 46, 4, 96, 182, 0, 65, 42, 27, 182, 0, 73]
abbrev dktX5_finishes_1 : List UInt8 := dkwX5_finishes_1 ++ dktX5_finishes_2
def dkwX5_finishes_0 : List UInt8 := [27, 5, 108, 61, 27, 5, 112, 154, 0, 13, 42, 28, 8, 3, 182, 0, 65, 167, 0, 26, 42, 28, 5, 3]
abbrev dktX5_finishes_0 : List UInt8 := dkwX5_finishes_0 ++ dktX5_finishes_1
theorem dksX5_finishes_0 : cX5_finishes.data.toList.drop 0 = dktX5_finishes_0 := by decide +kernel
theorem dksX5_finishes_1 : cX5_finishes.data.toList.drop 24 = dktX5_finishes_1 := dk_seg dksX5_finishes_0 24 rfl rfl
theorem dksX5_finishes_2 : cX5_finishes.data.toList.drop 48 = dktX5_finishes_2 := dk_seg dksX5_finishes_1 24 rfl rfl
theorem dX5_finishes_0 : decode cX5_finishes 0 = .ok (.iload_n 1, 1) := dk_27 (dk_at dksX5_finishes_0 0 rfl rfl)
theorem dX5_finishes_1 : decode cX5_finishes 1 = .ok (.iconst 2, 1) := dk_5 (dk_at dksX5_finishes_0 1 rfl rfl)
theorem dX5_finishes_2 : decode cX5_finishes 2 = .ok (.idiv, 1) := dk_108 (dk_at dksX5_finishes_0 2 rfl rfl)
theorem dX5_finishes_3 : decode cX5_finishes 3 = .ok (.istore_n 2, 1) := dk_61 (dk_at dksX5_finishes_0 3 rfl rfl)
theorem dX5_finishes_4 : decode cX5_finishes 4 = .ok (.iload_n 1, 1) := dk_27 (dk_at dksX5_finishes_0 4 rfl rfl)
theorem dX5_finishes_5 : decode cX5_finishes 5 = .ok (.iconst 2, 1) := dk_5 (dk_at dksX5_finishes_0 5 rfl rfl)
theorem dX5_finishes_6 : decode cX5_finishes 6 = .ok (.irem, 1) := dk_112 (dk_at dksX5_finishes_0 6 rfl rfl)
theorem dX5_finishes_7 : decode cX5_finishes 7 = .ok (.ifCond .ne 13, 3) := dk_154 0 13 (dk_at dksX5_finishes_0 7 rfl rfl)
theorem dX5_finishes_10 : decode cX5_finishes 10 = .ok (.aload_n 0, 1) := dk_42 (dk_at dksX5_finishes_0 10 rfl rfl)
theorem dX5_finishes_11 : decode cX5_finishes 11 = .ok (.iload_n 2, 1) := dk_28 (dk_at dksX5_finishes_0 11 rfl rfl)
theorem dX5_finishes_12 : decode cX5_finishes 12 = .ok (.iconst 5, 1) := dk_8 (dk_at dksX5_finishes_0 12 rfl rfl)
theorem dX5_finishes_13 : decode cX5_finishes 13 = .ok (.iconst 0, 1) := dk_3 (dk_at dksX5_finishes_0 13 rfl rfl)
theorem dX5_finishes_14 : decode cX5_finishes 14 = .ok (.invokevirtual 65, 3) := dk_182 0 65 (dk_at dksX5_finishes_0 14 rfl rfl)
theorem dX5_finishes_17 : decode cX5_finishes 17 = .ok (.goto 26, 3) := dk_167 0 26 (dk_at dksX5_finishes_0 17 rfl rfl)
theorem dX5_finishes_20 : decode cX5_finishes 20 = .ok (.aload_n 0, 1) := dk_42 (dk_at dksX5_finishes_0 20 rfl rfl)
theorem dX5_finishes_21 : decode cX5_finishes 21 = .ok (.iload_n 2, 1) := dk_28 (dk_at dksX5_finishes_0 21 rfl rfl)
theorem dX5_finishes_22 : decode cX5_finishes 22 = .ok (.iconst 2, 1) := dk_5 (dk_at dksX5_finishes_0 22 rfl rfl)
theorem dX5_finishes_23 : decode cX5_finishes 23 = .ok (.iconst 0, 1) := dk_3 (dk_at dksX5_finishes_0 23 rfl rfl)
theorem dX5_finishes_24 : decode cX5_finishes 24 = .ok (.invokevirtual 65, 3) := dk_182 0 65 (dk_at dksX5_finishes_1 0 rfl rfl)
theorem dX5_finishes_27 : decode cX5_finishes 27 = .ok (.aload_n 0, 1) := dk_42 (dk_at dksX5_finishes_1 3 rfl rfl)
theorem dX5_finishes_28 : decode cX5_finishes 28 = .ok (.iload_n 2, 1) := dk_28 (dk_at dksX5_finishes_1 4 rfl rfl)
theorem dX5_finishes_29 : decode cX5_finishes 29 = .ok (.bipush 8, 2) := dk_16 8 (dk_at dksX5_finishes_1 5 rfl rfl)
theorem dX5_finishes_31 : decode cX5_finishes 31 = .ok (.aload_n 0, 1) := dk_42 (dk_at dksX5_finishes_1 7 rfl rfl)
theorem dX5_finishes_32 : decode cX5_finishes 32 = .ok (.iload_n 2, 1) := dk_28 (dk_at dksX5_finishes_1 8 rfl rfl)
theorem dX5_finishes_33 : decode cX5_finishes 33 = .ok (.bipush 8, 2) := dk_16 8 (dk_at dksX5_finishes_1 9 rfl rfl)
theorem dX5_finishes_35 : decode cX5_finishes 35 = .ok (.invokevirtual 46, 3) := dk_182 0 46 (dk_at dksX5_finishes_1 11 rfl rfl)
theorem dX5_finishes_38 : decode cX5_finishes 38 = .ok (.iconst 1, 1) := dk_4 (dk_at dksX5_finishes_1 14 rfl rfl)
theorem dX5_finishes_39 : decode cX5_finishes 39 = .ok (.iadd, 1) := dk_96 (dk_at dksX5_finishes_1 15 rfl rfl)
theorem dX5_finishes_40 : decode cX5_finishes 40 = .ok (.invokevirtual 65, 3) := dk_182 0 65 (dk_at dksX5_finishes_1 16 rfl rfl)
theorem dX5_finishes_43 : decode cX5_finishes 43 = .ok (.aload_n 0, 1) := dk_42 (dk_at dksX5_finishes_1 19 rfl rfl)
theorem dX5_finishes_44 : decode cX5_finishes 44 = .ok (.iload_n 1, 1) := dk_27 (dk_at dksX5_finishes_1 20 rfl rfl)
theorem dX5_finishes_45 : decode cX5_finishes 45 = .ok (.invokevirtual 73, 3) := dk_182 0 73 (dk_at dksX5_finishes_1 21 rfl rfl)
theorem dX5_finishes_48 : decode cX5_finishes 48 = .ok (.return_, 1) := dk_177 (dk_at dksX5_finishes_2 0 rfl rfl)
abbrev cX5_nextOuting : ByteArray := prog_8_method_30_code
def yX5_nextOuting : MethodName := ⟨RX5, "nextOuting", "(I)I"⟩
def dkwX5_nextOuting_3 : List UInt8 := [28, 61, 132, 3, 1, 167, 255, 185, 28, 172]
abbrev dktX5_nextOuting_3 : List UInt8 := dkwX5_nextOuting_3 ++ []
def dkwX5_nextOuting_2 : List UInt8 := [28, 2, 159, 0, 18, 42, 29, 4, 182, 0, 98, 42, 28, 4, 182, 0, 98, 164, 0, 7, 29, 167, 0, 4]
abbrev dktX5_nextOuting_2 : List UInt8 := dkwX5_nextOuting_2 ++ dktX5_nextOuting_3
def dkwX5_nextOuting_1 : List UInt8 := [160, 0, 16, 42, 180, 0, 25, 29, 51, 154, 0, 7, 4, 167, 0, 4, 3, 54, 4, 21, 4, 153, 0, 27]
abbrev dktX5_nextOuting_1 : List UInt8 := dkwX5_nextOuting_1 ++ dktX5_nextOuting_2
def dkwX5_nextOuting_0 : List UInt8 := [2, 61, 3, 62, 29, 42, 180, 0, 7, 16, 7, 46, 162, 0, 66, 42, 29, 3, 182, 0, 98, 27]
abbrev dktX5_nextOuting_0 : List UInt8 := dkwX5_nextOuting_0 ++ dktX5_nextOuting_1
theorem dksX5_nextOuting_0 : cX5_nextOuting.data.toList.drop 0 = dktX5_nextOuting_0 := by decide +kernel
theorem dksX5_nextOuting_1 : cX5_nextOuting.data.toList.drop 22 = dktX5_nextOuting_1 := dk_seg dksX5_nextOuting_0 22 rfl rfl
theorem dksX5_nextOuting_2 : cX5_nextOuting.data.toList.drop 46 = dktX5_nextOuting_2 := dk_seg dksX5_nextOuting_1 24 rfl rfl
theorem dksX5_nextOuting_3 : cX5_nextOuting.data.toList.drop 70 = dktX5_nextOuting_3 := dk_seg dksX5_nextOuting_2 24 rfl rfl
theorem dX5_nextOuting_0 : decode cX5_nextOuting 0 = .ok (.iconst (-1), 1) := dk_2 (dk_at dksX5_nextOuting_0 0 rfl rfl)
theorem dX5_nextOuting_1 : decode cX5_nextOuting 1 = .ok (.istore_n 2, 1) := dk_61 (dk_at dksX5_nextOuting_0 1 rfl rfl)
theorem dX5_nextOuting_2 : decode cX5_nextOuting 2 = .ok (.iconst 0, 1) := dk_3 (dk_at dksX5_nextOuting_0 2 rfl rfl)
theorem dX5_nextOuting_3 : decode cX5_nextOuting 3 = .ok (.istore_n 3, 1) := dk_62 (dk_at dksX5_nextOuting_0 3 rfl rfl)
theorem dX5_nextOuting_4 : decode cX5_nextOuting 4 = .ok (.iload_n 3, 1) := dk_29 (dk_at dksX5_nextOuting_0 4 rfl rfl)
theorem dX5_nextOuting_5 : decode cX5_nextOuting 5 = .ok (.aload_n 0, 1) := dk_42 (dk_at dksX5_nextOuting_0 5 rfl rfl)
theorem dX5_nextOuting_6 : decode cX5_nextOuting 6 = .ok (.getfield 7, 3) := dk_180 0 7 (dk_at dksX5_nextOuting_0 6 rfl rfl)
theorem dX5_nextOuting_9 : decode cX5_nextOuting 9 = .ok (.bipush 7, 2) := dk_16 7 (dk_at dksX5_nextOuting_0 9 rfl rfl)
theorem dX5_nextOuting_11 : decode cX5_nextOuting 11 = .ok (.iaload, 1) := dk_46 (dk_at dksX5_nextOuting_0 11 rfl rfl)
theorem dX5_nextOuting_12 : decode cX5_nextOuting 12 = .ok (.if_icmp .ge 66, 3) := dk_162 0 66 (dk_at dksX5_nextOuting_0 12 rfl rfl)
theorem dX5_nextOuting_15 : decode cX5_nextOuting 15 = .ok (.aload_n 0, 1) := dk_42 (dk_at dksX5_nextOuting_0 15 rfl rfl)
theorem dX5_nextOuting_16 : decode cX5_nextOuting 16 = .ok (.iload_n 3, 1) := dk_29 (dk_at dksX5_nextOuting_0 16 rfl rfl)
theorem dX5_nextOuting_17 : decode cX5_nextOuting 17 = .ok (.iconst 0, 1) := dk_3 (dk_at dksX5_nextOuting_0 17 rfl rfl)
theorem dX5_nextOuting_18 : decode cX5_nextOuting 18 = .ok (.invokevirtual 98, 3) := dk_182 0 98 (dk_at dksX5_nextOuting_0 18 rfl rfl)
theorem dX5_nextOuting_21 : decode cX5_nextOuting 21 = .ok (.iload_n 1, 1) := dk_27 (dk_at dksX5_nextOuting_0 21 rfl rfl)
theorem dX5_nextOuting_22 : decode cX5_nextOuting 22 = .ok (.if_icmp .ne 16, 3) := dk_160 0 16 (dk_at dksX5_nextOuting_1 0 rfl rfl)
theorem dX5_nextOuting_25 : decode cX5_nextOuting 25 = .ok (.aload_n 0, 1) := dk_42 (dk_at dksX5_nextOuting_1 3 rfl rfl)
theorem dX5_nextOuting_26 : decode cX5_nextOuting 26 = .ok (.getfield 25, 3) := dk_180 0 25 (dk_at dksX5_nextOuting_1 4 rfl rfl)
theorem dX5_nextOuting_29 : decode cX5_nextOuting 29 = .ok (.iload_n 3, 1) := dk_29 (dk_at dksX5_nextOuting_1 7 rfl rfl)
theorem dX5_nextOuting_30 : decode cX5_nextOuting 30 = .ok (.baload, 1) := dk_51 (dk_at dksX5_nextOuting_1 8 rfl rfl)
theorem dX5_nextOuting_31 : decode cX5_nextOuting 31 = .ok (.ifCond .ne 7, 3) := dk_154 0 7 (dk_at dksX5_nextOuting_1 9 rfl rfl)
theorem dX5_nextOuting_34 : decode cX5_nextOuting 34 = .ok (.iconst 1, 1) := dk_4 (dk_at dksX5_nextOuting_1 12 rfl rfl)
theorem dX5_nextOuting_35 : decode cX5_nextOuting 35 = .ok (.goto 4, 3) := dk_167 0 4 (dk_at dksX5_nextOuting_1 13 rfl rfl)
theorem dX5_nextOuting_38 : decode cX5_nextOuting 38 = .ok (.iconst 0, 1) := dk_3 (dk_at dksX5_nextOuting_1 16 rfl rfl)
theorem dX5_nextOuting_39 : decode cX5_nextOuting 39 = .ok (.istore 4, 2) := dk_54 4 (dk_at dksX5_nextOuting_1 17 rfl rfl)
theorem dX5_nextOuting_41 : decode cX5_nextOuting 41 = .ok (.iload 4, 2) := dk_21 4 (dk_at dksX5_nextOuting_1 19 rfl rfl)
theorem dX5_nextOuting_43 : decode cX5_nextOuting 43 = .ok (.ifCond .eq 27, 3) := dk_153 0 27 (dk_at dksX5_nextOuting_1 21 rfl rfl)
theorem dX5_nextOuting_46 : decode cX5_nextOuting 46 = .ok (.iload_n 2, 1) := dk_28 (dk_at dksX5_nextOuting_2 0 rfl rfl)
theorem dX5_nextOuting_47 : decode cX5_nextOuting 47 = .ok (.iconst (-1), 1) := dk_2 (dk_at dksX5_nextOuting_2 1 rfl rfl)
theorem dX5_nextOuting_48 : decode cX5_nextOuting 48 = .ok (.if_icmp .eq 18, 3) := dk_159 0 18 (dk_at dksX5_nextOuting_2 2 rfl rfl)
theorem dX5_nextOuting_51 : decode cX5_nextOuting 51 = .ok (.aload_n 0, 1) := dk_42 (dk_at dksX5_nextOuting_2 5 rfl rfl)
theorem dX5_nextOuting_52 : decode cX5_nextOuting 52 = .ok (.iload_n 3, 1) := dk_29 (dk_at dksX5_nextOuting_2 6 rfl rfl)
theorem dX5_nextOuting_53 : decode cX5_nextOuting 53 = .ok (.iconst 1, 1) := dk_4 (dk_at dksX5_nextOuting_2 7 rfl rfl)
theorem dX5_nextOuting_54 : decode cX5_nextOuting 54 = .ok (.invokevirtual 98, 3) := dk_182 0 98 (dk_at dksX5_nextOuting_2 8 rfl rfl)
theorem dX5_nextOuting_57 : decode cX5_nextOuting 57 = .ok (.aload_n 0, 1) := dk_42 (dk_at dksX5_nextOuting_2 11 rfl rfl)
theorem dX5_nextOuting_58 : decode cX5_nextOuting 58 = .ok (.iload_n 2, 1) := dk_28 (dk_at dksX5_nextOuting_2 12 rfl rfl)
theorem dX5_nextOuting_59 : decode cX5_nextOuting 59 = .ok (.iconst 1, 1) := dk_4 (dk_at dksX5_nextOuting_2 13 rfl rfl)
theorem dX5_nextOuting_60 : decode cX5_nextOuting 60 = .ok (.invokevirtual 98, 3) := dk_182 0 98 (dk_at dksX5_nextOuting_2 14 rfl rfl)
theorem dX5_nextOuting_63 : decode cX5_nextOuting 63 = .ok (.if_icmp .le 7, 3) := dk_164 0 7 (dk_at dksX5_nextOuting_2 17 rfl rfl)
theorem dX5_nextOuting_66 : decode cX5_nextOuting 66 = .ok (.iload_n 3, 1) := dk_29 (dk_at dksX5_nextOuting_2 20 rfl rfl)
theorem dX5_nextOuting_67 : decode cX5_nextOuting 67 = .ok (.goto 4, 3) := dk_167 0 4 (dk_at dksX5_nextOuting_2 21 rfl rfl)
theorem dX5_nextOuting_70 : decode cX5_nextOuting 70 = .ok (.iload_n 2, 1) := dk_28 (dk_at dksX5_nextOuting_3 0 rfl rfl)
theorem dX5_nextOuting_71 : decode cX5_nextOuting 71 = .ok (.istore_n 2, 1) := dk_61 (dk_at dksX5_nextOuting_3 1 rfl rfl)
theorem dX5_nextOuting_72 : decode cX5_nextOuting 72 = .ok (.iinc 3 1, 3) := dk_132 3 1 (dk_at dksX5_nextOuting_3 2 rfl rfl)
theorem dX5_nextOuting_75 : decode cX5_nextOuting 75 = .ok (.goto (-71), 3) := dk_167 255 185 (dk_at dksX5_nextOuting_3 5 rfl rfl)
theorem dX5_nextOuting_78 : decode cX5_nextOuting 78 = .ok (.iload_n 2, 1) := dk_28 (dk_at dksX5_nextOuting_3 8 rfl rfl)
theorem dX5_nextOuting_79 : decode cX5_nextOuting 79 = .ok (.ireturn, 1) := dk_172 (dk_at dksX5_nextOuting_3 9 rfl rfl)
abbrev cX5_drinks : ByteArray := prog_8_method_29_code
def yX5_drinks : MethodName := ⟨RX5, "drinks", "(II)V"⟩
def dkwX5_drinks_5 : List UInt8 := [42, 180, 0, 7, 5, 46, 108, 96, 79, 42, 180, 0, 7, 16, 9, 92, 46, 27, 96, 79, 177]
abbrev dktX5_drinks_5 : List UInt8 := dkwX5_drinks_5 ++ []
def dkwX5_drinks_4 : List UInt8 := [132, 4, 1, 167, 255, 198, 42, 180, 0, 7, 16, 8, 92, 46, 29, 42, 180, 0, 7, 5, 46, 96, 4, 100]
abbrev dktX5_drinks_4 : List UInt8 := dkwX5_drinks_4 ++ dktX5_drinks_5
def dkwX5_drinks_3 : List UInt8 := [21, 5, 28, 184, 0, 89, 6, 162, 0, 13, 42, 21, 5, 29, 182, 0, 95, 167, 0, 4, 3, 100, 62]
abbrev dktX5_drinks_3 : List UInt8 := dkwX5_drinks_3 ++ dktX5_drinks_4
def dkwX5_drinks_2 : List UInt8 := [182, 0, 92, 54, 5, 42, 180, 0, 29, 21, 5, 4, 84, 29, 42, 21, 5, 182, 0, 54, 154, 0, 23]
abbrev dktX5_drinks_2 : List UInt8 := dkwX5_drinks_2 ++ dktX5_drinks_3
def dkwX5_drinks_1 : List UInt8 := [21, 4, 3, 84, 132, 4, 1, 167, 255, 238, 3, 54, 4, 21, 4, 16, 8, 162, 0, 57, 42, 28]
abbrev dktX5_drinks_1 : List UInt8 := dkwX5_drinks_1 ++ dktX5_drinks_2
def dkwX5_drinks_0 : List UInt8 := [27, 42, 180, 0, 7, 5, 46, 104, 62, 3, 54, 4, 21, 4, 16, 8, 162, 0, 17, 42, 180, 0, 29]
abbrev dktX5_drinks_0 : List UInt8 := dkwX5_drinks_0 ++ dktX5_drinks_1
theorem dksX5_drinks_0 : cX5_drinks.data.toList.drop 0 = dktX5_drinks_0 := by decide +kernel
theorem dksX5_drinks_1 : cX5_drinks.data.toList.drop 23 = dktX5_drinks_1 := dk_seg dksX5_drinks_0 23 rfl rfl
theorem dksX5_drinks_2 : cX5_drinks.data.toList.drop 45 = dktX5_drinks_2 := dk_seg dksX5_drinks_1 22 rfl rfl
theorem dksX5_drinks_3 : cX5_drinks.data.toList.drop 68 = dktX5_drinks_3 := dk_seg dksX5_drinks_2 23 rfl rfl
theorem dksX5_drinks_4 : cX5_drinks.data.toList.drop 91 = dktX5_drinks_4 := dk_seg dksX5_drinks_3 23 rfl rfl
theorem dksX5_drinks_5 : cX5_drinks.data.toList.drop 115 = dktX5_drinks_5 := dk_seg dksX5_drinks_4 24 rfl rfl
theorem dX5_drinks_0 : decode cX5_drinks 0 = .ok (.iload_n 1, 1) := dk_27 (dk_at dksX5_drinks_0 0 rfl rfl)
theorem dX5_drinks_1 : decode cX5_drinks 1 = .ok (.aload_n 0, 1) := dk_42 (dk_at dksX5_drinks_0 1 rfl rfl)
theorem dX5_drinks_2 : decode cX5_drinks 2 = .ok (.getfield 7, 3) := dk_180 0 7 (dk_at dksX5_drinks_0 2 rfl rfl)
theorem dX5_drinks_5 : decode cX5_drinks 5 = .ok (.iconst 2, 1) := dk_5 (dk_at dksX5_drinks_0 5 rfl rfl)
theorem dX5_drinks_6 : decode cX5_drinks 6 = .ok (.iaload, 1) := dk_46 (dk_at dksX5_drinks_0 6 rfl rfl)
theorem dX5_drinks_7 : decode cX5_drinks 7 = .ok (.imul, 1) := dk_104 (dk_at dksX5_drinks_0 7 rfl rfl)
theorem dX5_drinks_8 : decode cX5_drinks 8 = .ok (.istore_n 3, 1) := dk_62 (dk_at dksX5_drinks_0 8 rfl rfl)
theorem dX5_drinks_9 : decode cX5_drinks 9 = .ok (.iconst 0, 1) := dk_3 (dk_at dksX5_drinks_0 9 rfl rfl)
theorem dX5_drinks_10 : decode cX5_drinks 10 = .ok (.istore 4, 2) := dk_54 4 (dk_at dksX5_drinks_0 10 rfl rfl)
theorem dX5_drinks_12 : decode cX5_drinks 12 = .ok (.iload 4, 2) := dk_21 4 (dk_at dksX5_drinks_0 12 rfl rfl)
theorem dX5_drinks_14 : decode cX5_drinks 14 = .ok (.bipush 8, 2) := dk_16 8 (dk_at dksX5_drinks_0 14 rfl rfl)
theorem dX5_drinks_16 : decode cX5_drinks 16 = .ok (.if_icmp .ge 17, 3) := dk_162 0 17 (dk_at dksX5_drinks_0 16 rfl rfl)
theorem dX5_drinks_19 : decode cX5_drinks 19 = .ok (.aload_n 0, 1) := dk_42 (dk_at dksX5_drinks_0 19 rfl rfl)
theorem dX5_drinks_20 : decode cX5_drinks 20 = .ok (.getfield 29, 3) := dk_180 0 29 (dk_at dksX5_drinks_0 20 rfl rfl)
theorem dX5_drinks_23 : decode cX5_drinks 23 = .ok (.iload 4, 2) := dk_21 4 (dk_at dksX5_drinks_1 0 rfl rfl)
theorem dX5_drinks_25 : decode cX5_drinks 25 = .ok (.iconst 0, 1) := dk_3 (dk_at dksX5_drinks_1 2 rfl rfl)
theorem dX5_drinks_26 : decode cX5_drinks 26 = .ok (.bastore, 1) := dk_84 (dk_at dksX5_drinks_1 3 rfl rfl)
theorem dX5_drinks_27 : decode cX5_drinks 27 = .ok (.iinc 4 1, 3) := dk_132 4 1 (dk_at dksX5_drinks_1 4 rfl rfl)
theorem dX5_drinks_30 : decode cX5_drinks 30 = .ok (.goto (-18), 3) := dk_167 255 238 (dk_at dksX5_drinks_1 7 rfl rfl)
theorem dX5_drinks_33 : decode cX5_drinks 33 = .ok (.iconst 0, 1) := dk_3 (dk_at dksX5_drinks_1 10 rfl rfl)
theorem dX5_drinks_34 : decode cX5_drinks 34 = .ok (.istore 4, 2) := dk_54 4 (dk_at dksX5_drinks_1 11 rfl rfl)
theorem dX5_drinks_36 : decode cX5_drinks 36 = .ok (.iload 4, 2) := dk_21 4 (dk_at dksX5_drinks_1 13 rfl rfl)
theorem dX5_drinks_38 : decode cX5_drinks 38 = .ok (.bipush 8, 2) := dk_16 8 (dk_at dksX5_drinks_1 15 rfl rfl)
theorem dX5_drinks_40 : decode cX5_drinks 40 = .ok (.if_icmp .ge 57, 3) := dk_162 0 57 (dk_at dksX5_drinks_1 17 rfl rfl)
theorem dX5_drinks_43 : decode cX5_drinks 43 = .ok (.aload_n 0, 1) := dk_42 (dk_at dksX5_drinks_1 20 rfl rfl)
theorem dX5_drinks_44 : decode cX5_drinks 44 = .ok (.iload_n 2, 1) := dk_28 (dk_at dksX5_drinks_1 21 rfl rfl)
theorem dX5_drinks_45 : decode cX5_drinks 45 = .ok (.invokevirtual 92, 3) := dk_182 0 92 (dk_at dksX5_drinks_2 0 rfl rfl)
theorem dX5_drinks_48 : decode cX5_drinks 48 = .ok (.istore 5, 2) := dk_54 5 (dk_at dksX5_drinks_2 3 rfl rfl)
theorem dX5_drinks_50 : decode cX5_drinks 50 = .ok (.aload_n 0, 1) := dk_42 (dk_at dksX5_drinks_2 5 rfl rfl)
theorem dX5_drinks_51 : decode cX5_drinks 51 = .ok (.getfield 29, 3) := dk_180 0 29 (dk_at dksX5_drinks_2 6 rfl rfl)
theorem dX5_drinks_54 : decode cX5_drinks 54 = .ok (.iload 5, 2) := dk_21 5 (dk_at dksX5_drinks_2 9 rfl rfl)
theorem dX5_drinks_56 : decode cX5_drinks 56 = .ok (.iconst 1, 1) := dk_4 (dk_at dksX5_drinks_2 11 rfl rfl)
theorem dX5_drinks_57 : decode cX5_drinks 57 = .ok (.bastore, 1) := dk_84 (dk_at dksX5_drinks_2 12 rfl rfl)
theorem dX5_drinks_58 : decode cX5_drinks 58 = .ok (.iload_n 3, 1) := dk_29 (dk_at dksX5_drinks_2 13 rfl rfl)
theorem dX5_drinks_59 : decode cX5_drinks 59 = .ok (.aload_n 0, 1) := dk_42 (dk_at dksX5_drinks_2 14 rfl rfl)
theorem dX5_drinks_60 : decode cX5_drinks 60 = .ok (.iload 5, 2) := dk_21 5 (dk_at dksX5_drinks_2 15 rfl rfl)
theorem dX5_drinks_62 : decode cX5_drinks 62 = .ok (.invokevirtual 54, 3) := dk_182 0 54 (dk_at dksX5_drinks_2 17 rfl rfl)
theorem dX5_drinks_65 : decode cX5_drinks 65 = .ok (.ifCond .ne 23, 3) := dk_154 0 23 (dk_at dksX5_drinks_2 20 rfl rfl)
theorem dX5_drinks_68 : decode cX5_drinks 68 = .ok (.iload 5, 2) := dk_21 5 (dk_at dksX5_drinks_3 0 rfl rfl)
theorem dX5_drinks_70 : decode cX5_drinks 70 = .ok (.iload_n 2, 1) := dk_28 (dk_at dksX5_drinks_3 2 rfl rfl)
theorem dX5_drinks_71 : decode cX5_drinks 71 = .ok (.invokestatic 89, 3) := dk_184 0 89 (dk_at dksX5_drinks_3 3 rfl rfl)
theorem dX5_drinks_74 : decode cX5_drinks 74 = .ok (.iconst 3, 1) := dk_6 (dk_at dksX5_drinks_3 6 rfl rfl)
theorem dX5_drinks_75 : decode cX5_drinks 75 = .ok (.if_icmp .ge 13, 3) := dk_162 0 13 (dk_at dksX5_drinks_3 7 rfl rfl)
theorem dX5_drinks_78 : decode cX5_drinks 78 = .ok (.aload_n 0, 1) := dk_42 (dk_at dksX5_drinks_3 10 rfl rfl)
theorem dX5_drinks_79 : decode cX5_drinks 79 = .ok (.iload 5, 2) := dk_21 5 (dk_at dksX5_drinks_3 11 rfl rfl)
theorem dX5_drinks_81 : decode cX5_drinks 81 = .ok (.iload_n 3, 1) := dk_29 (dk_at dksX5_drinks_3 13 rfl rfl)
theorem dX5_drinks_82 : decode cX5_drinks 82 = .ok (.invokevirtual 95, 3) := dk_182 0 95 (dk_at dksX5_drinks_3 14 rfl rfl)
theorem dX5_drinks_85 : decode cX5_drinks 85 = .ok (.goto 4, 3) := dk_167 0 4 (dk_at dksX5_drinks_3 17 rfl rfl)
theorem dX5_drinks_88 : decode cX5_drinks 88 = .ok (.iconst 0, 1) := dk_3 (dk_at dksX5_drinks_3 20 rfl rfl)
theorem dX5_drinks_89 : decode cX5_drinks 89 = .ok (.isub, 1) := dk_100 (dk_at dksX5_drinks_3 21 rfl rfl)
theorem dX5_drinks_90 : decode cX5_drinks 90 = .ok (.istore_n 3, 1) := dk_62 (dk_at dksX5_drinks_3 22 rfl rfl)
theorem dX5_drinks_91 : decode cX5_drinks 91 = .ok (.iinc 4 1, 3) := dk_132 4 1 (dk_at dksX5_drinks_4 0 rfl rfl)
theorem dX5_drinks_94 : decode cX5_drinks 94 = .ok (.goto (-58), 3) := dk_167 255 198 (dk_at dksX5_drinks_4 3 rfl rfl)
theorem dX5_drinks_97 : decode cX5_drinks 97 = .ok (.aload_n 0, 1) := dk_42 (dk_at dksX5_drinks_4 6 rfl rfl)
theorem dX5_drinks_98 : decode cX5_drinks 98 = .ok (.getfield 7, 3) := dk_180 0 7 (dk_at dksX5_drinks_4 7 rfl rfl)
theorem dX5_drinks_101 : decode cX5_drinks 101 = .ok (.bipush 8, 2) := dk_16 8 (dk_at dksX5_drinks_4 10 rfl rfl)
theorem dX5_drinks_103 : decode cX5_drinks 103 = .ok (.dup2, 1) := dk_92 (dk_at dksX5_drinks_4 12 rfl rfl)
theorem dX5_drinks_104 : decode cX5_drinks 104 = .ok (.iaload, 1) := dk_46 (dk_at dksX5_drinks_4 13 rfl rfl)
theorem dX5_drinks_105 : decode cX5_drinks 105 = .ok (.iload_n 3, 1) := dk_29 (dk_at dksX5_drinks_4 14 rfl rfl)
theorem dX5_drinks_106 : decode cX5_drinks 106 = .ok (.aload_n 0, 1) := dk_42 (dk_at dksX5_drinks_4 15 rfl rfl)
theorem dX5_drinks_107 : decode cX5_drinks 107 = .ok (.getfield 7, 3) := dk_180 0 7 (dk_at dksX5_drinks_4 16 rfl rfl)
theorem dX5_drinks_110 : decode cX5_drinks 110 = .ok (.iconst 2, 1) := dk_5 (dk_at dksX5_drinks_4 19 rfl rfl)
theorem dX5_drinks_111 : decode cX5_drinks 111 = .ok (.iaload, 1) := dk_46 (dk_at dksX5_drinks_4 20 rfl rfl)
theorem dX5_drinks_112 : decode cX5_drinks 112 = .ok (.iadd, 1) := dk_96 (dk_at dksX5_drinks_4 21 rfl rfl)
theorem dX5_drinks_113 : decode cX5_drinks 113 = .ok (.iconst 1, 1) := dk_4 (dk_at dksX5_drinks_4 22 rfl rfl)
theorem dX5_drinks_114 : decode cX5_drinks 114 = .ok (.isub, 1) := dk_100 (dk_at dksX5_drinks_4 23 rfl rfl)
theorem dX5_drinks_115 : decode cX5_drinks 115 = .ok (.aload_n 0, 1) := dk_42 (dk_at dksX5_drinks_5 0 rfl rfl)
theorem dX5_drinks_116 : decode cX5_drinks 116 = .ok (.getfield 7, 3) := dk_180 0 7 (dk_at dksX5_drinks_5 1 rfl rfl)
theorem dX5_drinks_119 : decode cX5_drinks 119 = .ok (.iconst 2, 1) := dk_5 (dk_at dksX5_drinks_5 4 rfl rfl)
theorem dX5_drinks_120 : decode cX5_drinks 120 = .ok (.iaload, 1) := dk_46 (dk_at dksX5_drinks_5 5 rfl rfl)
theorem dX5_drinks_121 : decode cX5_drinks 121 = .ok (.idiv, 1) := dk_108 (dk_at dksX5_drinks_5 6 rfl rfl)
theorem dX5_drinks_122 : decode cX5_drinks 122 = .ok (.iadd, 1) := dk_96 (dk_at dksX5_drinks_5 7 rfl rfl)
theorem dX5_drinks_123 : decode cX5_drinks 123 = .ok (.iastore, 1) := dk_79 (dk_at dksX5_drinks_5 8 rfl rfl)
theorem dX5_drinks_124 : decode cX5_drinks 124 = .ok (.aload_n 0, 1) := dk_42 (dk_at dksX5_drinks_5 9 rfl rfl)
theorem dX5_drinks_125 : decode cX5_drinks 125 = .ok (.getfield 7, 3) := dk_180 0 7 (dk_at dksX5_drinks_5 10 rfl rfl)
theorem dX5_drinks_128 : decode cX5_drinks 128 = .ok (.bipush 9, 2) := dk_16 9 (dk_at dksX5_drinks_5 13 rfl rfl)
theorem dX5_drinks_130 : decode cX5_drinks 130 = .ok (.dup2, 1) := dk_92 (dk_at dksX5_drinks_5 15 rfl rfl)
theorem dX5_drinks_131 : decode cX5_drinks 131 = .ok (.iaload, 1) := dk_46 (dk_at dksX5_drinks_5 16 rfl rfl)
theorem dX5_drinks_132 : decode cX5_drinks 132 = .ok (.iload_n 1, 1) := dk_27 (dk_at dksX5_drinks_5 17 rfl rfl)
theorem dX5_drinks_133 : decode cX5_drinks 133 = .ok (.iadd, 1) := dk_96 (dk_at dksX5_drinks_5 18 rfl rfl)
theorem dX5_drinks_134 : decode cX5_drinks 134 = .ok (.iastore, 1) := dk_79 (dk_at dksX5_drinks_5 19 rfl rfl)
theorem dX5_drinks_135 : decode cX5_drinks 135 = .ok (.return_, 1) := dk_177 (dk_at dksX5_drinks_5 20 rfl rfl)
abbrev cX5_nearest : ByteArray := prog_8_method_28_code
def yX5_nearest : MethodName := ⟨RX5, "nearest", "(I)I"⟩
def dkwX5_nearest_2 : List UInt8 := [167, 255, 214, 28, 172]
abbrev dktX5_nearest_2 : List UInt8 := dkwX5_nearest_2 ++ []
def dkwX5_nearest_1 : List UInt8 := [29, 27, 184, 0, 89, 28, 27, 184, 0, 89, 162, 0, 7, 29, 167, 0, 4, 28, 61, 132, 3, 1]
abbrev dktX5_nearest_1 : List UInt8 := dkwX5_nearest_1 ++ dktX5_nearest_2
def dkwX5_nearest_0 : List UInt8 := [2, 61, 3, 62, 29, 16, 8, 162, 0, 42, 42, 180, 0, 29, 29, 51, 154, 0, 25, 28, 2, 159, 0, 16]
abbrev dktX5_nearest_0 : List UInt8 := dkwX5_nearest_0 ++ dktX5_nearest_1
theorem dksX5_nearest_0 : cX5_nearest.data.toList.drop 0 = dktX5_nearest_0 := by decide +kernel
theorem dksX5_nearest_1 : cX5_nearest.data.toList.drop 24 = dktX5_nearest_1 := dk_seg dksX5_nearest_0 24 rfl rfl
theorem dksX5_nearest_2 : cX5_nearest.data.toList.drop 46 = dktX5_nearest_2 := dk_seg dksX5_nearest_1 22 rfl rfl
theorem dX5_nearest_0 : decode cX5_nearest 0 = .ok (.iconst (-1), 1) := dk_2 (dk_at dksX5_nearest_0 0 rfl rfl)
theorem dX5_nearest_1 : decode cX5_nearest 1 = .ok (.istore_n 2, 1) := dk_61 (dk_at dksX5_nearest_0 1 rfl rfl)
theorem dX5_nearest_2 : decode cX5_nearest 2 = .ok (.iconst 0, 1) := dk_3 (dk_at dksX5_nearest_0 2 rfl rfl)
theorem dX5_nearest_3 : decode cX5_nearest 3 = .ok (.istore_n 3, 1) := dk_62 (dk_at dksX5_nearest_0 3 rfl rfl)
theorem dX5_nearest_4 : decode cX5_nearest 4 = .ok (.iload_n 3, 1) := dk_29 (dk_at dksX5_nearest_0 4 rfl rfl)
theorem dX5_nearest_5 : decode cX5_nearest 5 = .ok (.bipush 8, 2) := dk_16 8 (dk_at dksX5_nearest_0 5 rfl rfl)
theorem dX5_nearest_7 : decode cX5_nearest 7 = .ok (.if_icmp .ge 42, 3) := dk_162 0 42 (dk_at dksX5_nearest_0 7 rfl rfl)
theorem dX5_nearest_10 : decode cX5_nearest 10 = .ok (.aload_n 0, 1) := dk_42 (dk_at dksX5_nearest_0 10 rfl rfl)
theorem dX5_nearest_11 : decode cX5_nearest 11 = .ok (.getfield 29, 3) := dk_180 0 29 (dk_at dksX5_nearest_0 11 rfl rfl)
theorem dX5_nearest_14 : decode cX5_nearest 14 = .ok (.iload_n 3, 1) := dk_29 (dk_at dksX5_nearest_0 14 rfl rfl)
theorem dX5_nearest_15 : decode cX5_nearest 15 = .ok (.baload, 1) := dk_51 (dk_at dksX5_nearest_0 15 rfl rfl)
theorem dX5_nearest_16 : decode cX5_nearest 16 = .ok (.ifCond .ne 25, 3) := dk_154 0 25 (dk_at dksX5_nearest_0 16 rfl rfl)
theorem dX5_nearest_19 : decode cX5_nearest 19 = .ok (.iload_n 2, 1) := dk_28 (dk_at dksX5_nearest_0 19 rfl rfl)
theorem dX5_nearest_20 : decode cX5_nearest 20 = .ok (.iconst (-1), 1) := dk_2 (dk_at dksX5_nearest_0 20 rfl rfl)
theorem dX5_nearest_21 : decode cX5_nearest 21 = .ok (.if_icmp .eq 16, 3) := dk_159 0 16 (dk_at dksX5_nearest_0 21 rfl rfl)
theorem dX5_nearest_24 : decode cX5_nearest 24 = .ok (.iload_n 3, 1) := dk_29 (dk_at dksX5_nearest_1 0 rfl rfl)
theorem dX5_nearest_25 : decode cX5_nearest 25 = .ok (.iload_n 1, 1) := dk_27 (dk_at dksX5_nearest_1 1 rfl rfl)
theorem dX5_nearest_26 : decode cX5_nearest 26 = .ok (.invokestatic 89, 3) := dk_184 0 89 (dk_at dksX5_nearest_1 2 rfl rfl)
theorem dX5_nearest_29 : decode cX5_nearest 29 = .ok (.iload_n 2, 1) := dk_28 (dk_at dksX5_nearest_1 5 rfl rfl)
theorem dX5_nearest_30 : decode cX5_nearest 30 = .ok (.iload_n 1, 1) := dk_27 (dk_at dksX5_nearest_1 6 rfl rfl)
theorem dX5_nearest_31 : decode cX5_nearest 31 = .ok (.invokestatic 89, 3) := dk_184 0 89 (dk_at dksX5_nearest_1 7 rfl rfl)
theorem dX5_nearest_34 : decode cX5_nearest 34 = .ok (.if_icmp .ge 7, 3) := dk_162 0 7 (dk_at dksX5_nearest_1 10 rfl rfl)
theorem dX5_nearest_37 : decode cX5_nearest 37 = .ok (.iload_n 3, 1) := dk_29 (dk_at dksX5_nearest_1 13 rfl rfl)
theorem dX5_nearest_38 : decode cX5_nearest 38 = .ok (.goto 4, 3) := dk_167 0 4 (dk_at dksX5_nearest_1 14 rfl rfl)
theorem dX5_nearest_41 : decode cX5_nearest 41 = .ok (.iload_n 2, 1) := dk_28 (dk_at dksX5_nearest_1 17 rfl rfl)
theorem dX5_nearest_42 : decode cX5_nearest 42 = .ok (.istore_n 2, 1) := dk_61 (dk_at dksX5_nearest_1 18 rfl rfl)
theorem dX5_nearest_43 : decode cX5_nearest 43 = .ok (.iinc 3 1, 3) := dk_132 3 1 (dk_at dksX5_nearest_1 19 rfl rfl)
theorem dX5_nearest_46 : decode cX5_nearest 46 = .ok (.goto (-42), 3) := dk_167 255 214 (dk_at dksX5_nearest_2 0 rfl rfl)
theorem dX5_nearest_49 : decode cX5_nearest 49 = .ok (.iload_n 2, 1) := dk_28 (dk_at dksX5_nearest_2 3 rfl rfl)
theorem dX5_nearest_50 : decode cX5_nearest 50 = .ok (.ireturn, 1) := dk_172 (dk_at dksX5_nearest_2 4 rfl rfl)
abbrev cX5_apart : ByteArray := prog_8_method_27_code
def yX5_apart : MethodName := ⟨RX5, "apart", "(II)I"⟩
def dkwX5_apart_0 : List UInt8 := [26, 27, 162, 0, 9, 27, 26, 100, 167, 0, 6, 26, 27, 100, 172]
abbrev dktX5_apart_0 : List UInt8 := dkwX5_apart_0 ++ []
theorem dksX5_apart_0 : cX5_apart.data.toList.drop 0 = dktX5_apart_0 := by decide +kernel
theorem dX5_apart_0 : decode cX5_apart 0 = .ok (.iload_n 0, 1) := dk_26 (dk_at dksX5_apart_0 0 rfl rfl)
theorem dX5_apart_1 : decode cX5_apart 1 = .ok (.iload_n 1, 1) := dk_27 (dk_at dksX5_apart_0 1 rfl rfl)
theorem dX5_apart_2 : decode cX5_apart 2 = .ok (.if_icmp .ge 9, 3) := dk_162 0 9 (dk_at dksX5_apart_0 2 rfl rfl)
theorem dX5_apart_5 : decode cX5_apart 5 = .ok (.iload_n 1, 1) := dk_27 (dk_at dksX5_apart_0 5 rfl rfl)
theorem dX5_apart_6 : decode cX5_apart 6 = .ok (.iload_n 0, 1) := dk_26 (dk_at dksX5_apart_0 6 rfl rfl)
theorem dX5_apart_7 : decode cX5_apart 7 = .ok (.isub, 1) := dk_100 (dk_at dksX5_apart_0 7 rfl rfl)
theorem dX5_apart_8 : decode cX5_apart 8 = .ok (.goto 6, 3) := dk_167 0 6 (dk_at dksX5_apart_0 8 rfl rfl)
theorem dX5_apart_11 : decode cX5_apart 11 = .ok (.iload_n 0, 1) := dk_26 (dk_at dksX5_apart_0 11 rfl rfl)
theorem dX5_apart_12 : decode cX5_apart 12 = .ok (.iload_n 1, 1) := dk_27 (dk_at dksX5_apart_0 12 rfl rfl)
theorem dX5_apart_13 : decode cX5_apart 13 = .ok (.isub, 1) := dk_100 (dk_at dksX5_apart_0 13 rfl rfl)
theorem dX5_apart_14 : decode cX5_apart 14 = .ok (.ireturn, 1) := dk_172 (dk_at dksX5_apart_0 14 rfl rfl)
abbrev cX5_closed : ByteArray := prog_8_method_14_code
def yX5_closed : MethodName := ⟨RX5, "closed", "(I)I"⟩
def dkwX5_closed_3 : List UInt8 := [42, 27, 5, 182, 0, 46, 7, 42, 27, 4, 182, 0, 46, 104, 160, 0, 7, 8, 167, 0, 4, 3, 172]
abbrev dktX5_closed_3 : List UInt8 := dkwX5_closed_3 ++ []
def dkwX5_closed_2 : List UInt8 := [42, 42, 180, 0, 7, 8, 46, 182, 0, 50, 153, 0, 14, 42, 27, 6, 182, 0, 46, 154, 0, 5, 7, 172]
abbrev dktX5_closed_2 : List UInt8 := dkwX5_closed_2 ++ dktX5_closed_3
def dkwX5_closed_1 : List UInt8 := [7, 182, 0, 46, 4, 160, 0, 19, 42, 27, 8, 182, 0, 46, 4, 160, 0, 7, 5, 167, 0, 4, 6, 172]
abbrev dktX5_closed_1 : List UInt8 := dkwX5_closed_1 ++ dktX5_closed_2
def dkwX5_closed_0 : List UInt8 := [42, 27, 16, 6, 182, 0, 46, 154, 0, 5, 4, 172, 42, 27, 8, 182, 0, 46, 4, 159, 0, 13, 42, 27]
abbrev dktX5_closed_0 : List UInt8 := dkwX5_closed_0 ++ dktX5_closed_1
theorem dksX5_closed_0 : cX5_closed.data.toList.drop 0 = dktX5_closed_0 := by decide +kernel
theorem dksX5_closed_1 : cX5_closed.data.toList.drop 24 = dktX5_closed_1 := dk_seg dksX5_closed_0 24 rfl rfl
theorem dksX5_closed_2 : cX5_closed.data.toList.drop 48 = dktX5_closed_2 := dk_seg dksX5_closed_1 24 rfl rfl
theorem dksX5_closed_3 : cX5_closed.data.toList.drop 72 = dktX5_closed_3 := dk_seg dksX5_closed_2 24 rfl rfl
theorem dX5_closed_0 : decode cX5_closed 0 = .ok (.aload_n 0, 1) := dk_42 (dk_at dksX5_closed_0 0 rfl rfl)
theorem dX5_closed_1 : decode cX5_closed 1 = .ok (.iload_n 1, 1) := dk_27 (dk_at dksX5_closed_0 1 rfl rfl)
theorem dX5_closed_2 : decode cX5_closed 2 = .ok (.bipush 6, 2) := dk_16 6 (dk_at dksX5_closed_0 2 rfl rfl)
theorem dX5_closed_4 : decode cX5_closed 4 = .ok (.invokevirtual 46, 3) := dk_182 0 46 (dk_at dksX5_closed_0 4 rfl rfl)
theorem dX5_closed_7 : decode cX5_closed 7 = .ok (.ifCond .ne 5, 3) := dk_154 0 5 (dk_at dksX5_closed_0 7 rfl rfl)
theorem dX5_closed_10 : decode cX5_closed 10 = .ok (.iconst 1, 1) := dk_4 (dk_at dksX5_closed_0 10 rfl rfl)
theorem dX5_closed_11 : decode cX5_closed 11 = .ok (.ireturn, 1) := dk_172 (dk_at dksX5_closed_0 11 rfl rfl)
theorem dX5_closed_12 : decode cX5_closed 12 = .ok (.aload_n 0, 1) := dk_42 (dk_at dksX5_closed_0 12 rfl rfl)
theorem dX5_closed_13 : decode cX5_closed 13 = .ok (.iload_n 1, 1) := dk_27 (dk_at dksX5_closed_0 13 rfl rfl)
theorem dX5_closed_14 : decode cX5_closed 14 = .ok (.iconst 5, 1) := dk_8 (dk_at dksX5_closed_0 14 rfl rfl)
theorem dX5_closed_15 : decode cX5_closed 15 = .ok (.invokevirtual 46, 3) := dk_182 0 46 (dk_at dksX5_closed_0 15 rfl rfl)
theorem dX5_closed_18 : decode cX5_closed 18 = .ok (.iconst 1, 1) := dk_4 (dk_at dksX5_closed_0 18 rfl rfl)
theorem dX5_closed_19 : decode cX5_closed 19 = .ok (.if_icmp .eq 13, 3) := dk_159 0 13 (dk_at dksX5_closed_0 19 rfl rfl)
theorem dX5_closed_22 : decode cX5_closed 22 = .ok (.aload_n 0, 1) := dk_42 (dk_at dksX5_closed_0 22 rfl rfl)
theorem dX5_closed_23 : decode cX5_closed 23 = .ok (.iload_n 1, 1) := dk_27 (dk_at dksX5_closed_0 23 rfl rfl)
theorem dX5_closed_24 : decode cX5_closed 24 = .ok (.iconst 4, 1) := dk_7 (dk_at dksX5_closed_1 0 rfl rfl)
theorem dX5_closed_25 : decode cX5_closed 25 = .ok (.invokevirtual 46, 3) := dk_182 0 46 (dk_at dksX5_closed_1 1 rfl rfl)
theorem dX5_closed_28 : decode cX5_closed 28 = .ok (.iconst 1, 1) := dk_4 (dk_at dksX5_closed_1 4 rfl rfl)
theorem dX5_closed_29 : decode cX5_closed 29 = .ok (.if_icmp .ne 19, 3) := dk_160 0 19 (dk_at dksX5_closed_1 5 rfl rfl)
theorem dX5_closed_32 : decode cX5_closed 32 = .ok (.aload_n 0, 1) := dk_42 (dk_at dksX5_closed_1 8 rfl rfl)
theorem dX5_closed_33 : decode cX5_closed 33 = .ok (.iload_n 1, 1) := dk_27 (dk_at dksX5_closed_1 9 rfl rfl)
theorem dX5_closed_34 : decode cX5_closed 34 = .ok (.iconst 5, 1) := dk_8 (dk_at dksX5_closed_1 10 rfl rfl)
theorem dX5_closed_35 : decode cX5_closed 35 = .ok (.invokevirtual 46, 3) := dk_182 0 46 (dk_at dksX5_closed_1 11 rfl rfl)
theorem dX5_closed_38 : decode cX5_closed 38 = .ok (.iconst 1, 1) := dk_4 (dk_at dksX5_closed_1 14 rfl rfl)
theorem dX5_closed_39 : decode cX5_closed 39 = .ok (.if_icmp .ne 7, 3) := dk_160 0 7 (dk_at dksX5_closed_1 15 rfl rfl)
theorem dX5_closed_42 : decode cX5_closed 42 = .ok (.iconst 2, 1) := dk_5 (dk_at dksX5_closed_1 18 rfl rfl)
theorem dX5_closed_43 : decode cX5_closed 43 = .ok (.goto 4, 3) := dk_167 0 4 (dk_at dksX5_closed_1 19 rfl rfl)
theorem dX5_closed_46 : decode cX5_closed 46 = .ok (.iconst 3, 1) := dk_6 (dk_at dksX5_closed_1 22 rfl rfl)
theorem dX5_closed_47 : decode cX5_closed 47 = .ok (.ireturn, 1) := dk_172 (dk_at dksX5_closed_1 23 rfl rfl)
theorem dX5_closed_48 : decode cX5_closed 48 = .ok (.aload_n 0, 1) := dk_42 (dk_at dksX5_closed_2 0 rfl rfl)
theorem dX5_closed_49 : decode cX5_closed 49 = .ok (.aload_n 0, 1) := dk_42 (dk_at dksX5_closed_2 1 rfl rfl)
theorem dX5_closed_50 : decode cX5_closed 50 = .ok (.getfield 7, 3) := dk_180 0 7 (dk_at dksX5_closed_2 2 rfl rfl)
theorem dX5_closed_53 : decode cX5_closed 53 = .ok (.iconst 5, 1) := dk_8 (dk_at dksX5_closed_2 5 rfl rfl)
theorem dX5_closed_54 : decode cX5_closed 54 = .ok (.iaload, 1) := dk_46 (dk_at dksX5_closed_2 6 rfl rfl)
theorem dX5_closed_55 : decode cX5_closed 55 = .ok (.invokevirtual 50, 3) := dk_182 0 50 (dk_at dksX5_closed_2 7 rfl rfl)
theorem dX5_closed_58 : decode cX5_closed 58 = .ok (.ifCond .eq 14, 3) := dk_153 0 14 (dk_at dksX5_closed_2 10 rfl rfl)
theorem dX5_closed_61 : decode cX5_closed 61 = .ok (.aload_n 0, 1) := dk_42 (dk_at dksX5_closed_2 13 rfl rfl)
theorem dX5_closed_62 : decode cX5_closed 62 = .ok (.iload_n 1, 1) := dk_27 (dk_at dksX5_closed_2 14 rfl rfl)
theorem dX5_closed_63 : decode cX5_closed 63 = .ok (.iconst 3, 1) := dk_6 (dk_at dksX5_closed_2 15 rfl rfl)
theorem dX5_closed_64 : decode cX5_closed 64 = .ok (.invokevirtual 46, 3) := dk_182 0 46 (dk_at dksX5_closed_2 16 rfl rfl)
theorem dX5_closed_67 : decode cX5_closed 67 = .ok (.ifCond .ne 5, 3) := dk_154 0 5 (dk_at dksX5_closed_2 19 rfl rfl)
theorem dX5_closed_70 : decode cX5_closed 70 = .ok (.iconst 4, 1) := dk_7 (dk_at dksX5_closed_2 22 rfl rfl)
theorem dX5_closed_71 : decode cX5_closed 71 = .ok (.ireturn, 1) := dk_172 (dk_at dksX5_closed_2 23 rfl rfl)
theorem dX5_closed_72 : decode cX5_closed 72 = .ok (.aload_n 0, 1) := dk_42 (dk_at dksX5_closed_3 0 rfl rfl)
theorem dX5_closed_73 : decode cX5_closed 73 = .ok (.iload_n 1, 1) := dk_27 (dk_at dksX5_closed_3 1 rfl rfl)
theorem dX5_closed_74 : decode cX5_closed 74 = .ok (.iconst 2, 1) := dk_5 (dk_at dksX5_closed_3 2 rfl rfl)
theorem dX5_closed_75 : decode cX5_closed 75 = .ok (.invokevirtual 46, 3) := dk_182 0 46 (dk_at dksX5_closed_3 3 rfl rfl)
theorem dX5_closed_78 : decode cX5_closed 78 = .ok (.iconst 4, 1) := dk_7 (dk_at dksX5_closed_3 6 rfl rfl)
theorem dX5_closed_79 : decode cX5_closed 79 = .ok (.aload_n 0, 1) := dk_42 (dk_at dksX5_closed_3 7 rfl rfl)
theorem dX5_closed_80 : decode cX5_closed 80 = .ok (.iload_n 1, 1) := dk_27 (dk_at dksX5_closed_3 8 rfl rfl)
theorem dX5_closed_81 : decode cX5_closed 81 = .ok (.iconst 1, 1) := dk_4 (dk_at dksX5_closed_3 9 rfl rfl)
theorem dX5_closed_82 : decode cX5_closed 82 = .ok (.invokevirtual 46, 3) := dk_182 0 46 (dk_at dksX5_closed_3 10 rfl rfl)
theorem dX5_closed_85 : decode cX5_closed 85 = .ok (.imul, 1) := dk_104 (dk_at dksX5_closed_3 13 rfl rfl)
theorem dX5_closed_86 : decode cX5_closed 86 = .ok (.if_icmp .ne 7, 3) := dk_160 0 7 (dk_at dksX5_closed_3 14 rfl rfl)
theorem dX5_closed_89 : decode cX5_closed 89 = .ok (.iconst 5, 1) := dk_8 (dk_at dksX5_closed_3 17 rfl rfl)
theorem dX5_closed_90 : decode cX5_closed 90 = .ok (.goto 4, 3) := dk_167 0 4 (dk_at dksX5_closed_3 18 rfl rfl)
theorem dX5_closed_93 : decode cX5_closed 93 = .ok (.iconst 0, 1) := dk_3 (dk_at dksX5_closed_3 21 rfl rfl)
theorem dX5_closed_94 : decode cX5_closed 94 = .ok (.ireturn, 1) := dk_172 (dk_at dksX5_closed_3 22 rfl rfl)
abbrev cX5_gives : ByteArray := prog_8_method_26_code
def yX5_gives : MethodName := ⟨RX5, "gives", "(II)I"⟩
def dkwX5_gives_5 : List UInt8 := [104, 4, 96, 182, 0, 69, 21, 4, 172]
abbrev dktX5_gives_5 : List UInt8 := dkwX5_gives_5 ++ []
def dkwX5_gives_4 : List UInt8 := [182, 0, 65, 42, 180, 0, 7, 16, 12, 92, 46, 21, 4, 96, 79, 21, 4, 29, 160, 0, 12, 42, 5, 27]
abbrev dktX5_gives_4 : List UInt8 := dkwX5_gives_4 ++ dktX5_gives_5
def dkwX5_gives_3 : List UInt8 := [182, 0, 46, 21, 4, 96, 182, 0, 65, 42, 27, 16, 7, 42, 27, 16, 7, 182, 0, 46, 21, 4, 96]
abbrev dktX5_gives_3 : List UInt8 := dkwX5_gives_3 ++ dktX5_gives_4
def dkwX5_gives_2 : List UInt8 := [167, 0, 4, 29, 54, 4, 42, 180, 0, 22, 27, 92, 46, 21, 4, 100, 79, 42, 27, 5, 42, 27, 5]
abbrev dktX5_gives_2 : List UInt8 := dkwX5_gives_2 ++ dktX5_gives_3
def dkwX5_gives_1 : List UInt8 := [162, 0, 7, 28, 167, 0, 9, 42, 180, 0, 22, 27, 46, 54, 4, 21, 4, 29, 162, 0, 8, 21, 4]
abbrev dktX5_gives_1 : List UInt8 := dkwX5_gives_1 ++ dktX5_gives_2
def dkwX5_gives_0 : List UInt8 := [7, 42, 27, 4, 182, 0, 46, 104, 42, 27, 5, 182, 0, 46, 100, 62, 28, 42, 180, 0, 22, 27, 46]
abbrev dktX5_gives_0 : List UInt8 := dkwX5_gives_0 ++ dktX5_gives_1
theorem dksX5_gives_0 : cX5_gives.data.toList.drop 0 = dktX5_gives_0 := by decide +kernel
theorem dksX5_gives_1 : cX5_gives.data.toList.drop 23 = dktX5_gives_1 := dk_seg dksX5_gives_0 23 rfl rfl
theorem dksX5_gives_2 : cX5_gives.data.toList.drop 46 = dktX5_gives_2 := dk_seg dksX5_gives_1 23 rfl rfl
theorem dksX5_gives_3 : cX5_gives.data.toList.drop 69 = dktX5_gives_3 := dk_seg dksX5_gives_2 23 rfl rfl
theorem dksX5_gives_4 : cX5_gives.data.toList.drop 92 = dktX5_gives_4 := dk_seg dksX5_gives_3 23 rfl rfl
theorem dksX5_gives_5 : cX5_gives.data.toList.drop 116 = dktX5_gives_5 := dk_seg dksX5_gives_4 24 rfl rfl
theorem dX5_gives_0 : decode cX5_gives 0 = .ok (.iconst 4, 1) := dk_7 (dk_at dksX5_gives_0 0 rfl rfl)
theorem dX5_gives_1 : decode cX5_gives 1 = .ok (.aload_n 0, 1) := dk_42 (dk_at dksX5_gives_0 1 rfl rfl)
theorem dX5_gives_2 : decode cX5_gives 2 = .ok (.iload_n 1, 1) := dk_27 (dk_at dksX5_gives_0 2 rfl rfl)
theorem dX5_gives_3 : decode cX5_gives 3 = .ok (.iconst 1, 1) := dk_4 (dk_at dksX5_gives_0 3 rfl rfl)
theorem dX5_gives_4 : decode cX5_gives 4 = .ok (.invokevirtual 46, 3) := dk_182 0 46 (dk_at dksX5_gives_0 4 rfl rfl)
theorem dX5_gives_7 : decode cX5_gives 7 = .ok (.imul, 1) := dk_104 (dk_at dksX5_gives_0 7 rfl rfl)
theorem dX5_gives_8 : decode cX5_gives 8 = .ok (.aload_n 0, 1) := dk_42 (dk_at dksX5_gives_0 8 rfl rfl)
theorem dX5_gives_9 : decode cX5_gives 9 = .ok (.iload_n 1, 1) := dk_27 (dk_at dksX5_gives_0 9 rfl rfl)
theorem dX5_gives_10 : decode cX5_gives 10 = .ok (.iconst 2, 1) := dk_5 (dk_at dksX5_gives_0 10 rfl rfl)
theorem dX5_gives_11 : decode cX5_gives 11 = .ok (.invokevirtual 46, 3) := dk_182 0 46 (dk_at dksX5_gives_0 11 rfl rfl)
theorem dX5_gives_14 : decode cX5_gives 14 = .ok (.isub, 1) := dk_100 (dk_at dksX5_gives_0 14 rfl rfl)
theorem dX5_gives_15 : decode cX5_gives 15 = .ok (.istore_n 3, 1) := dk_62 (dk_at dksX5_gives_0 15 rfl rfl)
theorem dX5_gives_16 : decode cX5_gives 16 = .ok (.iload_n 2, 1) := dk_28 (dk_at dksX5_gives_0 16 rfl rfl)
theorem dX5_gives_17 : decode cX5_gives 17 = .ok (.aload_n 0, 1) := dk_42 (dk_at dksX5_gives_0 17 rfl rfl)
theorem dX5_gives_18 : decode cX5_gives 18 = .ok (.getfield 22, 3) := dk_180 0 22 (dk_at dksX5_gives_0 18 rfl rfl)
theorem dX5_gives_21 : decode cX5_gives 21 = .ok (.iload_n 1, 1) := dk_27 (dk_at dksX5_gives_0 21 rfl rfl)
theorem dX5_gives_22 : decode cX5_gives 22 = .ok (.iaload, 1) := dk_46 (dk_at dksX5_gives_0 22 rfl rfl)
theorem dX5_gives_23 : decode cX5_gives 23 = .ok (.if_icmp .ge 7, 3) := dk_162 0 7 (dk_at dksX5_gives_1 0 rfl rfl)
theorem dX5_gives_26 : decode cX5_gives 26 = .ok (.iload_n 2, 1) := dk_28 (dk_at dksX5_gives_1 3 rfl rfl)
theorem dX5_gives_27 : decode cX5_gives 27 = .ok (.goto 9, 3) := dk_167 0 9 (dk_at dksX5_gives_1 4 rfl rfl)
theorem dX5_gives_30 : decode cX5_gives 30 = .ok (.aload_n 0, 1) := dk_42 (dk_at dksX5_gives_1 7 rfl rfl)
theorem dX5_gives_31 : decode cX5_gives 31 = .ok (.getfield 22, 3) := dk_180 0 22 (dk_at dksX5_gives_1 8 rfl rfl)
theorem dX5_gives_34 : decode cX5_gives 34 = .ok (.iload_n 1, 1) := dk_27 (dk_at dksX5_gives_1 11 rfl rfl)
theorem dX5_gives_35 : decode cX5_gives 35 = .ok (.iaload, 1) := dk_46 (dk_at dksX5_gives_1 12 rfl rfl)
theorem dX5_gives_36 : decode cX5_gives 36 = .ok (.istore 4, 2) := dk_54 4 (dk_at dksX5_gives_1 13 rfl rfl)
theorem dX5_gives_38 : decode cX5_gives 38 = .ok (.iload 4, 2) := dk_21 4 (dk_at dksX5_gives_1 15 rfl rfl)
theorem dX5_gives_40 : decode cX5_gives 40 = .ok (.iload_n 3, 1) := dk_29 (dk_at dksX5_gives_1 17 rfl rfl)
theorem dX5_gives_41 : decode cX5_gives 41 = .ok (.if_icmp .ge 8, 3) := dk_162 0 8 (dk_at dksX5_gives_1 18 rfl rfl)
theorem dX5_gives_44 : decode cX5_gives 44 = .ok (.iload 4, 2) := dk_21 4 (dk_at dksX5_gives_1 21 rfl rfl)
theorem dX5_gives_46 : decode cX5_gives 46 = .ok (.goto 4, 3) := dk_167 0 4 (dk_at dksX5_gives_2 0 rfl rfl)
theorem dX5_gives_49 : decode cX5_gives 49 = .ok (.iload_n 3, 1) := dk_29 (dk_at dksX5_gives_2 3 rfl rfl)
theorem dX5_gives_50 : decode cX5_gives 50 = .ok (.istore 4, 2) := dk_54 4 (dk_at dksX5_gives_2 4 rfl rfl)
theorem dX5_gives_52 : decode cX5_gives 52 = .ok (.aload_n 0, 1) := dk_42 (dk_at dksX5_gives_2 6 rfl rfl)
theorem dX5_gives_53 : decode cX5_gives 53 = .ok (.getfield 22, 3) := dk_180 0 22 (dk_at dksX5_gives_2 7 rfl rfl)
theorem dX5_gives_56 : decode cX5_gives 56 = .ok (.iload_n 1, 1) := dk_27 (dk_at dksX5_gives_2 10 rfl rfl)
theorem dX5_gives_57 : decode cX5_gives 57 = .ok (.dup2, 1) := dk_92 (dk_at dksX5_gives_2 11 rfl rfl)
theorem dX5_gives_58 : decode cX5_gives 58 = .ok (.iaload, 1) := dk_46 (dk_at dksX5_gives_2 12 rfl rfl)
theorem dX5_gives_59 : decode cX5_gives 59 = .ok (.iload 4, 2) := dk_21 4 (dk_at dksX5_gives_2 13 rfl rfl)
theorem dX5_gives_61 : decode cX5_gives 61 = .ok (.isub, 1) := dk_100 (dk_at dksX5_gives_2 15 rfl rfl)
theorem dX5_gives_62 : decode cX5_gives 62 = .ok (.iastore, 1) := dk_79 (dk_at dksX5_gives_2 16 rfl rfl)
theorem dX5_gives_63 : decode cX5_gives 63 = .ok (.aload_n 0, 1) := dk_42 (dk_at dksX5_gives_2 17 rfl rfl)
theorem dX5_gives_64 : decode cX5_gives 64 = .ok (.iload_n 1, 1) := dk_27 (dk_at dksX5_gives_2 18 rfl rfl)
theorem dX5_gives_65 : decode cX5_gives 65 = .ok (.iconst 2, 1) := dk_5 (dk_at dksX5_gives_2 19 rfl rfl)
theorem dX5_gives_66 : decode cX5_gives 66 = .ok (.aload_n 0, 1) := dk_42 (dk_at dksX5_gives_2 20 rfl rfl)
theorem dX5_gives_67 : decode cX5_gives 67 = .ok (.iload_n 1, 1) := dk_27 (dk_at dksX5_gives_2 21 rfl rfl)
theorem dX5_gives_68 : decode cX5_gives 68 = .ok (.iconst 2, 1) := dk_5 (dk_at dksX5_gives_2 22 rfl rfl)
theorem dX5_gives_69 : decode cX5_gives 69 = .ok (.invokevirtual 46, 3) := dk_182 0 46 (dk_at dksX5_gives_3 0 rfl rfl)
theorem dX5_gives_72 : decode cX5_gives 72 = .ok (.iload 4, 2) := dk_21 4 (dk_at dksX5_gives_3 3 rfl rfl)
theorem dX5_gives_74 : decode cX5_gives 74 = .ok (.iadd, 1) := dk_96 (dk_at dksX5_gives_3 5 rfl rfl)
theorem dX5_gives_75 : decode cX5_gives 75 = .ok (.invokevirtual 65, 3) := dk_182 0 65 (dk_at dksX5_gives_3 6 rfl rfl)
theorem dX5_gives_78 : decode cX5_gives 78 = .ok (.aload_n 0, 1) := dk_42 (dk_at dksX5_gives_3 9 rfl rfl)
theorem dX5_gives_79 : decode cX5_gives 79 = .ok (.iload_n 1, 1) := dk_27 (dk_at dksX5_gives_3 10 rfl rfl)
theorem dX5_gives_80 : decode cX5_gives 80 = .ok (.bipush 7, 2) := dk_16 7 (dk_at dksX5_gives_3 11 rfl rfl)
theorem dX5_gives_82 : decode cX5_gives 82 = .ok (.aload_n 0, 1) := dk_42 (dk_at dksX5_gives_3 13 rfl rfl)
theorem dX5_gives_83 : decode cX5_gives 83 = .ok (.iload_n 1, 1) := dk_27 (dk_at dksX5_gives_3 14 rfl rfl)
theorem dX5_gives_84 : decode cX5_gives 84 = .ok (.bipush 7, 2) := dk_16 7 (dk_at dksX5_gives_3 15 rfl rfl)
theorem dX5_gives_86 : decode cX5_gives 86 = .ok (.invokevirtual 46, 3) := dk_182 0 46 (dk_at dksX5_gives_3 17 rfl rfl)
theorem dX5_gives_89 : decode cX5_gives 89 = .ok (.iload 4, 2) := dk_21 4 (dk_at dksX5_gives_3 20 rfl rfl)
theorem dX5_gives_91 : decode cX5_gives 91 = .ok (.iadd, 1) := dk_96 (dk_at dksX5_gives_3 22 rfl rfl)
theorem dX5_gives_92 : decode cX5_gives 92 = .ok (.invokevirtual 65, 3) := dk_182 0 65 (dk_at dksX5_gives_4 0 rfl rfl)
theorem dX5_gives_95 : decode cX5_gives 95 = .ok (.aload_n 0, 1) := dk_42 (dk_at dksX5_gives_4 3 rfl rfl)
theorem dX5_gives_96 : decode cX5_gives 96 = .ok (.getfield 7, 3) := dk_180 0 7 (dk_at dksX5_gives_4 4 rfl rfl)
theorem dX5_gives_99 : decode cX5_gives 99 = .ok (.bipush 12, 2) := dk_16 12 (dk_at dksX5_gives_4 7 rfl rfl)
theorem dX5_gives_101 : decode cX5_gives 101 = .ok (.dup2, 1) := dk_92 (dk_at dksX5_gives_4 9 rfl rfl)
theorem dX5_gives_102 : decode cX5_gives 102 = .ok (.iaload, 1) := dk_46 (dk_at dksX5_gives_4 10 rfl rfl)
theorem dX5_gives_103 : decode cX5_gives 103 = .ok (.iload 4, 2) := dk_21 4 (dk_at dksX5_gives_4 11 rfl rfl)
theorem dX5_gives_105 : decode cX5_gives 105 = .ok (.iadd, 1) := dk_96 (dk_at dksX5_gives_4 13 rfl rfl)
theorem dX5_gives_106 : decode cX5_gives 106 = .ok (.iastore, 1) := dk_79 (dk_at dksX5_gives_4 14 rfl rfl)
theorem dX5_gives_107 : decode cX5_gives 107 = .ok (.iload 4, 2) := dk_21 4 (dk_at dksX5_gives_4 15 rfl rfl)
theorem dX5_gives_109 : decode cX5_gives 109 = .ok (.iload_n 3, 1) := dk_29 (dk_at dksX5_gives_4 17 rfl rfl)
theorem dX5_gives_110 : decode cX5_gives 110 = .ok (.if_icmp .ne 12, 3) := dk_160 0 12 (dk_at dksX5_gives_4 18 rfl rfl)
theorem dX5_gives_113 : decode cX5_gives 113 = .ok (.aload_n 0, 1) := dk_42 (dk_at dksX5_gives_4 21 rfl rfl)
theorem dX5_gives_114 : decode cX5_gives 114 = .ok (.iconst 2, 1) := dk_5 (dk_at dksX5_gives_4 22 rfl rfl)
theorem dX5_gives_115 : decode cX5_gives 115 = .ok (.iload_n 1, 1) := dk_27 (dk_at dksX5_gives_4 23 rfl rfl)
theorem dX5_gives_116 : decode cX5_gives 116 = .ok (.imul, 1) := dk_104 (dk_at dksX5_gives_5 0 rfl rfl)
theorem dX5_gives_117 : decode cX5_gives 117 = .ok (.iconst 1, 1) := dk_4 (dk_at dksX5_gives_5 1 rfl rfl)
theorem dX5_gives_118 : decode cX5_gives 118 = .ok (.iadd, 1) := dk_96 (dk_at dksX5_gives_5 2 rfl rfl)
theorem dX5_gives_119 : decode cX5_gives 119 = .ok (.invokevirtual 69, 3) := dk_182 0 69 (dk_at dksX5_gives_5 3 rfl rfl)
theorem dX5_gives_122 : decode cX5_gives 122 = .ok (.iload 4, 2) := dk_21 4 (dk_at dksX5_gives_5 6 rfl rfl)
theorem dX5_gives_124 : decode cX5_gives 124 = .ok (.ireturn, 1) := dk_172 (dk_at dksX5_gives_5 8 rfl rfl)
abbrev cX5_append : ByteArray := prog_8_method_48_code
def yX5_append : MethodName := ⟨RX5, "append", "(I)I"⟩
def dkwX5_append_2 : List UInt8 := [42, 89, 180, 0, 146, 4, 96, 181, 0, 146, 42, 180, 0, 146, 172]
abbrev dktX5_append_2 : List UInt8 := dkwX5_append_2 ++ []
def dkwX5_append_1 : List UInt8 := [180, 0, 146, 16, 60, 160, 0, 9, 42, 5, 182, 0, 124, 172, 42, 180, 0, 19, 42, 180, 0, 146, 27, 79]
abbrev dktX5_append_1 : List UInt8 := dkwX5_append_1 ++ dktX5_append_2
def dkwX5_append_0 : List UInt8 := [42, 3, 181, 0, 35, 27, 16, 33, 16, 126, 184, 0, 39, 154, 0, 9, 42, 4, 182, 0, 124, 172, 42]
abbrev dktX5_append_0 : List UInt8 := dkwX5_append_0 ++ dktX5_append_1
theorem dksX5_append_0 : cX5_append.data.toList.drop 0 = dktX5_append_0 := by decide +kernel
theorem dksX5_append_1 : cX5_append.data.toList.drop 23 = dktX5_append_1 := dk_seg dksX5_append_0 23 rfl rfl
theorem dksX5_append_2 : cX5_append.data.toList.drop 47 = dktX5_append_2 := dk_seg dksX5_append_1 24 rfl rfl
theorem dX5_append_0 : decode cX5_append 0 = .ok (.aload_n 0, 1) := dk_42 (dk_at dksX5_append_0 0 rfl rfl)
theorem dX5_append_1 : decode cX5_append 1 = .ok (.iconst 0, 1) := dk_3 (dk_at dksX5_append_0 1 rfl rfl)
theorem dX5_append_2 : decode cX5_append 2 = .ok (.putfield 35, 3) := dk_181 0 35 (dk_at dksX5_append_0 2 rfl rfl)
theorem dX5_append_5 : decode cX5_append 5 = .ok (.iload_n 1, 1) := dk_27 (dk_at dksX5_append_0 5 rfl rfl)
theorem dX5_append_6 : decode cX5_append 6 = .ok (.bipush 33, 2) := dk_16 33 (dk_at dksX5_append_0 6 rfl rfl)
theorem dX5_append_8 : decode cX5_append 8 = .ok (.bipush 126, 2) := dk_16 126 (dk_at dksX5_append_0 8 rfl rfl)
theorem dX5_append_10 : decode cX5_append 10 = .ok (.invokestatic 39, 3) := dk_184 0 39 (dk_at dksX5_append_0 10 rfl rfl)
theorem dX5_append_13 : decode cX5_append 13 = .ok (.ifCond .ne 9, 3) := dk_154 0 9 (dk_at dksX5_append_0 13 rfl rfl)
theorem dX5_append_16 : decode cX5_append 16 = .ok (.aload_n 0, 1) := dk_42 (dk_at dksX5_append_0 16 rfl rfl)
theorem dX5_append_17 : decode cX5_append 17 = .ok (.iconst 1, 1) := dk_4 (dk_at dksX5_append_0 17 rfl rfl)
theorem dX5_append_18 : decode cX5_append 18 = .ok (.invokevirtual 124, 3) := dk_182 0 124 (dk_at dksX5_append_0 18 rfl rfl)
theorem dX5_append_21 : decode cX5_append 21 = .ok (.ireturn, 1) := dk_172 (dk_at dksX5_append_0 21 rfl rfl)
theorem dX5_append_22 : decode cX5_append 22 = .ok (.aload_n 0, 1) := dk_42 (dk_at dksX5_append_0 22 rfl rfl)
theorem dX5_append_23 : decode cX5_append 23 = .ok (.getfield 146, 3) := dk_180 0 146 (dk_at dksX5_append_1 0 rfl rfl)
theorem dX5_append_26 : decode cX5_append 26 = .ok (.bipush 60, 2) := dk_16 60 (dk_at dksX5_append_1 3 rfl rfl)
theorem dX5_append_28 : decode cX5_append 28 = .ok (.if_icmp .ne 9, 3) := dk_160 0 9 (dk_at dksX5_append_1 5 rfl rfl)
theorem dX5_append_31 : decode cX5_append 31 = .ok (.aload_n 0, 1) := dk_42 (dk_at dksX5_append_1 8 rfl rfl)
theorem dX5_append_32 : decode cX5_append 32 = .ok (.iconst 2, 1) := dk_5 (dk_at dksX5_append_1 9 rfl rfl)
theorem dX5_append_33 : decode cX5_append 33 = .ok (.invokevirtual 124, 3) := dk_182 0 124 (dk_at dksX5_append_1 10 rfl rfl)
theorem dX5_append_36 : decode cX5_append 36 = .ok (.ireturn, 1) := dk_172 (dk_at dksX5_append_1 13 rfl rfl)
theorem dX5_append_37 : decode cX5_append 37 = .ok (.aload_n 0, 1) := dk_42 (dk_at dksX5_append_1 14 rfl rfl)
theorem dX5_append_38 : decode cX5_append 38 = .ok (.getfield 19, 3) := dk_180 0 19 (dk_at dksX5_append_1 15 rfl rfl)
theorem dX5_append_41 : decode cX5_append 41 = .ok (.aload_n 0, 1) := dk_42 (dk_at dksX5_append_1 18 rfl rfl)
theorem dX5_append_42 : decode cX5_append 42 = .ok (.getfield 146, 3) := dk_180 0 146 (dk_at dksX5_append_1 19 rfl rfl)
theorem dX5_append_45 : decode cX5_append 45 = .ok (.iload_n 1, 1) := dk_27 (dk_at dksX5_append_1 22 rfl rfl)
theorem dX5_append_46 : decode cX5_append 46 = .ok (.iastore, 1) := dk_79 (dk_at dksX5_append_1 23 rfl rfl)
theorem dX5_append_47 : decode cX5_append 47 = .ok (.aload_n 0, 1) := dk_42 (dk_at dksX5_append_2 0 rfl rfl)
theorem dX5_append_48 : decode cX5_append 48 = .ok (.dup, 1) := dk_89 (dk_at dksX5_append_2 1 rfl rfl)
theorem dX5_append_49 : decode cX5_append 49 = .ok (.getfield 146, 3) := dk_180 0 146 (dk_at dksX5_append_2 2 rfl rfl)
theorem dX5_append_52 : decode cX5_append 52 = .ok (.iconst 1, 1) := dk_4 (dk_at dksX5_append_2 5 rfl rfl)
theorem dX5_append_53 : decode cX5_append 53 = .ok (.iadd, 1) := dk_96 (dk_at dksX5_append_2 6 rfl rfl)
theorem dX5_append_54 : decode cX5_append 54 = .ok (.putfield 146, 3) := dk_181 0 146 (dk_at dksX5_append_2 7 rfl rfl)
theorem dX5_append_57 : decode cX5_append 57 = .ok (.aload_n 0, 1) := dk_42 (dk_at dksX5_append_2 10 rfl rfl)
theorem dX5_append_58 : decode cX5_append 58 = .ok (.getfield 146, 3) := dk_180 0 146 (dk_at dksX5_append_2 11 rfl rfl)
theorem dX5_append_61 : decode cX5_append 61 = .ok (.ireturn, 1) := dk_172 (dk_at dksX5_append_2 14 rfl rfl)
abbrev cX5_clearBuffer : ByteArray := prog_8_method_49_code
def yX5_clearBuffer : MethodName := ⟨RX5, "clearBuffer", "()I"⟩
def dkwX5_clearBuffer_0 : List UInt8 := [42, 3, 181, 0, 35, 42, 180, 0, 146, 60, 42, 3, 181, 0, 146, 27, 172]
abbrev dktX5_clearBuffer_0 : List UInt8 := dkwX5_clearBuffer_0 ++ []
theorem dksX5_clearBuffer_0 : cX5_clearBuffer.data.toList.drop 0 = dktX5_clearBuffer_0 := by decide +kernel
theorem dX5_clearBuffer_0 : decode cX5_clearBuffer 0 = .ok (.aload_n 0, 1) := dk_42 (dk_at dksX5_clearBuffer_0 0 rfl rfl)
theorem dX5_clearBuffer_1 : decode cX5_clearBuffer 1 = .ok (.iconst 0, 1) := dk_3 (dk_at dksX5_clearBuffer_0 1 rfl rfl)
theorem dX5_clearBuffer_2 : decode cX5_clearBuffer 2 = .ok (.putfield 35, 3) := dk_181 0 35 (dk_at dksX5_clearBuffer_0 2 rfl rfl)
theorem dX5_clearBuffer_5 : decode cX5_clearBuffer 5 = .ok (.aload_n 0, 1) := dk_42 (dk_at dksX5_clearBuffer_0 5 rfl rfl)
theorem dX5_clearBuffer_6 : decode cX5_clearBuffer 6 = .ok (.getfield 146, 3) := dk_180 0 146 (dk_at dksX5_clearBuffer_0 6 rfl rfl)
theorem dX5_clearBuffer_9 : decode cX5_clearBuffer 9 = .ok (.istore_n 1, 1) := dk_60 (dk_at dksX5_clearBuffer_0 9 rfl rfl)
theorem dX5_clearBuffer_10 : decode cX5_clearBuffer 10 = .ok (.aload_n 0, 1) := dk_42 (dk_at dksX5_clearBuffer_0 10 rfl rfl)
theorem dX5_clearBuffer_11 : decode cX5_clearBuffer 11 = .ok (.iconst 0, 1) := dk_3 (dk_at dksX5_clearBuffer_0 11 rfl rfl)
theorem dX5_clearBuffer_12 : decode cX5_clearBuffer 12 = .ok (.putfield 146, 3) := dk_181 0 146 (dk_at dksX5_clearBuffer_0 12 rfl rfl)
theorem dX5_clearBuffer_15 : decode cX5_clearBuffer 15 = .ok (.iload_n 1, 1) := dk_27 (dk_at dksX5_clearBuffer_0 15 rfl rfl)
theorem dX5_clearBuffer_16 : decode cX5_clearBuffer 16 = .ok (.ireturn, 1) := dk_172 (dk_at dksX5_clearBuffer_0 16 rfl rfl)
abbrev cX5_firstError : ByteArray := prog_8_method_57_code
def yX5_firstError : MethodName := ⟨RX5, "firstError", "()I"⟩
def dkwX5_firstError_0 : List UInt8 := [42, 3, 181, 0, 35, 42, 182, 0, 177, 42, 180, 0, 149, 172]
abbrev dktX5_firstError_0 : List UInt8 := dkwX5_firstError_0 ++ []
theorem dksX5_firstError_0 : cX5_firstError.data.toList.drop 0 = dktX5_firstError_0 := by decide +kernel
theorem dX5_firstError_0 : decode cX5_firstError 0 = .ok (.aload_n 0, 1) := dk_42 (dk_at dksX5_firstError_0 0 rfl rfl)
theorem dX5_firstError_1 : decode cX5_firstError 1 = .ok (.iconst 0, 1) := dk_3 (dk_at dksX5_firstError_0 1 rfl rfl)
theorem dX5_firstError_2 : decode cX5_firstError 2 = .ok (.putfield 35, 3) := dk_181 0 35 (dk_at dksX5_firstError_0 2 rfl rfl)
theorem dX5_firstError_5 : decode cX5_firstError 5 = .ok (.aload_n 0, 1) := dk_42 (dk_at dksX5_firstError_0 5 rfl rfl)
theorem dX5_firstError_6 : decode cX5_firstError 6 = .ok (.invokevirtual 177, 3) := dk_182 0 177 (dk_at dksX5_firstError_0 6 rfl rfl)
theorem dX5_firstError_9 : decode cX5_firstError 9 = .ok (.aload_n 0, 1) := dk_42 (dk_at dksX5_firstError_0 9 rfl rfl)
theorem dX5_firstError_10 : decode cX5_firstError 10 = .ok (.getfield 149, 3) := dk_180 0 149 (dk_at dksX5_firstError_0 10 rfl rfl)
theorem dX5_firstError_13 : decode cX5_firstError 13 = .ok (.ireturn, 1) := dk_172 (dk_at dksX5_firstError_0 13 rfl rfl)
abbrev cX5_readsAll : ByteArray := prog_8_method_56_code
def yX5_readsAll : MethodName := ⟨RX5, "readsAll", "()V"⟩
def dkwX5_readsAll_2 : List UInt8 := [153, 255, 228, 42, 182, 0, 174, 167, 255, 221, 177]
abbrev dktX5_readsAll_2 : List UInt8 := dkwX5_readsAll_2 ++ []
def dkwX5_readsAll_1 : List UInt8 := [153, 0, 34, 42, 180, 0, 149, 42, 180, 0, 146, 162, 0, 23, 42, 16, 59, 182, 0, 165, 42, 180, 0, 152]
abbrev dktX5_readsAll_1 : List UInt8 := dkwX5_readsAll_1 ++ dktX5_readsAll_2
def dkwX5_readsAll_0 : List UInt8 := [42, 3, 181, 0, 149, 42, 4, 181, 0, 152, 42, 3, 181, 0, 168, 42, 182, 0, 174, 42, 180, 0, 152]
abbrev dktX5_readsAll_0 : List UInt8 := dkwX5_readsAll_0 ++ dktX5_readsAll_1
theorem dksX5_readsAll_0 : cX5_readsAll.data.toList.drop 0 = dktX5_readsAll_0 := by decide +kernel
theorem dksX5_readsAll_1 : cX5_readsAll.data.toList.drop 23 = dktX5_readsAll_1 := dk_seg dksX5_readsAll_0 23 rfl rfl
theorem dksX5_readsAll_2 : cX5_readsAll.data.toList.drop 47 = dktX5_readsAll_2 := dk_seg dksX5_readsAll_1 24 rfl rfl
theorem dX5_readsAll_0 : decode cX5_readsAll 0 = .ok (.aload_n 0, 1) := dk_42 (dk_at dksX5_readsAll_0 0 rfl rfl)
theorem dX5_readsAll_1 : decode cX5_readsAll 1 = .ok (.iconst 0, 1) := dk_3 (dk_at dksX5_readsAll_0 1 rfl rfl)
theorem dX5_readsAll_2 : decode cX5_readsAll 2 = .ok (.putfield 149, 3) := dk_181 0 149 (dk_at dksX5_readsAll_0 2 rfl rfl)
theorem dX5_readsAll_5 : decode cX5_readsAll 5 = .ok (.aload_n 0, 1) := dk_42 (dk_at dksX5_readsAll_0 5 rfl rfl)
theorem dX5_readsAll_6 : decode cX5_readsAll 6 = .ok (.iconst 1, 1) := dk_4 (dk_at dksX5_readsAll_0 6 rfl rfl)
theorem dX5_readsAll_7 : decode cX5_readsAll 7 = .ok (.putfield 152, 3) := dk_181 0 152 (dk_at dksX5_readsAll_0 7 rfl rfl)
theorem dX5_readsAll_10 : decode cX5_readsAll 10 = .ok (.aload_n 0, 1) := dk_42 (dk_at dksX5_readsAll_0 10 rfl rfl)
theorem dX5_readsAll_11 : decode cX5_readsAll 11 = .ok (.iconst 0, 1) := dk_3 (dk_at dksX5_readsAll_0 11 rfl rfl)
theorem dX5_readsAll_12 : decode cX5_readsAll 12 = .ok (.putfield 168, 3) := dk_181 0 168 (dk_at dksX5_readsAll_0 12 rfl rfl)
theorem dX5_readsAll_15 : decode cX5_readsAll 15 = .ok (.aload_n 0, 1) := dk_42 (dk_at dksX5_readsAll_0 15 rfl rfl)
theorem dX5_readsAll_16 : decode cX5_readsAll 16 = .ok (.invokevirtual 174, 3) := dk_182 0 174 (dk_at dksX5_readsAll_0 16 rfl rfl)
theorem dX5_readsAll_19 : decode cX5_readsAll 19 = .ok (.aload_n 0, 1) := dk_42 (dk_at dksX5_readsAll_0 19 rfl rfl)
theorem dX5_readsAll_20 : decode cX5_readsAll 20 = .ok (.getfield 152, 3) := dk_180 0 152 (dk_at dksX5_readsAll_0 20 rfl rfl)
theorem dX5_readsAll_23 : decode cX5_readsAll 23 = .ok (.ifCond .eq 34, 3) := dk_153 0 34 (dk_at dksX5_readsAll_1 0 rfl rfl)
theorem dX5_readsAll_26 : decode cX5_readsAll 26 = .ok (.aload_n 0, 1) := dk_42 (dk_at dksX5_readsAll_1 3 rfl rfl)
theorem dX5_readsAll_27 : decode cX5_readsAll 27 = .ok (.getfield 149, 3) := dk_180 0 149 (dk_at dksX5_readsAll_1 4 rfl rfl)
theorem dX5_readsAll_30 : decode cX5_readsAll 30 = .ok (.aload_n 0, 1) := dk_42 (dk_at dksX5_readsAll_1 7 rfl rfl)
theorem dX5_readsAll_31 : decode cX5_readsAll 31 = .ok (.getfield 146, 3) := dk_180 0 146 (dk_at dksX5_readsAll_1 8 rfl rfl)
theorem dX5_readsAll_34 : decode cX5_readsAll 34 = .ok (.if_icmp .ge 23, 3) := dk_162 0 23 (dk_at dksX5_readsAll_1 11 rfl rfl)
theorem dX5_readsAll_37 : decode cX5_readsAll 37 = .ok (.aload_n 0, 1) := dk_42 (dk_at dksX5_readsAll_1 14 rfl rfl)
theorem dX5_readsAll_38 : decode cX5_readsAll 38 = .ok (.bipush 59, 2) := dk_16 59 (dk_at dksX5_readsAll_1 15 rfl rfl)
theorem dX5_readsAll_40 : decode cX5_readsAll 40 = .ok (.invokevirtual 165, 3) := dk_182 0 165 (dk_at dksX5_readsAll_1 17 rfl rfl)
theorem dX5_readsAll_43 : decode cX5_readsAll 43 = .ok (.aload_n 0, 1) := dk_42 (dk_at dksX5_readsAll_1 20 rfl rfl)
theorem dX5_readsAll_44 : decode cX5_readsAll 44 = .ok (.getfield 152, 3) := dk_180 0 152 (dk_at dksX5_readsAll_1 21 rfl rfl)
theorem dX5_readsAll_47 : decode cX5_readsAll 47 = .ok (.ifCond .eq (-28), 3) := dk_153 255 228 (dk_at dksX5_readsAll_2 0 rfl rfl)
theorem dX5_readsAll_50 : decode cX5_readsAll 50 = .ok (.aload_n 0, 1) := dk_42 (dk_at dksX5_readsAll_2 3 rfl rfl)
theorem dX5_readsAll_51 : decode cX5_readsAll 51 = .ok (.invokevirtual 174, 3) := dk_182 0 174 (dk_at dksX5_readsAll_2 4 rfl rfl)
theorem dX5_readsAll_54 : decode cX5_readsAll 54 = .ok (.goto (-35), 3) := dk_167 255 221 (dk_at dksX5_readsAll_2 7 rfl rfl)
theorem dX5_readsAll_57 : decode cX5_readsAll 57 = .ok (.return_, 1) := dk_177 (dk_at dksX5_readsAll_2 10 rfl rfl)
abbrev cX5_readsPart : ByteArray := prog_8_method_55_code
def yX5_readsPart : MethodName := ⟨RX5, "readsPart", "()V"⟩
def dkwX5_readsPart_1 : List UInt8 := [182, 0, 159, 153, 0, 11, 42, 27, 182, 0, 171, 167, 255, 242, 177]
abbrev dktX5_readsPart_1 : List UInt8 := dkwX5_readsPart_1 ++ []
def dkwX5_readsPart_0 : List UInt8 := [42, 3, 17, 3, 231, 182, 0, 162, 60, 42, 16, 58, 182, 0, 165, 42, 27, 182, 0, 171, 42, 16, 43]
abbrev dktX5_readsPart_0 : List UInt8 := dkwX5_readsPart_0 ++ dktX5_readsPart_1
theorem dksX5_readsPart_0 : cX5_readsPart.data.toList.drop 0 = dktX5_readsPart_0 := by decide +kernel
theorem dksX5_readsPart_1 : cX5_readsPart.data.toList.drop 23 = dktX5_readsPart_1 := dk_seg dksX5_readsPart_0 23 rfl rfl
theorem dX5_readsPart_0 : decode cX5_readsPart 0 = .ok (.aload_n 0, 1) := dk_42 (dk_at dksX5_readsPart_0 0 rfl rfl)
theorem dX5_readsPart_1 : decode cX5_readsPart 1 = .ok (.iconst 0, 1) := dk_3 (dk_at dksX5_readsPart_0 1 rfl rfl)
theorem dX5_readsPart_2 : decode cX5_readsPart 2 = .ok (.sipush 999, 3) := dk_17 3 231 (dk_at dksX5_readsPart_0 2 rfl rfl)
theorem dX5_readsPart_5 : decode cX5_readsPart 5 = .ok (.invokevirtual 162, 3) := dk_182 0 162 (dk_at dksX5_readsPart_0 5 rfl rfl)
theorem dX5_readsPart_8 : decode cX5_readsPart 8 = .ok (.istore_n 1, 1) := dk_60 (dk_at dksX5_readsPart_0 8 rfl rfl)
theorem dX5_readsPart_9 : decode cX5_readsPart 9 = .ok (.aload_n 0, 1) := dk_42 (dk_at dksX5_readsPart_0 9 rfl rfl)
theorem dX5_readsPart_10 : decode cX5_readsPart 10 = .ok (.bipush 58, 2) := dk_16 58 (dk_at dksX5_readsPart_0 10 rfl rfl)
theorem dX5_readsPart_12 : decode cX5_readsPart 12 = .ok (.invokevirtual 165, 3) := dk_182 0 165 (dk_at dksX5_readsPart_0 12 rfl rfl)
theorem dX5_readsPart_15 : decode cX5_readsPart 15 = .ok (.aload_n 0, 1) := dk_42 (dk_at dksX5_readsPart_0 15 rfl rfl)
theorem dX5_readsPart_16 : decode cX5_readsPart 16 = .ok (.iload_n 1, 1) := dk_27 (dk_at dksX5_readsPart_0 16 rfl rfl)
theorem dX5_readsPart_17 : decode cX5_readsPart 17 = .ok (.invokevirtual 171, 3) := dk_182 0 171 (dk_at dksX5_readsPart_0 17 rfl rfl)
theorem dX5_readsPart_20 : decode cX5_readsPart 20 = .ok (.aload_n 0, 1) := dk_42 (dk_at dksX5_readsPart_0 20 rfl rfl)
theorem dX5_readsPart_21 : decode cX5_readsPart 21 = .ok (.bipush 43, 2) := dk_16 43 (dk_at dksX5_readsPart_0 21 rfl rfl)
theorem dX5_readsPart_23 : decode cX5_readsPart 23 = .ok (.invokevirtual 159, 3) := dk_182 0 159 (dk_at dksX5_readsPart_1 0 rfl rfl)
theorem dX5_readsPart_26 : decode cX5_readsPart 26 = .ok (.ifCond .eq 11, 3) := dk_153 0 11 (dk_at dksX5_readsPart_1 3 rfl rfl)
theorem dX5_readsPart_29 : decode cX5_readsPart 29 = .ok (.aload_n 0, 1) := dk_42 (dk_at dksX5_readsPart_1 6 rfl rfl)
theorem dX5_readsPart_30 : decode cX5_readsPart 30 = .ok (.iload_n 1, 1) := dk_27 (dk_at dksX5_readsPart_1 7 rfl rfl)
theorem dX5_readsPart_31 : decode cX5_readsPart 31 = .ok (.invokevirtual 171, 3) := dk_182 0 171 (dk_at dksX5_readsPart_1 8 rfl rfl)
theorem dX5_readsPart_34 : decode cX5_readsPart 34 = .ok (.goto (-14), 3) := dk_167 255 242 (dk_at dksX5_readsPart_1 11 rfl rfl)
theorem dX5_readsPart_37 : decode cX5_readsPart 37 = .ok (.return_, 1) := dk_177 (dk_at dksX5_readsPart_1 14 rfl rfl)
abbrev cX5_number : ByteArray := prog_8_method_53_code
def yX5_number : MethodName := ⟨RX5, "number", "(II)I"⟩
def dkwX5_number_6 : List UInt8 := [29, 172]
abbrev dktX5_number_6 : List UInt8 := dkwX5_number_6 ++ []
def dkwX5_number_5 : List UInt8 := [29, 104, 42, 182, 0, 156, 96, 16, 48, 100, 62, 42, 89, 180, 0, 149, 4, 96, 181, 0, 149, 167, 255, 192]
abbrev dktX5_number_5 : List UInt8 := dkwX5_number_5 ++ dktX5_number_6
def dkwX5_number_4 : List UInt8 := [184, 0, 39, 153, 0, 45, 16, 10, 29, 104, 42, 182, 0, 156, 96, 16, 48, 100, 28, 163, 0, 29, 16, 10]
abbrev dktX5_number_4 : List UInt8 := dkwX5_number_4 ++ dktX5_number_5
def dkwX5_number_3 : List UInt8 := [96, 181, 0, 149, 42, 180, 0, 152, 153, 0, 63, 29, 158, 0, 59, 42, 182, 0, 156, 16, 48, 16, 57]
abbrev dktX5_number_3 : List UInt8 := dkwX5_number_3 ++ dktX5_number_4
def dkwX5_number_2 : List UInt8 := [182, 0, 156, 16, 48, 100, 62, 42, 89, 180, 0, 149, 42, 180, 0, 152, 153, 0, 7, 4, 167, 0, 4, 3]
abbrev dktX5_number_2 : List UInt8 := dkwX5_number_2 ++ dktX5_number_3
def dkwX5_number_1 : List UInt8 := [28, 96, 167, 0, 5, 16, 57, 184, 0, 39, 153, 0, 7, 4, 167, 0, 4, 3, 181, 0, 152, 42]
abbrev dktX5_number_1 : List UInt8 := dkwX5_number_1 ++ dktX5_number_2
def dkwX5_number_0 : List UInt8 := [42, 42, 180, 0, 152, 153, 0, 36, 42, 182, 0, 156, 16, 48, 27, 96, 28, 16, 9, 162, 0, 10, 16, 48]
abbrev dktX5_number_0 : List UInt8 := dkwX5_number_0 ++ dktX5_number_1
theorem dksX5_number_0 : cX5_number.data.toList.drop 0 = dktX5_number_0 := by decide +kernel
theorem dksX5_number_1 : cX5_number.data.toList.drop 24 = dktX5_number_1 := dk_seg dksX5_number_0 24 rfl rfl
theorem dksX5_number_2 : cX5_number.data.toList.drop 46 = dktX5_number_2 := dk_seg dksX5_number_1 22 rfl rfl
theorem dksX5_number_3 : cX5_number.data.toList.drop 70 = dktX5_number_3 := dk_seg dksX5_number_2 24 rfl rfl
theorem dksX5_number_4 : cX5_number.data.toList.drop 93 = dktX5_number_4 := dk_seg dksX5_number_3 23 rfl rfl
theorem dksX5_number_5 : cX5_number.data.toList.drop 117 = dktX5_number_5 := dk_seg dksX5_number_4 24 rfl rfl
theorem dksX5_number_6 : cX5_number.data.toList.drop 141 = dktX5_number_6 := dk_seg dksX5_number_5 24 rfl rfl
theorem dX5_number_0 : decode cX5_number 0 = .ok (.aload_n 0, 1) := dk_42 (dk_at dksX5_number_0 0 rfl rfl)
theorem dX5_number_1 : decode cX5_number 1 = .ok (.aload_n 0, 1) := dk_42 (dk_at dksX5_number_0 1 rfl rfl)
theorem dX5_number_2 : decode cX5_number 2 = .ok (.getfield 152, 3) := dk_180 0 152 (dk_at dksX5_number_0 2 rfl rfl)
theorem dX5_number_5 : decode cX5_number 5 = .ok (.ifCond .eq 36, 3) := dk_153 0 36 (dk_at dksX5_number_0 5 rfl rfl)
theorem dX5_number_8 : decode cX5_number 8 = .ok (.aload_n 0, 1) := dk_42 (dk_at dksX5_number_0 8 rfl rfl)
theorem dX5_number_9 : decode cX5_number 9 = .ok (.invokevirtual 156, 3) := dk_182 0 156 (dk_at dksX5_number_0 9 rfl rfl)
theorem dX5_number_12 : decode cX5_number 12 = .ok (.bipush 48, 2) := dk_16 48 (dk_at dksX5_number_0 12 rfl rfl)
theorem dX5_number_14 : decode cX5_number 14 = .ok (.iload_n 1, 1) := dk_27 (dk_at dksX5_number_0 14 rfl rfl)
theorem dX5_number_15 : decode cX5_number 15 = .ok (.iadd, 1) := dk_96 (dk_at dksX5_number_0 15 rfl rfl)
theorem dX5_number_16 : decode cX5_number 16 = .ok (.iload_n 2, 1) := dk_28 (dk_at dksX5_number_0 16 rfl rfl)
theorem dX5_number_17 : decode cX5_number 17 = .ok (.bipush 9, 2) := dk_16 9 (dk_at dksX5_number_0 17 rfl rfl)
theorem dX5_number_19 : decode cX5_number 19 = .ok (.if_icmp .ge 10, 3) := dk_162 0 10 (dk_at dksX5_number_0 19 rfl rfl)
theorem dX5_number_22 : decode cX5_number 22 = .ok (.bipush 48, 2) := dk_16 48 (dk_at dksX5_number_0 22 rfl rfl)
theorem dX5_number_24 : decode cX5_number 24 = .ok (.iload_n 2, 1) := dk_28 (dk_at dksX5_number_1 0 rfl rfl)
theorem dX5_number_25 : decode cX5_number 25 = .ok (.iadd, 1) := dk_96 (dk_at dksX5_number_1 1 rfl rfl)
theorem dX5_number_26 : decode cX5_number 26 = .ok (.goto 5, 3) := dk_167 0 5 (dk_at dksX5_number_1 2 rfl rfl)
theorem dX5_number_29 : decode cX5_number 29 = .ok (.bipush 57, 2) := dk_16 57 (dk_at dksX5_number_1 5 rfl rfl)
theorem dX5_number_31 : decode cX5_number 31 = .ok (.invokestatic 39, 3) := dk_184 0 39 (dk_at dksX5_number_1 7 rfl rfl)
theorem dX5_number_34 : decode cX5_number 34 = .ok (.ifCond .eq 7, 3) := dk_153 0 7 (dk_at dksX5_number_1 10 rfl rfl)
theorem dX5_number_37 : decode cX5_number 37 = .ok (.iconst 1, 1) := dk_4 (dk_at dksX5_number_1 13 rfl rfl)
theorem dX5_number_38 : decode cX5_number 38 = .ok (.goto 4, 3) := dk_167 0 4 (dk_at dksX5_number_1 14 rfl rfl)
theorem dX5_number_41 : decode cX5_number 41 = .ok (.iconst 0, 1) := dk_3 (dk_at dksX5_number_1 17 rfl rfl)
theorem dX5_number_42 : decode cX5_number 42 = .ok (.putfield 152, 3) := dk_181 0 152 (dk_at dksX5_number_1 18 rfl rfl)
theorem dX5_number_45 : decode cX5_number 45 = .ok (.aload_n 0, 1) := dk_42 (dk_at dksX5_number_1 21 rfl rfl)
theorem dX5_number_46 : decode cX5_number 46 = .ok (.invokevirtual 156, 3) := dk_182 0 156 (dk_at dksX5_number_2 0 rfl rfl)
theorem dX5_number_49 : decode cX5_number 49 = .ok (.bipush 48, 2) := dk_16 48 (dk_at dksX5_number_2 3 rfl rfl)
theorem dX5_number_51 : decode cX5_number 51 = .ok (.isub, 1) := dk_100 (dk_at dksX5_number_2 5 rfl rfl)
theorem dX5_number_52 : decode cX5_number 52 = .ok (.istore_n 3, 1) := dk_62 (dk_at dksX5_number_2 6 rfl rfl)
theorem dX5_number_53 : decode cX5_number 53 = .ok (.aload_n 0, 1) := dk_42 (dk_at dksX5_number_2 7 rfl rfl)
theorem dX5_number_54 : decode cX5_number 54 = .ok (.dup, 1) := dk_89 (dk_at dksX5_number_2 8 rfl rfl)
theorem dX5_number_55 : decode cX5_number 55 = .ok (.getfield 149, 3) := dk_180 0 149 (dk_at dksX5_number_2 9 rfl rfl)
theorem dX5_number_58 : decode cX5_number 58 = .ok (.aload_n 0, 1) := dk_42 (dk_at dksX5_number_2 12 rfl rfl)
theorem dX5_number_59 : decode cX5_number 59 = .ok (.getfield 152, 3) := dk_180 0 152 (dk_at dksX5_number_2 13 rfl rfl)
theorem dX5_number_62 : decode cX5_number 62 = .ok (.ifCond .eq 7, 3) := dk_153 0 7 (dk_at dksX5_number_2 16 rfl rfl)
theorem dX5_number_65 : decode cX5_number 65 = .ok (.iconst 1, 1) := dk_4 (dk_at dksX5_number_2 19 rfl rfl)
theorem dX5_number_66 : decode cX5_number 66 = .ok (.goto 4, 3) := dk_167 0 4 (dk_at dksX5_number_2 20 rfl rfl)
theorem dX5_number_69 : decode cX5_number 69 = .ok (.iconst 0, 1) := dk_3 (dk_at dksX5_number_2 23 rfl rfl)
theorem dX5_number_70 : decode cX5_number 70 = .ok (.iadd, 1) := dk_96 (dk_at dksX5_number_3 0 rfl rfl)
theorem dX5_number_71 : decode cX5_number 71 = .ok (.putfield 149, 3) := dk_181 0 149 (dk_at dksX5_number_3 1 rfl rfl)
theorem dX5_number_74 : decode cX5_number 74 = .ok (.aload_n 0, 1) := dk_42 (dk_at dksX5_number_3 4 rfl rfl)
theorem dX5_number_75 : decode cX5_number 75 = .ok (.getfield 152, 3) := dk_180 0 152 (dk_at dksX5_number_3 5 rfl rfl)
theorem dX5_number_78 : decode cX5_number 78 = .ok (.ifCond .eq 63, 3) := dk_153 0 63 (dk_at dksX5_number_3 8 rfl rfl)
theorem dX5_number_81 : decode cX5_number 81 = .ok (.iload_n 3, 1) := dk_29 (dk_at dksX5_number_3 11 rfl rfl)
theorem dX5_number_82 : decode cX5_number 82 = .ok (.ifCond .le 59, 3) := dk_158 0 59 (dk_at dksX5_number_3 12 rfl rfl)
theorem dX5_number_85 : decode cX5_number 85 = .ok (.aload_n 0, 1) := dk_42 (dk_at dksX5_number_3 15 rfl rfl)
theorem dX5_number_86 : decode cX5_number 86 = .ok (.invokevirtual 156, 3) := dk_182 0 156 (dk_at dksX5_number_3 16 rfl rfl)
theorem dX5_number_89 : decode cX5_number 89 = .ok (.bipush 48, 2) := dk_16 48 (dk_at dksX5_number_3 19 rfl rfl)
theorem dX5_number_91 : decode cX5_number 91 = .ok (.bipush 57, 2) := dk_16 57 (dk_at dksX5_number_3 21 rfl rfl)
theorem dX5_number_93 : decode cX5_number 93 = .ok (.invokestatic 39, 3) := dk_184 0 39 (dk_at dksX5_number_4 0 rfl rfl)
theorem dX5_number_96 : decode cX5_number 96 = .ok (.ifCond .eq 45, 3) := dk_153 0 45 (dk_at dksX5_number_4 3 rfl rfl)
theorem dX5_number_99 : decode cX5_number 99 = .ok (.bipush 10, 2) := dk_16 10 (dk_at dksX5_number_4 6 rfl rfl)
theorem dX5_number_101 : decode cX5_number 101 = .ok (.iload_n 3, 1) := dk_29 (dk_at dksX5_number_4 8 rfl rfl)
theorem dX5_number_102 : decode cX5_number 102 = .ok (.imul, 1) := dk_104 (dk_at dksX5_number_4 9 rfl rfl)
theorem dX5_number_103 : decode cX5_number 103 = .ok (.aload_n 0, 1) := dk_42 (dk_at dksX5_number_4 10 rfl rfl)
theorem dX5_number_104 : decode cX5_number 104 = .ok (.invokevirtual 156, 3) := dk_182 0 156 (dk_at dksX5_number_4 11 rfl rfl)
theorem dX5_number_107 : decode cX5_number 107 = .ok (.iadd, 1) := dk_96 (dk_at dksX5_number_4 14 rfl rfl)
theorem dX5_number_108 : decode cX5_number 108 = .ok (.bipush 48, 2) := dk_16 48 (dk_at dksX5_number_4 15 rfl rfl)
theorem dX5_number_110 : decode cX5_number 110 = .ok (.isub, 1) := dk_100 (dk_at dksX5_number_4 17 rfl rfl)
theorem dX5_number_111 : decode cX5_number 111 = .ok (.iload_n 2, 1) := dk_28 (dk_at dksX5_number_4 18 rfl rfl)
theorem dX5_number_112 : decode cX5_number 112 = .ok (.if_icmp .gt 29, 3) := dk_163 0 29 (dk_at dksX5_number_4 19 rfl rfl)
theorem dX5_number_115 : decode cX5_number 115 = .ok (.bipush 10, 2) := dk_16 10 (dk_at dksX5_number_4 22 rfl rfl)
theorem dX5_number_117 : decode cX5_number 117 = .ok (.iload_n 3, 1) := dk_29 (dk_at dksX5_number_5 0 rfl rfl)
theorem dX5_number_118 : decode cX5_number 118 = .ok (.imul, 1) := dk_104 (dk_at dksX5_number_5 1 rfl rfl)
theorem dX5_number_119 : decode cX5_number 119 = .ok (.aload_n 0, 1) := dk_42 (dk_at dksX5_number_5 2 rfl rfl)
theorem dX5_number_120 : decode cX5_number 120 = .ok (.invokevirtual 156, 3) := dk_182 0 156 (dk_at dksX5_number_5 3 rfl rfl)
theorem dX5_number_123 : decode cX5_number 123 = .ok (.iadd, 1) := dk_96 (dk_at dksX5_number_5 6 rfl rfl)
theorem dX5_number_124 : decode cX5_number 124 = .ok (.bipush 48, 2) := dk_16 48 (dk_at dksX5_number_5 7 rfl rfl)
theorem dX5_number_126 : decode cX5_number 126 = .ok (.isub, 1) := dk_100 (dk_at dksX5_number_5 9 rfl rfl)
theorem dX5_number_127 : decode cX5_number 127 = .ok (.istore_n 3, 1) := dk_62 (dk_at dksX5_number_5 10 rfl rfl)
theorem dX5_number_128 : decode cX5_number 128 = .ok (.aload_n 0, 1) := dk_42 (dk_at dksX5_number_5 11 rfl rfl)
theorem dX5_number_129 : decode cX5_number 129 = .ok (.dup, 1) := dk_89 (dk_at dksX5_number_5 12 rfl rfl)
theorem dX5_number_130 : decode cX5_number 130 = .ok (.getfield 149, 3) := dk_180 0 149 (dk_at dksX5_number_5 13 rfl rfl)
theorem dX5_number_133 : decode cX5_number 133 = .ok (.iconst 1, 1) := dk_4 (dk_at dksX5_number_5 16 rfl rfl)
theorem dX5_number_134 : decode cX5_number 134 = .ok (.iadd, 1) := dk_96 (dk_at dksX5_number_5 17 rfl rfl)
theorem dX5_number_135 : decode cX5_number 135 = .ok (.putfield 149, 3) := dk_181 0 149 (dk_at dksX5_number_5 18 rfl rfl)
theorem dX5_number_138 : decode cX5_number 138 = .ok (.goto (-64), 3) := dk_167 255 192 (dk_at dksX5_number_5 21 rfl rfl)
theorem dX5_number_141 : decode cX5_number 141 = .ok (.iload_n 3, 1) := dk_29 (dk_at dksX5_number_6 0 rfl rfl)
theorem dX5_number_142 : decode cX5_number 142 = .ok (.ireturn, 1) := dk_172 (dk_at dksX5_number_6 1 rfl rfl)
abbrev cX5_sign : ByteArray := prog_8_method_50_code
def yX5_sign : MethodName := ⟨RX5, "sign", "()I"⟩
def dkwX5_sign_1 : List UInt8 := [172]
abbrev dktX5_sign_1 : List UInt8 := dkwX5_sign_1 ++ []
def dkwX5_sign_0 : List UInt8 := [42, 180, 0, 149, 42, 180, 0, 146, 162, 0, 15, 42, 180, 0, 19, 42, 180, 0, 149, 46, 167, 0, 4, 3]
abbrev dktX5_sign_0 : List UInt8 := dkwX5_sign_0 ++ dktX5_sign_1
theorem dksX5_sign_0 : cX5_sign.data.toList.drop 0 = dktX5_sign_0 := by decide +kernel
theorem dksX5_sign_1 : cX5_sign.data.toList.drop 24 = dktX5_sign_1 := dk_seg dksX5_sign_0 24 rfl rfl
theorem dX5_sign_0 : decode cX5_sign 0 = .ok (.aload_n 0, 1) := dk_42 (dk_at dksX5_sign_0 0 rfl rfl)
theorem dX5_sign_1 : decode cX5_sign 1 = .ok (.getfield 149, 3) := dk_180 0 149 (dk_at dksX5_sign_0 1 rfl rfl)
theorem dX5_sign_4 : decode cX5_sign 4 = .ok (.aload_n 0, 1) := dk_42 (dk_at dksX5_sign_0 4 rfl rfl)
theorem dX5_sign_5 : decode cX5_sign 5 = .ok (.getfield 146, 3) := dk_180 0 146 (dk_at dksX5_sign_0 5 rfl rfl)
theorem dX5_sign_8 : decode cX5_sign 8 = .ok (.if_icmp .ge 15, 3) := dk_162 0 15 (dk_at dksX5_sign_0 8 rfl rfl)
theorem dX5_sign_11 : decode cX5_sign 11 = .ok (.aload_n 0, 1) := dk_42 (dk_at dksX5_sign_0 11 rfl rfl)
theorem dX5_sign_12 : decode cX5_sign 12 = .ok (.getfield 19, 3) := dk_180 0 19 (dk_at dksX5_sign_0 12 rfl rfl)
theorem dX5_sign_15 : decode cX5_sign 15 = .ok (.aload_n 0, 1) := dk_42 (dk_at dksX5_sign_0 15 rfl rfl)
theorem dX5_sign_16 : decode cX5_sign 16 = .ok (.getfield 149, 3) := dk_180 0 149 (dk_at dksX5_sign_0 16 rfl rfl)
theorem dX5_sign_19 : decode cX5_sign 19 = .ok (.iaload, 1) := dk_46 (dk_at dksX5_sign_0 19 rfl rfl)
theorem dX5_sign_20 : decode cX5_sign 20 = .ok (.goto 4, 3) := dk_167 0 4 (dk_at dksX5_sign_0 20 rfl rfl)
theorem dX5_sign_23 : decode cX5_sign 23 = .ok (.iconst 0, 1) := dk_3 (dk_at dksX5_sign_0 23 rfl rfl)
theorem dX5_sign_24 : decode cX5_sign 24 = .ok (.ireturn, 1) := dk_172 (dk_at dksX5_sign_1 0 rfl rfl)
abbrev cX5_wants : ByteArray := prog_8_method_52_code
def yX5_wants : MethodName := ⟨RX5, "wants", "(I)V"⟩
def dkwX5_wants_0 : List UInt8 := [42, 42, 27, 182, 0, 159, 181, 0, 152, 177]
abbrev dktX5_wants_0 : List UInt8 := dkwX5_wants_0 ++ []
theorem dksX5_wants_0 : cX5_wants.data.toList.drop 0 = dktX5_wants_0 := by decide +kernel
theorem dX5_wants_0 : decode cX5_wants 0 = .ok (.aload_n 0, 1) := dk_42 (dk_at dksX5_wants_0 0 rfl rfl)
theorem dX5_wants_1 : decode cX5_wants 1 = .ok (.aload_n 0, 1) := dk_42 (dk_at dksX5_wants_0 1 rfl rfl)
theorem dX5_wants_2 : decode cX5_wants 2 = .ok (.iload_n 1, 1) := dk_27 (dk_at dksX5_wants_0 2 rfl rfl)
theorem dX5_wants_3 : decode cX5_wants 3 = .ok (.invokevirtual 159, 3) := dk_182 0 159 (dk_at dksX5_wants_0 3 rfl rfl)
theorem dX5_wants_6 : decode cX5_wants 6 = .ok (.putfield 152, 3) := dk_181 0 152 (dk_at dksX5_wants_0 6 rfl rfl)
theorem dX5_wants_9 : decode cX5_wants 9 = .ok (.return_, 1) := dk_177 (dk_at dksX5_wants_0 9 rfl rfl)
abbrev cX5_takes : ByteArray := prog_8_method_51_code
def yX5_takes : MethodName := ⟨RX5, "takes", "(I)Z"⟩
def dkwX5_takes_1 : List UInt8 := [180, 0, 149, 28, 153, 0, 7, 4, 167, 0, 4, 3, 96, 181, 0, 149, 28, 172]
abbrev dktX5_takes_1 : List UInt8 := dkwX5_takes_1 ++ []
def dkwX5_takes_0 : List UInt8 := [42, 180, 0, 152, 153, 0, 15, 42, 182, 0, 156, 27, 160, 0, 7, 4, 167, 0, 4, 3, 61, 42, 89]
abbrev dktX5_takes_0 : List UInt8 := dkwX5_takes_0 ++ dktX5_takes_1
theorem dksX5_takes_0 : cX5_takes.data.toList.drop 0 = dktX5_takes_0 := by decide +kernel
theorem dksX5_takes_1 : cX5_takes.data.toList.drop 23 = dktX5_takes_1 := dk_seg dksX5_takes_0 23 rfl rfl
theorem dX5_takes_0 : decode cX5_takes 0 = .ok (.aload_n 0, 1) := dk_42 (dk_at dksX5_takes_0 0 rfl rfl)
theorem dX5_takes_1 : decode cX5_takes 1 = .ok (.getfield 152, 3) := dk_180 0 152 (dk_at dksX5_takes_0 1 rfl rfl)
theorem dX5_takes_4 : decode cX5_takes 4 = .ok (.ifCond .eq 15, 3) := dk_153 0 15 (dk_at dksX5_takes_0 4 rfl rfl)
theorem dX5_takes_7 : decode cX5_takes 7 = .ok (.aload_n 0, 1) := dk_42 (dk_at dksX5_takes_0 7 rfl rfl)
theorem dX5_takes_8 : decode cX5_takes 8 = .ok (.invokevirtual 156, 3) := dk_182 0 156 (dk_at dksX5_takes_0 8 rfl rfl)
theorem dX5_takes_11 : decode cX5_takes 11 = .ok (.iload_n 1, 1) := dk_27 (dk_at dksX5_takes_0 11 rfl rfl)
theorem dX5_takes_12 : decode cX5_takes 12 = .ok (.if_icmp .ne 7, 3) := dk_160 0 7 (dk_at dksX5_takes_0 12 rfl rfl)
theorem dX5_takes_15 : decode cX5_takes 15 = .ok (.iconst 1, 1) := dk_4 (dk_at dksX5_takes_0 15 rfl rfl)
theorem dX5_takes_16 : decode cX5_takes 16 = .ok (.goto 4, 3) := dk_167 0 4 (dk_at dksX5_takes_0 16 rfl rfl)
theorem dX5_takes_19 : decode cX5_takes 19 = .ok (.iconst 0, 1) := dk_3 (dk_at dksX5_takes_0 19 rfl rfl)
theorem dX5_takes_20 : decode cX5_takes 20 = .ok (.istore_n 2, 1) := dk_61 (dk_at dksX5_takes_0 20 rfl rfl)
theorem dX5_takes_21 : decode cX5_takes 21 = .ok (.aload_n 0, 1) := dk_42 (dk_at dksX5_takes_0 21 rfl rfl)
theorem dX5_takes_22 : decode cX5_takes 22 = .ok (.dup, 1) := dk_89 (dk_at dksX5_takes_0 22 rfl rfl)
theorem dX5_takes_23 : decode cX5_takes 23 = .ok (.getfield 149, 3) := dk_180 0 149 (dk_at dksX5_takes_1 0 rfl rfl)
theorem dX5_takes_26 : decode cX5_takes 26 = .ok (.iload_n 2, 1) := dk_28 (dk_at dksX5_takes_1 3 rfl rfl)
theorem dX5_takes_27 : decode cX5_takes 27 = .ok (.ifCond .eq 7, 3) := dk_153 0 7 (dk_at dksX5_takes_1 4 rfl rfl)
theorem dX5_takes_30 : decode cX5_takes 30 = .ok (.iconst 1, 1) := dk_4 (dk_at dksX5_takes_1 7 rfl rfl)
theorem dX5_takes_31 : decode cX5_takes 31 = .ok (.goto 4, 3) := dk_167 0 4 (dk_at dksX5_takes_1 8 rfl rfl)
theorem dX5_takes_34 : decode cX5_takes 34 = .ok (.iconst 0, 1) := dk_3 (dk_at dksX5_takes_1 11 rfl rfl)
theorem dX5_takes_35 : decode cX5_takes 35 = .ok (.iadd, 1) := dk_96 (dk_at dksX5_takes_1 12 rfl rfl)
theorem dX5_takes_36 : decode cX5_takes 36 = .ok (.putfield 149, 3) := dk_181 0 149 (dk_at dksX5_takes_1 13 rfl rfl)
theorem dX5_takes_39 : decode cX5_takes 39 = .ok (.iload_n 2, 1) := dk_28 (dk_at dksX5_takes_1 16 rfl rfl)
theorem dX5_takes_40 : decode cX5_takes 40 = .ok (.ireturn, 1) := dk_172 (dk_at dksX5_takes_1 17 rfl rfl)
abbrev cX5_readsGroup : ByteArray := prog_8_method_54_code
def yX5_readsGroup : MethodName := ⟨RX5, "readsGroup", "(I)V"⟩
def dkwX5_readsGroup_3 : List UInt8 := [180, 0, 168, 4, 96, 181, 0, 168, 177]
abbrev dktX5_readsGroup_3 : List UInt8 := dkwX5_readsGroup_3 ++ []
def dkwX5_readsGroup_2 : List UInt8 := [180, 0, 168, 104, 4, 96, 28, 79, 42, 180, 0, 32, 6, 42, 180, 0, 168, 104, 5, 96, 29, 79, 42, 89]
abbrev dktX5_readsGroup_2 : List UInt8 := dkwX5_readsGroup_2 ++ dktX5_readsGroup_3
def dkwX5_readsGroup_1 : List UInt8 := [180, 0, 152, 153, 0, 53, 42, 180, 0, 32, 6, 42, 180, 0, 168, 104, 27, 79, 42, 180, 0, 32, 6, 42]
abbrev dktX5_readsGroup_1 : List UInt8 := dkwX5_readsGroup_1 ++ dktX5_readsGroup_2
def dkwX5_readsGroup_0 : List UInt8 := [42, 4, 16, 99, 182, 0, 162, 61, 42, 16, 64, 182, 0, 165, 42, 3, 16, 7, 182, 0, 162, 62, 42]
abbrev dktX5_readsGroup_0 : List UInt8 := dkwX5_readsGroup_0 ++ dktX5_readsGroup_1
theorem dksX5_readsGroup_0 : cX5_readsGroup.data.toList.drop 0 = dktX5_readsGroup_0 := by decide +kernel
theorem dksX5_readsGroup_1 : cX5_readsGroup.data.toList.drop 23 = dktX5_readsGroup_1 := dk_seg dksX5_readsGroup_0 23 rfl rfl
theorem dksX5_readsGroup_2 : cX5_readsGroup.data.toList.drop 47 = dktX5_readsGroup_2 := dk_seg dksX5_readsGroup_1 24 rfl rfl
theorem dksX5_readsGroup_3 : cX5_readsGroup.data.toList.drop 71 = dktX5_readsGroup_3 := dk_seg dksX5_readsGroup_2 24 rfl rfl
theorem dX5_readsGroup_0 : decode cX5_readsGroup 0 = .ok (.aload_n 0, 1) := dk_42 (dk_at dksX5_readsGroup_0 0 rfl rfl)
theorem dX5_readsGroup_1 : decode cX5_readsGroup 1 = .ok (.iconst 1, 1) := dk_4 (dk_at dksX5_readsGroup_0 1 rfl rfl)
theorem dX5_readsGroup_2 : decode cX5_readsGroup 2 = .ok (.bipush 99, 2) := dk_16 99 (dk_at dksX5_readsGroup_0 2 rfl rfl)
theorem dX5_readsGroup_4 : decode cX5_readsGroup 4 = .ok (.invokevirtual 162, 3) := dk_182 0 162 (dk_at dksX5_readsGroup_0 4 rfl rfl)
theorem dX5_readsGroup_7 : decode cX5_readsGroup 7 = .ok (.istore_n 2, 1) := dk_61 (dk_at dksX5_readsGroup_0 7 rfl rfl)
theorem dX5_readsGroup_8 : decode cX5_readsGroup 8 = .ok (.aload_n 0, 1) := dk_42 (dk_at dksX5_readsGroup_0 8 rfl rfl)
theorem dX5_readsGroup_9 : decode cX5_readsGroup 9 = .ok (.bipush 64, 2) := dk_16 64 (dk_at dksX5_readsGroup_0 9 rfl rfl)
theorem dX5_readsGroup_11 : decode cX5_readsGroup 11 = .ok (.invokevirtual 165, 3) := dk_182 0 165 (dk_at dksX5_readsGroup_0 11 rfl rfl)
theorem dX5_readsGroup_14 : decode cX5_readsGroup 14 = .ok (.aload_n 0, 1) := dk_42 (dk_at dksX5_readsGroup_0 14 rfl rfl)
theorem dX5_readsGroup_15 : decode cX5_readsGroup 15 = .ok (.iconst 0, 1) := dk_3 (dk_at dksX5_readsGroup_0 15 rfl rfl)
theorem dX5_readsGroup_16 : decode cX5_readsGroup 16 = .ok (.bipush 7, 2) := dk_16 7 (dk_at dksX5_readsGroup_0 16 rfl rfl)
theorem dX5_readsGroup_18 : decode cX5_readsGroup 18 = .ok (.invokevirtual 162, 3) := dk_182 0 162 (dk_at dksX5_readsGroup_0 18 rfl rfl)
theorem dX5_readsGroup_21 : decode cX5_readsGroup 21 = .ok (.istore_n 3, 1) := dk_62 (dk_at dksX5_readsGroup_0 21 rfl rfl)
theorem dX5_readsGroup_22 : decode cX5_readsGroup 22 = .ok (.aload_n 0, 1) := dk_42 (dk_at dksX5_readsGroup_0 22 rfl rfl)
theorem dX5_readsGroup_23 : decode cX5_readsGroup 23 = .ok (.getfield 152, 3) := dk_180 0 152 (dk_at dksX5_readsGroup_1 0 rfl rfl)
theorem dX5_readsGroup_26 : decode cX5_readsGroup 26 = .ok (.ifCond .eq 53, 3) := dk_153 0 53 (dk_at dksX5_readsGroup_1 3 rfl rfl)
theorem dX5_readsGroup_29 : decode cX5_readsGroup 29 = .ok (.aload_n 0, 1) := dk_42 (dk_at dksX5_readsGroup_1 6 rfl rfl)
theorem dX5_readsGroup_30 : decode cX5_readsGroup 30 = .ok (.getfield 32, 3) := dk_180 0 32 (dk_at dksX5_readsGroup_1 7 rfl rfl)
theorem dX5_readsGroup_33 : decode cX5_readsGroup 33 = .ok (.iconst 3, 1) := dk_6 (dk_at dksX5_readsGroup_1 10 rfl rfl)
theorem dX5_readsGroup_34 : decode cX5_readsGroup 34 = .ok (.aload_n 0, 1) := dk_42 (dk_at dksX5_readsGroup_1 11 rfl rfl)
theorem dX5_readsGroup_35 : decode cX5_readsGroup 35 = .ok (.getfield 168, 3) := dk_180 0 168 (dk_at dksX5_readsGroup_1 12 rfl rfl)
theorem dX5_readsGroup_38 : decode cX5_readsGroup 38 = .ok (.imul, 1) := dk_104 (dk_at dksX5_readsGroup_1 15 rfl rfl)
theorem dX5_readsGroup_39 : decode cX5_readsGroup 39 = .ok (.iload_n 1, 1) := dk_27 (dk_at dksX5_readsGroup_1 16 rfl rfl)
theorem dX5_readsGroup_40 : decode cX5_readsGroup 40 = .ok (.iastore, 1) := dk_79 (dk_at dksX5_readsGroup_1 17 rfl rfl)
theorem dX5_readsGroup_41 : decode cX5_readsGroup 41 = .ok (.aload_n 0, 1) := dk_42 (dk_at dksX5_readsGroup_1 18 rfl rfl)
theorem dX5_readsGroup_42 : decode cX5_readsGroup 42 = .ok (.getfield 32, 3) := dk_180 0 32 (dk_at dksX5_readsGroup_1 19 rfl rfl)
theorem dX5_readsGroup_45 : decode cX5_readsGroup 45 = .ok (.iconst 3, 1) := dk_6 (dk_at dksX5_readsGroup_1 22 rfl rfl)
theorem dX5_readsGroup_46 : decode cX5_readsGroup 46 = .ok (.aload_n 0, 1) := dk_42 (dk_at dksX5_readsGroup_1 23 rfl rfl)
theorem dX5_readsGroup_47 : decode cX5_readsGroup 47 = .ok (.getfield 168, 3) := dk_180 0 168 (dk_at dksX5_readsGroup_2 0 rfl rfl)
theorem dX5_readsGroup_50 : decode cX5_readsGroup 50 = .ok (.imul, 1) := dk_104 (dk_at dksX5_readsGroup_2 3 rfl rfl)
theorem dX5_readsGroup_51 : decode cX5_readsGroup 51 = .ok (.iconst 1, 1) := dk_4 (dk_at dksX5_readsGroup_2 4 rfl rfl)
theorem dX5_readsGroup_52 : decode cX5_readsGroup 52 = .ok (.iadd, 1) := dk_96 (dk_at dksX5_readsGroup_2 5 rfl rfl)
theorem dX5_readsGroup_53 : decode cX5_readsGroup 53 = .ok (.iload_n 2, 1) := dk_28 (dk_at dksX5_readsGroup_2 6 rfl rfl)
theorem dX5_readsGroup_54 : decode cX5_readsGroup 54 = .ok (.iastore, 1) := dk_79 (dk_at dksX5_readsGroup_2 7 rfl rfl)
theorem dX5_readsGroup_55 : decode cX5_readsGroup 55 = .ok (.aload_n 0, 1) := dk_42 (dk_at dksX5_readsGroup_2 8 rfl rfl)
theorem dX5_readsGroup_56 : decode cX5_readsGroup 56 = .ok (.getfield 32, 3) := dk_180 0 32 (dk_at dksX5_readsGroup_2 9 rfl rfl)
theorem dX5_readsGroup_59 : decode cX5_readsGroup 59 = .ok (.iconst 3, 1) := dk_6 (dk_at dksX5_readsGroup_2 12 rfl rfl)
theorem dX5_readsGroup_60 : decode cX5_readsGroup 60 = .ok (.aload_n 0, 1) := dk_42 (dk_at dksX5_readsGroup_2 13 rfl rfl)
theorem dX5_readsGroup_61 : decode cX5_readsGroup 61 = .ok (.getfield 168, 3) := dk_180 0 168 (dk_at dksX5_readsGroup_2 14 rfl rfl)
theorem dX5_readsGroup_64 : decode cX5_readsGroup 64 = .ok (.imul, 1) := dk_104 (dk_at dksX5_readsGroup_2 17 rfl rfl)
theorem dX5_readsGroup_65 : decode cX5_readsGroup 65 = .ok (.iconst 2, 1) := dk_5 (dk_at dksX5_readsGroup_2 18 rfl rfl)
theorem dX5_readsGroup_66 : decode cX5_readsGroup 66 = .ok (.iadd, 1) := dk_96 (dk_at dksX5_readsGroup_2 19 rfl rfl)
theorem dX5_readsGroup_67 : decode cX5_readsGroup 67 = .ok (.iload_n 3, 1) := dk_29 (dk_at dksX5_readsGroup_2 20 rfl rfl)
theorem dX5_readsGroup_68 : decode cX5_readsGroup 68 = .ok (.iastore, 1) := dk_79 (dk_at dksX5_readsGroup_2 21 rfl rfl)
theorem dX5_readsGroup_69 : decode cX5_readsGroup 69 = .ok (.aload_n 0, 1) := dk_42 (dk_at dksX5_readsGroup_2 22 rfl rfl)
theorem dX5_readsGroup_70 : decode cX5_readsGroup 70 = .ok (.dup, 1) := dk_89 (dk_at dksX5_readsGroup_2 23 rfl rfl)
theorem dX5_readsGroup_71 : decode cX5_readsGroup 71 = .ok (.getfield 168, 3) := dk_180 0 168 (dk_at dksX5_readsGroup_3 0 rfl rfl)
theorem dX5_readsGroup_74 : decode cX5_readsGroup 74 = .ok (.iconst 1, 1) := dk_4 (dk_at dksX5_readsGroup_3 3 rfl rfl)
theorem dX5_readsGroup_75 : decode cX5_readsGroup 75 = .ok (.iadd, 1) := dk_96 (dk_at dksX5_readsGroup_3 4 rfl rfl)
theorem dX5_readsGroup_76 : decode cX5_readsGroup 76 = .ok (.putfield 168, 3) := dk_181 0 168 (dk_at dksX5_readsGroup_3 5 rfl rfl)
theorem dX5_readsGroup_79 : decode cX5_readsGroup 79 = .ok (.return_, 1) := dk_177 (dk_at dksX5_readsGroup_3 8 rfl rfl)
abbrev cX5_planAll : ByteArray := prog_8_method_58_code
def yX5_planAll : MethodName := ⟨RX5, "planAll", "()I"⟩
def dkwX5_planAll_6 : List UInt8 := [104, 5, 96, 46, 182, 0, 137, 132, 2, 1, 167, 255, 213, 42, 180, 0, 7, 16, 7, 46, 172]
abbrev dktX5_planAll_6 : List UInt8 := dkwX5_planAll_6 ++ []
def dkwX5_planAll_5 : List UInt8 := [42, 180, 0, 32, 6, 28, 104, 46, 42, 180, 0, 32, 6, 28, 104, 4, 96, 46, 42, 180, 0, 32, 6, 28]
abbrev dktX5_planAll_5 : List UInt8 := dkwX5_planAll_5 ++ dktX5_planAll_6
def dkwX5_planAll_4 : List UInt8 := [182, 0, 124, 172, 42, 182, 0, 127, 42, 3, 181, 0, 146, 3, 61, 28, 42, 180, 0, 168, 162, 0, 41, 42]
abbrev dktX5_planAll_4 : List UInt8 := dkwX5_planAll_4 ++ dktX5_planAll_5
def dkwX5_planAll_3 : List UInt8 := [8, 46, 161, 0, 7, 4, 167, 0, 4, 3, 60, 132, 2, 1, 167, 255, 218, 27, 154, 0, 9, 42, 5]
abbrev dktX5_planAll_3 : List UInt8 := dkwX5_planAll_3 ++ dktX5_planAll_4
def dkwX5_planAll_2 : List UInt8 := [28, 42, 180, 0, 168, 162, 0, 36, 27, 153, 0, 24, 42, 180, 0, 32, 6, 28, 104, 46, 42, 180, 0, 7]
abbrev dktX5_planAll_2 : List UInt8 := dkwX5_planAll_2 ++ dktX5_planAll_3
def dkwX5_planAll_1 : List UInt8 := [180, 0, 7, 16, 7, 46, 42, 180, 0, 168, 96, 16, 16, 163, 0, 7, 4, 167, 0, 4, 3, 60, 3, 61]
abbrev dktX5_planAll_1 : List UInt8 := dkwX5_planAll_1 ++ dktX5_planAll_2
def dkwX5_planAll_0 : List UInt8 := [42, 3, 181, 0, 35, 42, 182, 0, 177, 42, 180, 0, 152, 154, 0, 9, 42, 4, 182, 0, 124, 172, 42]
abbrev dktX5_planAll_0 : List UInt8 := dkwX5_planAll_0 ++ dktX5_planAll_1
theorem dksX5_planAll_0 : cX5_planAll.data.toList.drop 0 = dktX5_planAll_0 := by decide +kernel
theorem dksX5_planAll_1 : cX5_planAll.data.toList.drop 23 = dktX5_planAll_1 := dk_seg dksX5_planAll_0 23 rfl rfl
theorem dksX5_planAll_2 : cX5_planAll.data.toList.drop 47 = dktX5_planAll_2 := dk_seg dksX5_planAll_1 24 rfl rfl
theorem dksX5_planAll_3 : cX5_planAll.data.toList.drop 71 = dktX5_planAll_3 := dk_seg dksX5_planAll_2 24 rfl rfl
theorem dksX5_planAll_4 : cX5_planAll.data.toList.drop 94 = dktX5_planAll_4 := dk_seg dksX5_planAll_3 23 rfl rfl
theorem dksX5_planAll_5 : cX5_planAll.data.toList.drop 118 = dktX5_planAll_5 := dk_seg dksX5_planAll_4 24 rfl rfl
theorem dksX5_planAll_6 : cX5_planAll.data.toList.drop 142 = dktX5_planAll_6 := dk_seg dksX5_planAll_5 24 rfl rfl
theorem dX5_planAll_0 : decode cX5_planAll 0 = .ok (.aload_n 0, 1) := dk_42 (dk_at dksX5_planAll_0 0 rfl rfl)
theorem dX5_planAll_1 : decode cX5_planAll 1 = .ok (.iconst 0, 1) := dk_3 (dk_at dksX5_planAll_0 1 rfl rfl)
theorem dX5_planAll_2 : decode cX5_planAll 2 = .ok (.putfield 35, 3) := dk_181 0 35 (dk_at dksX5_planAll_0 2 rfl rfl)
theorem dX5_planAll_5 : decode cX5_planAll 5 = .ok (.aload_n 0, 1) := dk_42 (dk_at dksX5_planAll_0 5 rfl rfl)
theorem dX5_planAll_6 : decode cX5_planAll 6 = .ok (.invokevirtual 177, 3) := dk_182 0 177 (dk_at dksX5_planAll_0 6 rfl rfl)
theorem dX5_planAll_9 : decode cX5_planAll 9 = .ok (.aload_n 0, 1) := dk_42 (dk_at dksX5_planAll_0 9 rfl rfl)
theorem dX5_planAll_10 : decode cX5_planAll 10 = .ok (.getfield 152, 3) := dk_180 0 152 (dk_at dksX5_planAll_0 10 rfl rfl)
theorem dX5_planAll_13 : decode cX5_planAll 13 = .ok (.ifCond .ne 9, 3) := dk_154 0 9 (dk_at dksX5_planAll_0 13 rfl rfl)
theorem dX5_planAll_16 : decode cX5_planAll 16 = .ok (.aload_n 0, 1) := dk_42 (dk_at dksX5_planAll_0 16 rfl rfl)
theorem dX5_planAll_17 : decode cX5_planAll 17 = .ok (.iconst 1, 1) := dk_4 (dk_at dksX5_planAll_0 17 rfl rfl)
theorem dX5_planAll_18 : decode cX5_planAll 18 = .ok (.invokevirtual 124, 3) := dk_182 0 124 (dk_at dksX5_planAll_0 18 rfl rfl)
theorem dX5_planAll_21 : decode cX5_planAll 21 = .ok (.ireturn, 1) := dk_172 (dk_at dksX5_planAll_0 21 rfl rfl)
theorem dX5_planAll_22 : decode cX5_planAll 22 = .ok (.aload_n 0, 1) := dk_42 (dk_at dksX5_planAll_0 22 rfl rfl)
theorem dX5_planAll_23 : decode cX5_planAll 23 = .ok (.getfield 7, 3) := dk_180 0 7 (dk_at dksX5_planAll_1 0 rfl rfl)
theorem dX5_planAll_26 : decode cX5_planAll 26 = .ok (.bipush 7, 2) := dk_16 7 (dk_at dksX5_planAll_1 3 rfl rfl)
theorem dX5_planAll_28 : decode cX5_planAll 28 = .ok (.iaload, 1) := dk_46 (dk_at dksX5_planAll_1 5 rfl rfl)
theorem dX5_planAll_29 : decode cX5_planAll 29 = .ok (.aload_n 0, 1) := dk_42 (dk_at dksX5_planAll_1 6 rfl rfl)
theorem dX5_planAll_30 : decode cX5_planAll 30 = .ok (.getfield 168, 3) := dk_180 0 168 (dk_at dksX5_planAll_1 7 rfl rfl)
theorem dX5_planAll_33 : decode cX5_planAll 33 = .ok (.iadd, 1) := dk_96 (dk_at dksX5_planAll_1 10 rfl rfl)
theorem dX5_planAll_34 : decode cX5_planAll 34 = .ok (.bipush 16, 2) := dk_16 16 (dk_at dksX5_planAll_1 11 rfl rfl)
theorem dX5_planAll_36 : decode cX5_planAll 36 = .ok (.if_icmp .gt 7, 3) := dk_163 0 7 (dk_at dksX5_planAll_1 13 rfl rfl)
theorem dX5_planAll_39 : decode cX5_planAll 39 = .ok (.iconst 1, 1) := dk_4 (dk_at dksX5_planAll_1 16 rfl rfl)
theorem dX5_planAll_40 : decode cX5_planAll 40 = .ok (.goto 4, 3) := dk_167 0 4 (dk_at dksX5_planAll_1 17 rfl rfl)
theorem dX5_planAll_43 : decode cX5_planAll 43 = .ok (.iconst 0, 1) := dk_3 (dk_at dksX5_planAll_1 20 rfl rfl)
theorem dX5_planAll_44 : decode cX5_planAll 44 = .ok (.istore_n 1, 1) := dk_60 (dk_at dksX5_planAll_1 21 rfl rfl)
theorem dX5_planAll_45 : decode cX5_planAll 45 = .ok (.iconst 0, 1) := dk_3 (dk_at dksX5_planAll_1 22 rfl rfl)
theorem dX5_planAll_46 : decode cX5_planAll 46 = .ok (.istore_n 2, 1) := dk_61 (dk_at dksX5_planAll_1 23 rfl rfl)
theorem dX5_planAll_47 : decode cX5_planAll 47 = .ok (.iload_n 2, 1) := dk_28 (dk_at dksX5_planAll_2 0 rfl rfl)
theorem dX5_planAll_48 : decode cX5_planAll 48 = .ok (.aload_n 0, 1) := dk_42 (dk_at dksX5_planAll_2 1 rfl rfl)
theorem dX5_planAll_49 : decode cX5_planAll 49 = .ok (.getfield 168, 3) := dk_180 0 168 (dk_at dksX5_planAll_2 2 rfl rfl)
theorem dX5_planAll_52 : decode cX5_planAll 52 = .ok (.if_icmp .ge 36, 3) := dk_162 0 36 (dk_at dksX5_planAll_2 5 rfl rfl)
theorem dX5_planAll_55 : decode cX5_planAll 55 = .ok (.iload_n 1, 1) := dk_27 (dk_at dksX5_planAll_2 8 rfl rfl)
theorem dX5_planAll_56 : decode cX5_planAll 56 = .ok (.ifCond .eq 24, 3) := dk_153 0 24 (dk_at dksX5_planAll_2 9 rfl rfl)
theorem dX5_planAll_59 : decode cX5_planAll 59 = .ok (.aload_n 0, 1) := dk_42 (dk_at dksX5_planAll_2 12 rfl rfl)
theorem dX5_planAll_60 : decode cX5_planAll 60 = .ok (.getfield 32, 3) := dk_180 0 32 (dk_at dksX5_planAll_2 13 rfl rfl)
theorem dX5_planAll_63 : decode cX5_planAll 63 = .ok (.iconst 3, 1) := dk_6 (dk_at dksX5_planAll_2 16 rfl rfl)
theorem dX5_planAll_64 : decode cX5_planAll 64 = .ok (.iload_n 2, 1) := dk_28 (dk_at dksX5_planAll_2 17 rfl rfl)
theorem dX5_planAll_65 : decode cX5_planAll 65 = .ok (.imul, 1) := dk_104 (dk_at dksX5_planAll_2 18 rfl rfl)
theorem dX5_planAll_66 : decode cX5_planAll 66 = .ok (.iaload, 1) := dk_46 (dk_at dksX5_planAll_2 19 rfl rfl)
theorem dX5_planAll_67 : decode cX5_planAll 67 = .ok (.aload_n 0, 1) := dk_42 (dk_at dksX5_planAll_2 20 rfl rfl)
theorem dX5_planAll_68 : decode cX5_planAll 68 = .ok (.getfield 7, 3) := dk_180 0 7 (dk_at dksX5_planAll_2 21 rfl rfl)
theorem dX5_planAll_71 : decode cX5_planAll 71 = .ok (.iconst 5, 1) := dk_8 (dk_at dksX5_planAll_3 0 rfl rfl)
theorem dX5_planAll_72 : decode cX5_planAll 72 = .ok (.iaload, 1) := dk_46 (dk_at dksX5_planAll_3 1 rfl rfl)
theorem dX5_planAll_73 : decode cX5_planAll 73 = .ok (.if_icmp .lt 7, 3) := dk_161 0 7 (dk_at dksX5_planAll_3 2 rfl rfl)
theorem dX5_planAll_76 : decode cX5_planAll 76 = .ok (.iconst 1, 1) := dk_4 (dk_at dksX5_planAll_3 5 rfl rfl)
theorem dX5_planAll_77 : decode cX5_planAll 77 = .ok (.goto 4, 3) := dk_167 0 4 (dk_at dksX5_planAll_3 6 rfl rfl)
theorem dX5_planAll_80 : decode cX5_planAll 80 = .ok (.iconst 0, 1) := dk_3 (dk_at dksX5_planAll_3 9 rfl rfl)
theorem dX5_planAll_81 : decode cX5_planAll 81 = .ok (.istore_n 1, 1) := dk_60 (dk_at dksX5_planAll_3 10 rfl rfl)
theorem dX5_planAll_82 : decode cX5_planAll 82 = .ok (.iinc 2 1, 3) := dk_132 2 1 (dk_at dksX5_planAll_3 11 rfl rfl)
theorem dX5_planAll_85 : decode cX5_planAll 85 = .ok (.goto (-38), 3) := dk_167 255 218 (dk_at dksX5_planAll_3 14 rfl rfl)
theorem dX5_planAll_88 : decode cX5_planAll 88 = .ok (.iload_n 1, 1) := dk_27 (dk_at dksX5_planAll_3 17 rfl rfl)
theorem dX5_planAll_89 : decode cX5_planAll 89 = .ok (.ifCond .ne 9, 3) := dk_154 0 9 (dk_at dksX5_planAll_3 18 rfl rfl)
theorem dX5_planAll_92 : decode cX5_planAll 92 = .ok (.aload_n 0, 1) := dk_42 (dk_at dksX5_planAll_3 21 rfl rfl)
theorem dX5_planAll_93 : decode cX5_planAll 93 = .ok (.iconst 2, 1) := dk_5 (dk_at dksX5_planAll_3 22 rfl rfl)
theorem dX5_planAll_94 : decode cX5_planAll 94 = .ok (.invokevirtual 124, 3) := dk_182 0 124 (dk_at dksX5_planAll_4 0 rfl rfl)
theorem dX5_planAll_97 : decode cX5_planAll 97 = .ok (.ireturn, 1) := dk_172 (dk_at dksX5_planAll_4 3 rfl rfl)
theorem dX5_planAll_98 : decode cX5_planAll 98 = .ok (.aload_n 0, 1) := dk_42 (dk_at dksX5_planAll_4 4 rfl rfl)
theorem dX5_planAll_99 : decode cX5_planAll 99 = .ok (.invokevirtual 127, 3) := dk_182 0 127 (dk_at dksX5_planAll_4 5 rfl rfl)
theorem dX5_planAll_102 : decode cX5_planAll 102 = .ok (.aload_n 0, 1) := dk_42 (dk_at dksX5_planAll_4 8 rfl rfl)
theorem dX5_planAll_103 : decode cX5_planAll 103 = .ok (.iconst 0, 1) := dk_3 (dk_at dksX5_planAll_4 9 rfl rfl)
theorem dX5_planAll_104 : decode cX5_planAll 104 = .ok (.putfield 146, 3) := dk_181 0 146 (dk_at dksX5_planAll_4 10 rfl rfl)
theorem dX5_planAll_107 : decode cX5_planAll 107 = .ok (.iconst 0, 1) := dk_3 (dk_at dksX5_planAll_4 13 rfl rfl)
theorem dX5_planAll_108 : decode cX5_planAll 108 = .ok (.istore_n 2, 1) := dk_61 (dk_at dksX5_planAll_4 14 rfl rfl)
theorem dX5_planAll_109 : decode cX5_planAll 109 = .ok (.iload_n 2, 1) := dk_28 (dk_at dksX5_planAll_4 15 rfl rfl)
theorem dX5_planAll_110 : decode cX5_planAll 110 = .ok (.aload_n 0, 1) := dk_42 (dk_at dksX5_planAll_4 16 rfl rfl)
theorem dX5_planAll_111 : decode cX5_planAll 111 = .ok (.getfield 168, 3) := dk_180 0 168 (dk_at dksX5_planAll_4 17 rfl rfl)
theorem dX5_planAll_114 : decode cX5_planAll 114 = .ok (.if_icmp .ge 41, 3) := dk_162 0 41 (dk_at dksX5_planAll_4 20 rfl rfl)
theorem dX5_planAll_117 : decode cX5_planAll 117 = .ok (.aload_n 0, 1) := dk_42 (dk_at dksX5_planAll_4 23 rfl rfl)
theorem dX5_planAll_118 : decode cX5_planAll 118 = .ok (.aload_n 0, 1) := dk_42 (dk_at dksX5_planAll_5 0 rfl rfl)
theorem dX5_planAll_119 : decode cX5_planAll 119 = .ok (.getfield 32, 3) := dk_180 0 32 (dk_at dksX5_planAll_5 1 rfl rfl)
theorem dX5_planAll_122 : decode cX5_planAll 122 = .ok (.iconst 3, 1) := dk_6 (dk_at dksX5_planAll_5 4 rfl rfl)
theorem dX5_planAll_123 : decode cX5_planAll 123 = .ok (.iload_n 2, 1) := dk_28 (dk_at dksX5_planAll_5 5 rfl rfl)
theorem dX5_planAll_124 : decode cX5_planAll 124 = .ok (.imul, 1) := dk_104 (dk_at dksX5_planAll_5 6 rfl rfl)
theorem dX5_planAll_125 : decode cX5_planAll 125 = .ok (.iaload, 1) := dk_46 (dk_at dksX5_planAll_5 7 rfl rfl)
theorem dX5_planAll_126 : decode cX5_planAll 126 = .ok (.aload_n 0, 1) := dk_42 (dk_at dksX5_planAll_5 8 rfl rfl)
theorem dX5_planAll_127 : decode cX5_planAll 127 = .ok (.getfield 32, 3) := dk_180 0 32 (dk_at dksX5_planAll_5 9 rfl rfl)
theorem dX5_planAll_130 : decode cX5_planAll 130 = .ok (.iconst 3, 1) := dk_6 (dk_at dksX5_planAll_5 12 rfl rfl)
theorem dX5_planAll_131 : decode cX5_planAll 131 = .ok (.iload_n 2, 1) := dk_28 (dk_at dksX5_planAll_5 13 rfl rfl)
theorem dX5_planAll_132 : decode cX5_planAll 132 = .ok (.imul, 1) := dk_104 (dk_at dksX5_planAll_5 14 rfl rfl)
theorem dX5_planAll_133 : decode cX5_planAll 133 = .ok (.iconst 1, 1) := dk_4 (dk_at dksX5_planAll_5 15 rfl rfl)
theorem dX5_planAll_134 : decode cX5_planAll 134 = .ok (.iadd, 1) := dk_96 (dk_at dksX5_planAll_5 16 rfl rfl)
theorem dX5_planAll_135 : decode cX5_planAll 135 = .ok (.iaload, 1) := dk_46 (dk_at dksX5_planAll_5 17 rfl rfl)
theorem dX5_planAll_136 : decode cX5_planAll 136 = .ok (.aload_n 0, 1) := dk_42 (dk_at dksX5_planAll_5 18 rfl rfl)
theorem dX5_planAll_137 : decode cX5_planAll 137 = .ok (.getfield 32, 3) := dk_180 0 32 (dk_at dksX5_planAll_5 19 rfl rfl)
theorem dX5_planAll_140 : decode cX5_planAll 140 = .ok (.iconst 3, 1) := dk_6 (dk_at dksX5_planAll_5 22 rfl rfl)
theorem dX5_planAll_141 : decode cX5_planAll 141 = .ok (.iload_n 2, 1) := dk_28 (dk_at dksX5_planAll_5 23 rfl rfl)
theorem dX5_planAll_142 : decode cX5_planAll 142 = .ok (.imul, 1) := dk_104 (dk_at dksX5_planAll_6 0 rfl rfl)
theorem dX5_planAll_143 : decode cX5_planAll 143 = .ok (.iconst 2, 1) := dk_5 (dk_at dksX5_planAll_6 1 rfl rfl)
theorem dX5_planAll_144 : decode cX5_planAll 144 = .ok (.iadd, 1) := dk_96 (dk_at dksX5_planAll_6 2 rfl rfl)
theorem dX5_planAll_145 : decode cX5_planAll 145 = .ok (.iaload, 1) := dk_46 (dk_at dksX5_planAll_6 3 rfl rfl)
theorem dX5_planAll_146 : decode cX5_planAll 146 = .ok (.invokevirtual 137, 3) := dk_182 0 137 (dk_at dksX5_planAll_6 4 rfl rfl)
theorem dX5_planAll_149 : decode cX5_planAll 149 = .ok (.iinc 2 1, 3) := dk_132 2 1 (dk_at dksX5_planAll_6 7 rfl rfl)
theorem dX5_planAll_152 : decode cX5_planAll 152 = .ok (.goto (-43), 3) := dk_167 255 213 (dk_at dksX5_planAll_6 10 rfl rfl)
theorem dX5_planAll_155 : decode cX5_planAll 155 = .ok (.aload_n 0, 1) := dk_42 (dk_at dksX5_planAll_6 13 rfl rfl)
theorem dX5_planAll_156 : decode cX5_planAll 156 = .ok (.getfield 7, 3) := dk_180 0 7 (dk_at dksX5_planAll_6 14 rfl rfl)
theorem dX5_planAll_159 : decode cX5_planAll 159 = .ok (.bipush 7, 2) := dk_16 7 (dk_at dksX5_planAll_6 17 rfl rfl)
theorem dX5_planAll_161 : decode cX5_planAll 161 = .ok (.iaload, 1) := dk_46 (dk_at dksX5_planAll_6 19 rfl rfl)
theorem dX5_planAll_162 : decode cX5_planAll 162 = .ok (.ireturn, 1) := dk_172 (dk_at dksX5_planAll_6 20 rfl rfl)
abbrev cX5_undo : ByteArray := prog_8_method_59_code
def yX5_undo : MethodName := ⟨RX5, "undo", "()I"⟩
def dkwX5_undo_2 : List UInt8 := [17, 0, 204, 42, 180, 0, 43, 104, 27, 96, 46, 79, 132, 1, 1, 167, 255, 225, 42, 180, 0, 43, 172]
abbrev dktX5_undo_2 : List UInt8 := dkwX5_undo_2 ++ []
def dkwX5_undo_1 : List UInt8 := [100, 181, 0, 43, 3, 60, 27, 17, 0, 204, 162, 0, 30, 42, 180, 0, 7, 27, 42, 180, 0, 16]
abbrev dktX5_undo_1 : List UInt8 := dkwX5_undo_1 ++ dktX5_undo_2
def dkwX5_undo_0 : List UInt8 := [42, 3, 181, 0, 35, 42, 180, 0, 43, 154, 0, 9, 42, 4, 182, 0, 124, 172, 42, 89, 180, 0, 43, 4]
abbrev dktX5_undo_0 : List UInt8 := dkwX5_undo_0 ++ dktX5_undo_1
theorem dksX5_undo_0 : cX5_undo.data.toList.drop 0 = dktX5_undo_0 := by decide +kernel
theorem dksX5_undo_1 : cX5_undo.data.toList.drop 24 = dktX5_undo_1 := dk_seg dksX5_undo_0 24 rfl rfl
theorem dksX5_undo_2 : cX5_undo.data.toList.drop 46 = dktX5_undo_2 := dk_seg dksX5_undo_1 22 rfl rfl
theorem dX5_undo_0 : decode cX5_undo 0 = .ok (.aload_n 0, 1) := dk_42 (dk_at dksX5_undo_0 0 rfl rfl)
theorem dX5_undo_1 : decode cX5_undo 1 = .ok (.iconst 0, 1) := dk_3 (dk_at dksX5_undo_0 1 rfl rfl)
theorem dX5_undo_2 : decode cX5_undo 2 = .ok (.putfield 35, 3) := dk_181 0 35 (dk_at dksX5_undo_0 2 rfl rfl)
theorem dX5_undo_5 : decode cX5_undo 5 = .ok (.aload_n 0, 1) := dk_42 (dk_at dksX5_undo_0 5 rfl rfl)
theorem dX5_undo_6 : decode cX5_undo 6 = .ok (.getfield 43, 3) := dk_180 0 43 (dk_at dksX5_undo_0 6 rfl rfl)
theorem dX5_undo_9 : decode cX5_undo 9 = .ok (.ifCond .ne 9, 3) := dk_154 0 9 (dk_at dksX5_undo_0 9 rfl rfl)
theorem dX5_undo_12 : decode cX5_undo 12 = .ok (.aload_n 0, 1) := dk_42 (dk_at dksX5_undo_0 12 rfl rfl)
theorem dX5_undo_13 : decode cX5_undo 13 = .ok (.iconst 1, 1) := dk_4 (dk_at dksX5_undo_0 13 rfl rfl)
theorem dX5_undo_14 : decode cX5_undo 14 = .ok (.invokevirtual 124, 3) := dk_182 0 124 (dk_at dksX5_undo_0 14 rfl rfl)
theorem dX5_undo_17 : decode cX5_undo 17 = .ok (.ireturn, 1) := dk_172 (dk_at dksX5_undo_0 17 rfl rfl)
theorem dX5_undo_18 : decode cX5_undo 18 = .ok (.aload_n 0, 1) := dk_42 (dk_at dksX5_undo_0 18 rfl rfl)
theorem dX5_undo_19 : decode cX5_undo 19 = .ok (.dup, 1) := dk_89 (dk_at dksX5_undo_0 19 rfl rfl)
theorem dX5_undo_20 : decode cX5_undo 20 = .ok (.getfield 43, 3) := dk_180 0 43 (dk_at dksX5_undo_0 20 rfl rfl)
theorem dX5_undo_23 : decode cX5_undo 23 = .ok (.iconst 1, 1) := dk_4 (dk_at dksX5_undo_0 23 rfl rfl)
theorem dX5_undo_24 : decode cX5_undo 24 = .ok (.isub, 1) := dk_100 (dk_at dksX5_undo_1 0 rfl rfl)
theorem dX5_undo_25 : decode cX5_undo 25 = .ok (.putfield 43, 3) := dk_181 0 43 (dk_at dksX5_undo_1 1 rfl rfl)
theorem dX5_undo_28 : decode cX5_undo 28 = .ok (.iconst 0, 1) := dk_3 (dk_at dksX5_undo_1 4 rfl rfl)
theorem dX5_undo_29 : decode cX5_undo 29 = .ok (.istore_n 1, 1) := dk_60 (dk_at dksX5_undo_1 5 rfl rfl)
theorem dX5_undo_30 : decode cX5_undo 30 = .ok (.iload_n 1, 1) := dk_27 (dk_at dksX5_undo_1 6 rfl rfl)
theorem dX5_undo_31 : decode cX5_undo 31 = .ok (.sipush 204, 3) := dk_17 0 204 (dk_at dksX5_undo_1 7 rfl rfl)
theorem dX5_undo_34 : decode cX5_undo 34 = .ok (.if_icmp .ge 30, 3) := dk_162 0 30 (dk_at dksX5_undo_1 10 rfl rfl)
theorem dX5_undo_37 : decode cX5_undo 37 = .ok (.aload_n 0, 1) := dk_42 (dk_at dksX5_undo_1 13 rfl rfl)
theorem dX5_undo_38 : decode cX5_undo 38 = .ok (.getfield 7, 3) := dk_180 0 7 (dk_at dksX5_undo_1 14 rfl rfl)
theorem dX5_undo_41 : decode cX5_undo 41 = .ok (.iload_n 1, 1) := dk_27 (dk_at dksX5_undo_1 17 rfl rfl)
theorem dX5_undo_42 : decode cX5_undo 42 = .ok (.aload_n 0, 1) := dk_42 (dk_at dksX5_undo_1 18 rfl rfl)
theorem dX5_undo_43 : decode cX5_undo 43 = .ok (.getfield 16, 3) := dk_180 0 16 (dk_at dksX5_undo_1 19 rfl rfl)
theorem dX5_undo_46 : decode cX5_undo 46 = .ok (.sipush 204, 3) := dk_17 0 204 (dk_at dksX5_undo_2 0 rfl rfl)
theorem dX5_undo_49 : decode cX5_undo 49 = .ok (.aload_n 0, 1) := dk_42 (dk_at dksX5_undo_2 3 rfl rfl)
theorem dX5_undo_50 : decode cX5_undo 50 = .ok (.getfield 43, 3) := dk_180 0 43 (dk_at dksX5_undo_2 4 rfl rfl)
theorem dX5_undo_53 : decode cX5_undo 53 = .ok (.imul, 1) := dk_104 (dk_at dksX5_undo_2 7 rfl rfl)
theorem dX5_undo_54 : decode cX5_undo 54 = .ok (.iload_n 1, 1) := dk_27 (dk_at dksX5_undo_2 8 rfl rfl)
theorem dX5_undo_55 : decode cX5_undo 55 = .ok (.iadd, 1) := dk_96 (dk_at dksX5_undo_2 9 rfl rfl)
theorem dX5_undo_56 : decode cX5_undo 56 = .ok (.iaload, 1) := dk_46 (dk_at dksX5_undo_2 10 rfl rfl)
theorem dX5_undo_57 : decode cX5_undo 57 = .ok (.iastore, 1) := dk_79 (dk_at dksX5_undo_2 11 rfl rfl)
theorem dX5_undo_58 : decode cX5_undo 58 = .ok (.iinc 1 1, 3) := dk_132 1 1 (dk_at dksX5_undo_2 12 rfl rfl)
theorem dX5_undo_61 : decode cX5_undo 61 = .ok (.goto (-31), 3) := dk_167 255 225 (dk_at dksX5_undo_2 15 rfl rfl)
theorem dX5_undo_64 : decode cX5_undo 64 = .ok (.aload_n 0, 1) := dk_42 (dk_at dksX5_undo_2 18 rfl rfl)
theorem dX5_undo_65 : decode cX5_undo 65 = .ok (.getfield 43, 3) := dk_180 0 43 (dk_at dksX5_undo_2 19 rfl rfl)
theorem dX5_undo_68 : decode cX5_undo 68 = .ok (.ireturn, 1) := dk_172 (dk_at dksX5_undo_2 22 rfl rfl)
abbrev cX5_fountain : ByteArray := prog_8_method_61_code
def yX5_fountain : MethodName := ⟨RX5, "fountain", "(II)I"⟩
def dkwX5_fountain_1 : List UInt8 := [184, 0, 39, 153, 0, 12, 42, 27, 28, 182, 0, 180, 167, 0, 8, 42, 5, 182, 0, 124, 172]
abbrev dktX5_fountain_1 : List UInt8 := dkwX5_fountain_1 ++ []
def dkwX5_fountain_0 : List UInt8 := [42, 3, 181, 0, 35, 27, 184, 0, 121, 154, 0, 9, 42, 4, 182, 0, 124, 172, 28, 3, 16, 9]
abbrev dktX5_fountain_0 : List UInt8 := dkwX5_fountain_0 ++ dktX5_fountain_1
theorem dksX5_fountain_0 : cX5_fountain.data.toList.drop 0 = dktX5_fountain_0 := by decide +kernel
theorem dksX5_fountain_1 : cX5_fountain.data.toList.drop 22 = dktX5_fountain_1 := dk_seg dksX5_fountain_0 22 rfl rfl
theorem dX5_fountain_0 : decode cX5_fountain 0 = .ok (.aload_n 0, 1) := dk_42 (dk_at dksX5_fountain_0 0 rfl rfl)
theorem dX5_fountain_1 : decode cX5_fountain 1 = .ok (.iconst 0, 1) := dk_3 (dk_at dksX5_fountain_0 1 rfl rfl)
theorem dX5_fountain_2 : decode cX5_fountain 2 = .ok (.putfield 35, 3) := dk_181 0 35 (dk_at dksX5_fountain_0 2 rfl rfl)
theorem dX5_fountain_5 : decode cX5_fountain 5 = .ok (.iload_n 1, 1) := dk_27 (dk_at dksX5_fountain_0 5 rfl rfl)
theorem dX5_fountain_6 : decode cX5_fountain 6 = .ok (.invokestatic 121, 3) := dk_184 0 121 (dk_at dksX5_fountain_0 6 rfl rfl)
theorem dX5_fountain_9 : decode cX5_fountain 9 = .ok (.ifCond .ne 9, 3) := dk_154 0 9 (dk_at dksX5_fountain_0 9 rfl rfl)
theorem dX5_fountain_12 : decode cX5_fountain 12 = .ok (.aload_n 0, 1) := dk_42 (dk_at dksX5_fountain_0 12 rfl rfl)
theorem dX5_fountain_13 : decode cX5_fountain 13 = .ok (.iconst 1, 1) := dk_4 (dk_at dksX5_fountain_0 13 rfl rfl)
theorem dX5_fountain_14 : decode cX5_fountain 14 = .ok (.invokevirtual 124, 3) := dk_182 0 124 (dk_at dksX5_fountain_0 14 rfl rfl)
theorem dX5_fountain_17 : decode cX5_fountain 17 = .ok (.ireturn, 1) := dk_172 (dk_at dksX5_fountain_0 17 rfl rfl)
theorem dX5_fountain_18 : decode cX5_fountain 18 = .ok (.iload_n 2, 1) := dk_28 (dk_at dksX5_fountain_0 18 rfl rfl)
theorem dX5_fountain_19 : decode cX5_fountain 19 = .ok (.iconst 0, 1) := dk_3 (dk_at dksX5_fountain_0 19 rfl rfl)
theorem dX5_fountain_20 : decode cX5_fountain 20 = .ok (.bipush 9, 2) := dk_16 9 (dk_at dksX5_fountain_0 20 rfl rfl)
theorem dX5_fountain_22 : decode cX5_fountain 22 = .ok (.invokestatic 39, 3) := dk_184 0 39 (dk_at dksX5_fountain_1 0 rfl rfl)
theorem dX5_fountain_25 : decode cX5_fountain 25 = .ok (.ifCond .eq 12, 3) := dk_153 0 12 (dk_at dksX5_fountain_1 3 rfl rfl)
theorem dX5_fountain_28 : decode cX5_fountain 28 = .ok (.aload_n 0, 1) := dk_42 (dk_at dksX5_fountain_1 6 rfl rfl)
theorem dX5_fountain_29 : decode cX5_fountain 29 = .ok (.iload_n 1, 1) := dk_27 (dk_at dksX5_fountain_1 7 rfl rfl)
theorem dX5_fountain_30 : decode cX5_fountain 30 = .ok (.iload_n 2, 1) := dk_28 (dk_at dksX5_fountain_1 8 rfl rfl)
theorem dX5_fountain_31 : decode cX5_fountain 31 = .ok (.invokevirtual 180, 3) := dk_182 0 180 (dk_at dksX5_fountain_1 9 rfl rfl)
theorem dX5_fountain_34 : decode cX5_fountain 34 = .ok (.goto 8, 3) := dk_167 0 8 (dk_at dksX5_fountain_1 12 rfl rfl)
theorem dX5_fountain_37 : decode cX5_fountain 37 = .ok (.aload_n 0, 1) := dk_42 (dk_at dksX5_fountain_1 15 rfl rfl)
theorem dX5_fountain_38 : decode cX5_fountain 38 = .ok (.iconst 2, 1) := dk_5 (dk_at dksX5_fountain_1 16 rfl rfl)
theorem dX5_fountain_39 : decode cX5_fountain 39 = .ok (.invokevirtual 124, 3) := dk_182 0 124 (dk_at dksX5_fountain_1 17 rfl rfl)
theorem dX5_fountain_42 : decode cX5_fountain 42 = .ok (.ireturn, 1) := dk_172 (dk_at dksX5_fountain_1 20 rfl rfl)
abbrev cX5_tellsPlace : ByteArray := prog_8_method_60_code
def yX5_tellsPlace : MethodName := ⟨RX5, "tellsPlace", "(II)I"⟩
def dkwX5_tellsPlace_1 : List UInt8 := [27, 28, 182, 0, 46, 167, 0, 4, 2, 172]
abbrev dktX5_tellsPlace_1 : List UInt8 := dkwX5_tellsPlace_1 ++ []
def dkwX5_tellsPlace_0 : List UInt8 := [28, 16, 6, 160, 0, 9, 42, 27, 182, 0, 54, 172, 42, 27, 16, 6, 182, 0, 46, 4, 160, 0, 12, 42]
abbrev dktX5_tellsPlace_0 : List UInt8 := dkwX5_tellsPlace_0 ++ dktX5_tellsPlace_1
theorem dksX5_tellsPlace_0 : cX5_tellsPlace.data.toList.drop 0 = dktX5_tellsPlace_0 := by decide +kernel
theorem dksX5_tellsPlace_1 : cX5_tellsPlace.data.toList.drop 24 = dktX5_tellsPlace_1 := dk_seg dksX5_tellsPlace_0 24 rfl rfl
theorem dX5_tellsPlace_0 : decode cX5_tellsPlace 0 = .ok (.iload_n 2, 1) := dk_28 (dk_at dksX5_tellsPlace_0 0 rfl rfl)
theorem dX5_tellsPlace_1 : decode cX5_tellsPlace 1 = .ok (.bipush 6, 2) := dk_16 6 (dk_at dksX5_tellsPlace_0 1 rfl rfl)
theorem dX5_tellsPlace_3 : decode cX5_tellsPlace 3 = .ok (.if_icmp .ne 9, 3) := dk_160 0 9 (dk_at dksX5_tellsPlace_0 3 rfl rfl)
theorem dX5_tellsPlace_6 : decode cX5_tellsPlace 6 = .ok (.aload_n 0, 1) := dk_42 (dk_at dksX5_tellsPlace_0 6 rfl rfl)
theorem dX5_tellsPlace_7 : decode cX5_tellsPlace 7 = .ok (.iload_n 1, 1) := dk_27 (dk_at dksX5_tellsPlace_0 7 rfl rfl)
theorem dX5_tellsPlace_8 : decode cX5_tellsPlace 8 = .ok (.invokevirtual 54, 3) := dk_182 0 54 (dk_at dksX5_tellsPlace_0 8 rfl rfl)
theorem dX5_tellsPlace_11 : decode cX5_tellsPlace 11 = .ok (.ireturn, 1) := dk_172 (dk_at dksX5_tellsPlace_0 11 rfl rfl)
theorem dX5_tellsPlace_12 : decode cX5_tellsPlace 12 = .ok (.aload_n 0, 1) := dk_42 (dk_at dksX5_tellsPlace_0 12 rfl rfl)
theorem dX5_tellsPlace_13 : decode cX5_tellsPlace 13 = .ok (.iload_n 1, 1) := dk_27 (dk_at dksX5_tellsPlace_0 13 rfl rfl)
theorem dX5_tellsPlace_14 : decode cX5_tellsPlace 14 = .ok (.bipush 6, 2) := dk_16 6 (dk_at dksX5_tellsPlace_0 14 rfl rfl)
theorem dX5_tellsPlace_16 : decode cX5_tellsPlace 16 = .ok (.invokevirtual 46, 3) := dk_182 0 46 (dk_at dksX5_tellsPlace_0 16 rfl rfl)
theorem dX5_tellsPlace_19 : decode cX5_tellsPlace 19 = .ok (.iconst 1, 1) := dk_4 (dk_at dksX5_tellsPlace_0 19 rfl rfl)
theorem dX5_tellsPlace_20 : decode cX5_tellsPlace 20 = .ok (.if_icmp .ne 12, 3) := dk_160 0 12 (dk_at dksX5_tellsPlace_0 20 rfl rfl)
theorem dX5_tellsPlace_23 : decode cX5_tellsPlace 23 = .ok (.aload_n 0, 1) := dk_42 (dk_at dksX5_tellsPlace_0 23 rfl rfl)
theorem dX5_tellsPlace_24 : decode cX5_tellsPlace 24 = .ok (.iload_n 1, 1) := dk_27 (dk_at dksX5_tellsPlace_1 0 rfl rfl)
theorem dX5_tellsPlace_25 : decode cX5_tellsPlace 25 = .ok (.iload_n 2, 1) := dk_28 (dk_at dksX5_tellsPlace_1 1 rfl rfl)
theorem dX5_tellsPlace_26 : decode cX5_tellsPlace 26 = .ok (.invokevirtual 46, 3) := dk_182 0 46 (dk_at dksX5_tellsPlace_1 2 rfl rfl)
theorem dX5_tellsPlace_29 : decode cX5_tellsPlace 29 = .ok (.goto 4, 3) := dk_167 0 4 (dk_at dksX5_tellsPlace_1 5 rfl rfl)
theorem dX5_tellsPlace_32 : decode cX5_tellsPlace 32 = .ok (.iconst (-1), 1) := dk_2 (dk_at dksX5_tellsPlace_1 8 rfl rfl)
theorem dX5_tellsPlace_33 : decode cX5_tellsPlace 33 = .ok (.ireturn, 1) := dk_172 (dk_at dksX5_tellsPlace_1 9 rfl rfl)
abbrev cX5_job : ByteArray := prog_8_method_64_code
def yX5_job : MethodName := ⟨RX5, "job", "(II)I"⟩
def dkwX5_job_1 : List UInt8 := [167, 0, 8, 42, 4, 182, 0, 124, 172]
abbrev dktX5_job_1 : List UInt8 := dkwX5_job_1 ++ []
def dkwX5_job_0 : List UInt8 := [42, 3, 181, 0, 35, 27, 155, 0, 21, 28, 3, 6, 184, 0, 39, 153, 0, 12, 42, 27, 28, 182, 0, 186]
abbrev dktX5_job_0 : List UInt8 := dkwX5_job_0 ++ dktX5_job_1
theorem dksX5_job_0 : cX5_job.data.toList.drop 0 = dktX5_job_0 := by decide +kernel
theorem dksX5_job_1 : cX5_job.data.toList.drop 24 = dktX5_job_1 := dk_seg dksX5_job_0 24 rfl rfl
theorem dX5_job_0 : decode cX5_job 0 = .ok (.aload_n 0, 1) := dk_42 (dk_at dksX5_job_0 0 rfl rfl)
theorem dX5_job_1 : decode cX5_job 1 = .ok (.iconst 0, 1) := dk_3 (dk_at dksX5_job_0 1 rfl rfl)
theorem dX5_job_2 : decode cX5_job 2 = .ok (.putfield 35, 3) := dk_181 0 35 (dk_at dksX5_job_0 2 rfl rfl)
theorem dX5_job_5 : decode cX5_job 5 = .ok (.iload_n 1, 1) := dk_27 (dk_at dksX5_job_0 5 rfl rfl)
theorem dX5_job_6 : decode cX5_job 6 = .ok (.ifCond .lt 21, 3) := dk_155 0 21 (dk_at dksX5_job_0 6 rfl rfl)
theorem dX5_job_9 : decode cX5_job 9 = .ok (.iload_n 2, 1) := dk_28 (dk_at dksX5_job_0 9 rfl rfl)
theorem dX5_job_10 : decode cX5_job 10 = .ok (.iconst 0, 1) := dk_3 (dk_at dksX5_job_0 10 rfl rfl)
theorem dX5_job_11 : decode cX5_job 11 = .ok (.iconst 3, 1) := dk_6 (dk_at dksX5_job_0 11 rfl rfl)
theorem dX5_job_12 : decode cX5_job 12 = .ok (.invokestatic 39, 3) := dk_184 0 39 (dk_at dksX5_job_0 12 rfl rfl)
theorem dX5_job_15 : decode cX5_job 15 = .ok (.ifCond .eq 12, 3) := dk_153 0 12 (dk_at dksX5_job_0 15 rfl rfl)
theorem dX5_job_18 : decode cX5_job 18 = .ok (.aload_n 0, 1) := dk_42 (dk_at dksX5_job_0 18 rfl rfl)
theorem dX5_job_19 : decode cX5_job 19 = .ok (.iload_n 1, 1) := dk_27 (dk_at dksX5_job_0 19 rfl rfl)
theorem dX5_job_20 : decode cX5_job 20 = .ok (.iload_n 2, 1) := dk_28 (dk_at dksX5_job_0 20 rfl rfl)
theorem dX5_job_21 : decode cX5_job 21 = .ok (.invokevirtual 186, 3) := dk_182 0 186 (dk_at dksX5_job_0 21 rfl rfl)
theorem dX5_job_24 : decode cX5_job 24 = .ok (.goto 8, 3) := dk_167 0 8 (dk_at dksX5_job_1 0 rfl rfl)
theorem dX5_job_27 : decode cX5_job 27 = .ok (.aload_n 0, 1) := dk_42 (dk_at dksX5_job_1 3 rfl rfl)
theorem dX5_job_28 : decode cX5_job 28 = .ok (.iconst 1, 1) := dk_4 (dk_at dksX5_job_1 4 rfl rfl)
theorem dX5_job_29 : decode cX5_job 29 = .ok (.invokevirtual 124, 3) := dk_182 0 124 (dk_at dksX5_job_1 5 rfl rfl)
theorem dX5_job_32 : decode cX5_job 32 = .ok (.ireturn, 1) := dk_172 (dk_at dksX5_job_1 8 rfl rfl)
abbrev cX5_tellsJob : ByteArray := prog_8_method_63_code
def yX5_tellsJob : MethodName := ⟨RX5, "tellsJob", "(II)I"⟩
def dkwX5_tellsJob_3 : List UInt8 := [167, 255, 187, 2, 172]
abbrev dktX5_tellsJob_3 : List UInt8 := dkwX5_tellsJob_3 ++ []
def dkwX5_tellsJob_2 : List UInt8 := [28, 5, 160, 0, 12, 42, 29, 4, 182, 0, 58, 167, 0, 8, 42, 29, 182, 0, 83, 172, 132, 3, 1]
abbrev dktX5_tellsJob_2 : List UInt8 := dkwX5_tellsJob_2 ++ dktX5_tellsJob_3
def dkwX5_tellsJob_1 : List UInt8 := [160, 0, 44, 28, 154, 0, 9, 29, 5, 108, 167, 0, 33, 28, 4, 160, 0, 9, 29, 5, 112, 167, 0, 22]
abbrev dktX5_tellsJob_1 : List UInt8 := dkwX5_tellsJob_1 ++ dktX5_tellsJob_2
def dkwX5_tellsJob_0 : List UInt8 := [3, 62, 29, 16, 16, 162, 0, 69, 42, 29, 3, 182, 0, 58, 4, 160, 0, 53, 42, 29, 182, 0, 183, 27]
abbrev dktX5_tellsJob_0 : List UInt8 := dkwX5_tellsJob_0 ++ dktX5_tellsJob_1
theorem dksX5_tellsJob_0 : cX5_tellsJob.data.toList.drop 0 = dktX5_tellsJob_0 := by decide +kernel
theorem dksX5_tellsJob_1 : cX5_tellsJob.data.toList.drop 24 = dktX5_tellsJob_1 := dk_seg dksX5_tellsJob_0 24 rfl rfl
theorem dksX5_tellsJob_2 : cX5_tellsJob.data.toList.drop 48 = dktX5_tellsJob_2 := dk_seg dksX5_tellsJob_1 24 rfl rfl
theorem dksX5_tellsJob_3 : cX5_tellsJob.data.toList.drop 71 = dktX5_tellsJob_3 := dk_seg dksX5_tellsJob_2 23 rfl rfl
theorem dX5_tellsJob_0 : decode cX5_tellsJob 0 = .ok (.iconst 0, 1) := dk_3 (dk_at dksX5_tellsJob_0 0 rfl rfl)
theorem dX5_tellsJob_1 : decode cX5_tellsJob 1 = .ok (.istore_n 3, 1) := dk_62 (dk_at dksX5_tellsJob_0 1 rfl rfl)
theorem dX5_tellsJob_2 : decode cX5_tellsJob 2 = .ok (.iload_n 3, 1) := dk_29 (dk_at dksX5_tellsJob_0 2 rfl rfl)
theorem dX5_tellsJob_3 : decode cX5_tellsJob 3 = .ok (.bipush 16, 2) := dk_16 16 (dk_at dksX5_tellsJob_0 3 rfl rfl)
theorem dX5_tellsJob_5 : decode cX5_tellsJob 5 = .ok (.if_icmp .ge 69, 3) := dk_162 0 69 (dk_at dksX5_tellsJob_0 5 rfl rfl)
theorem dX5_tellsJob_8 : decode cX5_tellsJob 8 = .ok (.aload_n 0, 1) := dk_42 (dk_at dksX5_tellsJob_0 8 rfl rfl)
theorem dX5_tellsJob_9 : decode cX5_tellsJob 9 = .ok (.iload_n 3, 1) := dk_29 (dk_at dksX5_tellsJob_0 9 rfl rfl)
theorem dX5_tellsJob_10 : decode cX5_tellsJob 10 = .ok (.iconst 0, 1) := dk_3 (dk_at dksX5_tellsJob_0 10 rfl rfl)
theorem dX5_tellsJob_11 : decode cX5_tellsJob 11 = .ok (.invokevirtual 58, 3) := dk_182 0 58 (dk_at dksX5_tellsJob_0 11 rfl rfl)
theorem dX5_tellsJob_14 : decode cX5_tellsJob 14 = .ok (.iconst 1, 1) := dk_4 (dk_at dksX5_tellsJob_0 14 rfl rfl)
theorem dX5_tellsJob_15 : decode cX5_tellsJob 15 = .ok (.if_icmp .ne 53, 3) := dk_160 0 53 (dk_at dksX5_tellsJob_0 15 rfl rfl)
theorem dX5_tellsJob_18 : decode cX5_tellsJob 18 = .ok (.aload_n 0, 1) := dk_42 (dk_at dksX5_tellsJob_0 18 rfl rfl)
theorem dX5_tellsJob_19 : decode cX5_tellsJob 19 = .ok (.iload_n 3, 1) := dk_29 (dk_at dksX5_tellsJob_0 19 rfl rfl)
theorem dX5_tellsJob_20 : decode cX5_tellsJob 20 = .ok (.invokevirtual 183, 3) := dk_182 0 183 (dk_at dksX5_tellsJob_0 20 rfl rfl)
theorem dX5_tellsJob_23 : decode cX5_tellsJob 23 = .ok (.iload_n 1, 1) := dk_27 (dk_at dksX5_tellsJob_0 23 rfl rfl)
theorem dX5_tellsJob_24 : decode cX5_tellsJob 24 = .ok (.if_icmp .ne 44, 3) := dk_160 0 44 (dk_at dksX5_tellsJob_1 0 rfl rfl)
theorem dX5_tellsJob_27 : decode cX5_tellsJob 27 = .ok (.iload_n 2, 1) := dk_28 (dk_at dksX5_tellsJob_1 3 rfl rfl)
theorem dX5_tellsJob_28 : decode cX5_tellsJob 28 = .ok (.ifCond .ne 9, 3) := dk_154 0 9 (dk_at dksX5_tellsJob_1 4 rfl rfl)
theorem dX5_tellsJob_31 : decode cX5_tellsJob 31 = .ok (.iload_n 3, 1) := dk_29 (dk_at dksX5_tellsJob_1 7 rfl rfl)
theorem dX5_tellsJob_32 : decode cX5_tellsJob 32 = .ok (.iconst 2, 1) := dk_5 (dk_at dksX5_tellsJob_1 8 rfl rfl)
theorem dX5_tellsJob_33 : decode cX5_tellsJob 33 = .ok (.idiv, 1) := dk_108 (dk_at dksX5_tellsJob_1 9 rfl rfl)
theorem dX5_tellsJob_34 : decode cX5_tellsJob 34 = .ok (.goto 33, 3) := dk_167 0 33 (dk_at dksX5_tellsJob_1 10 rfl rfl)
theorem dX5_tellsJob_37 : decode cX5_tellsJob 37 = .ok (.iload_n 2, 1) := dk_28 (dk_at dksX5_tellsJob_1 13 rfl rfl)
theorem dX5_tellsJob_38 : decode cX5_tellsJob 38 = .ok (.iconst 1, 1) := dk_4 (dk_at dksX5_tellsJob_1 14 rfl rfl)
theorem dX5_tellsJob_39 : decode cX5_tellsJob 39 = .ok (.if_icmp .ne 9, 3) := dk_160 0 9 (dk_at dksX5_tellsJob_1 15 rfl rfl)
theorem dX5_tellsJob_42 : decode cX5_tellsJob 42 = .ok (.iload_n 3, 1) := dk_29 (dk_at dksX5_tellsJob_1 18 rfl rfl)
theorem dX5_tellsJob_43 : decode cX5_tellsJob 43 = .ok (.iconst 2, 1) := dk_5 (dk_at dksX5_tellsJob_1 19 rfl rfl)
theorem dX5_tellsJob_44 : decode cX5_tellsJob 44 = .ok (.irem, 1) := dk_112 (dk_at dksX5_tellsJob_1 20 rfl rfl)
theorem dX5_tellsJob_45 : decode cX5_tellsJob 45 = .ok (.goto 22, 3) := dk_167 0 22 (dk_at dksX5_tellsJob_1 21 rfl rfl)
theorem dX5_tellsJob_48 : decode cX5_tellsJob 48 = .ok (.iload_n 2, 1) := dk_28 (dk_at dksX5_tellsJob_2 0 rfl rfl)
theorem dX5_tellsJob_49 : decode cX5_tellsJob 49 = .ok (.iconst 2, 1) := dk_5 (dk_at dksX5_tellsJob_2 1 rfl rfl)
theorem dX5_tellsJob_50 : decode cX5_tellsJob 50 = .ok (.if_icmp .ne 12, 3) := dk_160 0 12 (dk_at dksX5_tellsJob_2 2 rfl rfl)
theorem dX5_tellsJob_53 : decode cX5_tellsJob 53 = .ok (.aload_n 0, 1) := dk_42 (dk_at dksX5_tellsJob_2 5 rfl rfl)
theorem dX5_tellsJob_54 : decode cX5_tellsJob 54 = .ok (.iload_n 3, 1) := dk_29 (dk_at dksX5_tellsJob_2 6 rfl rfl)
theorem dX5_tellsJob_55 : decode cX5_tellsJob 55 = .ok (.iconst 1, 1) := dk_4 (dk_at dksX5_tellsJob_2 7 rfl rfl)
theorem dX5_tellsJob_56 : decode cX5_tellsJob 56 = .ok (.invokevirtual 58, 3) := dk_182 0 58 (dk_at dksX5_tellsJob_2 8 rfl rfl)
theorem dX5_tellsJob_59 : decode cX5_tellsJob 59 = .ok (.goto 8, 3) := dk_167 0 8 (dk_at dksX5_tellsJob_2 11 rfl rfl)
theorem dX5_tellsJob_62 : decode cX5_tellsJob 62 = .ok (.aload_n 0, 1) := dk_42 (dk_at dksX5_tellsJob_2 14 rfl rfl)
theorem dX5_tellsJob_63 : decode cX5_tellsJob 63 = .ok (.iload_n 3, 1) := dk_29 (dk_at dksX5_tellsJob_2 15 rfl rfl)
theorem dX5_tellsJob_64 : decode cX5_tellsJob 64 = .ok (.invokevirtual 83, 3) := dk_182 0 83 (dk_at dksX5_tellsJob_2 16 rfl rfl)
theorem dX5_tellsJob_67 : decode cX5_tellsJob 67 = .ok (.ireturn, 1) := dk_172 (dk_at dksX5_tellsJob_2 19 rfl rfl)
theorem dX5_tellsJob_68 : decode cX5_tellsJob 68 = .ok (.iinc 3 1, 3) := dk_132 3 1 (dk_at dksX5_tellsJob_2 20 rfl rfl)
theorem dX5_tellsJob_71 : decode cX5_tellsJob 71 = .ok (.goto (-69), 3) := dk_167 255 187 (dk_at dksX5_tellsJob_3 0 rfl rfl)
theorem dX5_tellsJob_74 : decode cX5_tellsJob 74 = .ok (.iconst (-1), 1) := dk_2 (dk_at dksX5_tellsJob_3 3 rfl rfl)
theorem dX5_tellsJob_75 : decode cX5_tellsJob 75 = .ok (.ireturn, 1) := dk_172 (dk_at dksX5_tellsJob_3 4 rfl rfl)
abbrev cX5_rankOf : ByteArray := prog_8_method_62_code
def yX5_rankOf : MethodName := ⟨RX5, "rankOf", "(I)I"⟩
def dkwX5_rankOf_2 : List UInt8 := [167, 255, 215, 28, 172]
abbrev dktX5_rankOf_2 : List UInt8 := dkwX5_rankOf_2 ++ []
def dkwX5_rankOf_1 : List UInt8 := [160, 0, 16, 42, 29, 27, 182, 0, 61, 153, 0, 7, 4, 167, 0, 4, 3, 96, 61, 132, 3, 1]
abbrev dktX5_rankOf_1 : List UInt8 := dkwX5_rankOf_1 ++ dktX5_rankOf_2
def dkwX5_rankOf_0 : List UInt8 := [3, 61, 3, 62, 29, 16, 16, 162, 0, 41, 28, 29, 27, 159, 0, 26, 42, 29, 3, 182, 0, 58, 4]
abbrev dktX5_rankOf_0 : List UInt8 := dkwX5_rankOf_0 ++ dktX5_rankOf_1
theorem dksX5_rankOf_0 : cX5_rankOf.data.toList.drop 0 = dktX5_rankOf_0 := by decide +kernel
theorem dksX5_rankOf_1 : cX5_rankOf.data.toList.drop 23 = dktX5_rankOf_1 := dk_seg dksX5_rankOf_0 23 rfl rfl
theorem dksX5_rankOf_2 : cX5_rankOf.data.toList.drop 45 = dktX5_rankOf_2 := dk_seg dksX5_rankOf_1 22 rfl rfl
theorem dX5_rankOf_0 : decode cX5_rankOf 0 = .ok (.iconst 0, 1) := dk_3 (dk_at dksX5_rankOf_0 0 rfl rfl)
theorem dX5_rankOf_1 : decode cX5_rankOf 1 = .ok (.istore_n 2, 1) := dk_61 (dk_at dksX5_rankOf_0 1 rfl rfl)
theorem dX5_rankOf_2 : decode cX5_rankOf 2 = .ok (.iconst 0, 1) := dk_3 (dk_at dksX5_rankOf_0 2 rfl rfl)
theorem dX5_rankOf_3 : decode cX5_rankOf 3 = .ok (.istore_n 3, 1) := dk_62 (dk_at dksX5_rankOf_0 3 rfl rfl)
theorem dX5_rankOf_4 : decode cX5_rankOf 4 = .ok (.iload_n 3, 1) := dk_29 (dk_at dksX5_rankOf_0 4 rfl rfl)
theorem dX5_rankOf_5 : decode cX5_rankOf 5 = .ok (.bipush 16, 2) := dk_16 16 (dk_at dksX5_rankOf_0 5 rfl rfl)
theorem dX5_rankOf_7 : decode cX5_rankOf 7 = .ok (.if_icmp .ge 41, 3) := dk_162 0 41 (dk_at dksX5_rankOf_0 7 rfl rfl)
theorem dX5_rankOf_10 : decode cX5_rankOf 10 = .ok (.iload_n 2, 1) := dk_28 (dk_at dksX5_rankOf_0 10 rfl rfl)
theorem dX5_rankOf_11 : decode cX5_rankOf 11 = .ok (.iload_n 3, 1) := dk_29 (dk_at dksX5_rankOf_0 11 rfl rfl)
theorem dX5_rankOf_12 : decode cX5_rankOf 12 = .ok (.iload_n 1, 1) := dk_27 (dk_at dksX5_rankOf_0 12 rfl rfl)
theorem dX5_rankOf_13 : decode cX5_rankOf 13 = .ok (.if_icmp .eq 26, 3) := dk_159 0 26 (dk_at dksX5_rankOf_0 13 rfl rfl)
theorem dX5_rankOf_16 : decode cX5_rankOf 16 = .ok (.aload_n 0, 1) := dk_42 (dk_at dksX5_rankOf_0 16 rfl rfl)
theorem dX5_rankOf_17 : decode cX5_rankOf 17 = .ok (.iload_n 3, 1) := dk_29 (dk_at dksX5_rankOf_0 17 rfl rfl)
theorem dX5_rankOf_18 : decode cX5_rankOf 18 = .ok (.iconst 0, 1) := dk_3 (dk_at dksX5_rankOf_0 18 rfl rfl)
theorem dX5_rankOf_19 : decode cX5_rankOf 19 = .ok (.invokevirtual 58, 3) := dk_182 0 58 (dk_at dksX5_rankOf_0 19 rfl rfl)
theorem dX5_rankOf_22 : decode cX5_rankOf 22 = .ok (.iconst 1, 1) := dk_4 (dk_at dksX5_rankOf_0 22 rfl rfl)
theorem dX5_rankOf_23 : decode cX5_rankOf 23 = .ok (.if_icmp .ne 16, 3) := dk_160 0 16 (dk_at dksX5_rankOf_1 0 rfl rfl)
theorem dX5_rankOf_26 : decode cX5_rankOf 26 = .ok (.aload_n 0, 1) := dk_42 (dk_at dksX5_rankOf_1 3 rfl rfl)
theorem dX5_rankOf_27 : decode cX5_rankOf 27 = .ok (.iload_n 3, 1) := dk_29 (dk_at dksX5_rankOf_1 4 rfl rfl)
theorem dX5_rankOf_28 : decode cX5_rankOf 28 = .ok (.iload_n 1, 1) := dk_27 (dk_at dksX5_rankOf_1 5 rfl rfl)
theorem dX5_rankOf_29 : decode cX5_rankOf 29 = .ok (.invokevirtual 61, 3) := dk_182 0 61 (dk_at dksX5_rankOf_1 6 rfl rfl)
theorem dX5_rankOf_32 : decode cX5_rankOf 32 = .ok (.ifCond .eq 7, 3) := dk_153 0 7 (dk_at dksX5_rankOf_1 9 rfl rfl)
theorem dX5_rankOf_35 : decode cX5_rankOf 35 = .ok (.iconst 1, 1) := dk_4 (dk_at dksX5_rankOf_1 12 rfl rfl)
theorem dX5_rankOf_36 : decode cX5_rankOf 36 = .ok (.goto 4, 3) := dk_167 0 4 (dk_at dksX5_rankOf_1 13 rfl rfl)
theorem dX5_rankOf_39 : decode cX5_rankOf 39 = .ok (.iconst 0, 1) := dk_3 (dk_at dksX5_rankOf_1 16 rfl rfl)
theorem dX5_rankOf_40 : decode cX5_rankOf 40 = .ok (.iadd, 1) := dk_96 (dk_at dksX5_rankOf_1 17 rfl rfl)
theorem dX5_rankOf_41 : decode cX5_rankOf 41 = .ok (.istore_n 2, 1) := dk_61 (dk_at dksX5_rankOf_1 18 rfl rfl)
theorem dX5_rankOf_42 : decode cX5_rankOf 42 = .ok (.iinc 3 1, 3) := dk_132 3 1 (dk_at dksX5_rankOf_1 19 rfl rfl)
theorem dX5_rankOf_45 : decode cX5_rankOf 45 = .ok (.goto (-41), 3) := dk_167 255 215 (dk_at dksX5_rankOf_2 0 rfl rfl)
theorem dX5_rankOf_48 : decode cX5_rankOf 48 = .ok (.iload_n 2, 1) := dk_28 (dk_at dksX5_rankOf_2 3 rfl rfl)
theorem dX5_rankOf_49 : decode cX5_rankOf 49 = .ok (.ireturn, 1) := dk_172 (dk_at dksX5_rankOf_2 4 rfl rfl)
abbrev cX5_frostOf : ByteArray := prog_8_method_65_code
def yX5_frostOf : MethodName := ⟨RX5, "frostOf", "(II)I"⟩
def dkwX5_frostOf_2 : List UInt8 := [46, 167, 0, 4, 2, 172]
abbrev dktX5_frostOf_2 : List UInt8 := dkwX5_frostOf_2 ++ []
def dkwX5_frostOf_1 : List UInt8 := [27, 42, 180, 0, 7, 16, 6, 46, 162, 0, 20, 42, 180, 0, 7, 17, 0, 141, 5, 27, 104, 96, 28, 96]
abbrev dktX5_frostOf_1 : List UInt8 := dkwX5_frostOf_1 ++ dktX5_frostOf_2
def dkwX5_frostOf_0 : List UInt8 := [42, 3, 181, 0, 35, 27, 155, 0, 12, 28, 3, 4, 184, 0, 39, 154, 0, 9, 42, 4, 182, 0, 124, 172]
abbrev dktX5_frostOf_0 : List UInt8 := dkwX5_frostOf_0 ++ dktX5_frostOf_1
theorem dksX5_frostOf_0 : cX5_frostOf.data.toList.drop 0 = dktX5_frostOf_0 := by decide +kernel
theorem dksX5_frostOf_1 : cX5_frostOf.data.toList.drop 24 = dktX5_frostOf_1 := dk_seg dksX5_frostOf_0 24 rfl rfl
theorem dksX5_frostOf_2 : cX5_frostOf.data.toList.drop 48 = dktX5_frostOf_2 := dk_seg dksX5_frostOf_1 24 rfl rfl
theorem dX5_frostOf_0 : decode cX5_frostOf 0 = .ok (.aload_n 0, 1) := dk_42 (dk_at dksX5_frostOf_0 0 rfl rfl)
theorem dX5_frostOf_1 : decode cX5_frostOf 1 = .ok (.iconst 0, 1) := dk_3 (dk_at dksX5_frostOf_0 1 rfl rfl)
theorem dX5_frostOf_2 : decode cX5_frostOf 2 = .ok (.putfield 35, 3) := dk_181 0 35 (dk_at dksX5_frostOf_0 2 rfl rfl)
theorem dX5_frostOf_5 : decode cX5_frostOf 5 = .ok (.iload_n 1, 1) := dk_27 (dk_at dksX5_frostOf_0 5 rfl rfl)
theorem dX5_frostOf_6 : decode cX5_frostOf 6 = .ok (.ifCond .lt 12, 3) := dk_155 0 12 (dk_at dksX5_frostOf_0 6 rfl rfl)
theorem dX5_frostOf_9 : decode cX5_frostOf 9 = .ok (.iload_n 2, 1) := dk_28 (dk_at dksX5_frostOf_0 9 rfl rfl)
theorem dX5_frostOf_10 : decode cX5_frostOf 10 = .ok (.iconst 0, 1) := dk_3 (dk_at dksX5_frostOf_0 10 rfl rfl)
theorem dX5_frostOf_11 : decode cX5_frostOf 11 = .ok (.iconst 1, 1) := dk_4 (dk_at dksX5_frostOf_0 11 rfl rfl)
theorem dX5_frostOf_12 : decode cX5_frostOf 12 = .ok (.invokestatic 39, 3) := dk_184 0 39 (dk_at dksX5_frostOf_0 12 rfl rfl)
theorem dX5_frostOf_15 : decode cX5_frostOf 15 = .ok (.ifCond .ne 9, 3) := dk_154 0 9 (dk_at dksX5_frostOf_0 15 rfl rfl)
theorem dX5_frostOf_18 : decode cX5_frostOf 18 = .ok (.aload_n 0, 1) := dk_42 (dk_at dksX5_frostOf_0 18 rfl rfl)
theorem dX5_frostOf_19 : decode cX5_frostOf 19 = .ok (.iconst 1, 1) := dk_4 (dk_at dksX5_frostOf_0 19 rfl rfl)
theorem dX5_frostOf_20 : decode cX5_frostOf 20 = .ok (.invokevirtual 124, 3) := dk_182 0 124 (dk_at dksX5_frostOf_0 20 rfl rfl)
theorem dX5_frostOf_23 : decode cX5_frostOf 23 = .ok (.ireturn, 1) := dk_172 (dk_at dksX5_frostOf_0 23 rfl rfl)
theorem dX5_frostOf_24 : decode cX5_frostOf 24 = .ok (.iload_n 1, 1) := dk_27 (dk_at dksX5_frostOf_1 0 rfl rfl)
theorem dX5_frostOf_25 : decode cX5_frostOf 25 = .ok (.aload_n 0, 1) := dk_42 (dk_at dksX5_frostOf_1 1 rfl rfl)
theorem dX5_frostOf_26 : decode cX5_frostOf 26 = .ok (.getfield 7, 3) := dk_180 0 7 (dk_at dksX5_frostOf_1 2 rfl rfl)
theorem dX5_frostOf_29 : decode cX5_frostOf 29 = .ok (.bipush 6, 2) := dk_16 6 (dk_at dksX5_frostOf_1 5 rfl rfl)
theorem dX5_frostOf_31 : decode cX5_frostOf 31 = .ok (.iaload, 1) := dk_46 (dk_at dksX5_frostOf_1 7 rfl rfl)
theorem dX5_frostOf_32 : decode cX5_frostOf 32 = .ok (.if_icmp .ge 20, 3) := dk_162 0 20 (dk_at dksX5_frostOf_1 8 rfl rfl)
theorem dX5_frostOf_35 : decode cX5_frostOf 35 = .ok (.aload_n 0, 1) := dk_42 (dk_at dksX5_frostOf_1 11 rfl rfl)
theorem dX5_frostOf_36 : decode cX5_frostOf 36 = .ok (.getfield 7, 3) := dk_180 0 7 (dk_at dksX5_frostOf_1 12 rfl rfl)
theorem dX5_frostOf_39 : decode cX5_frostOf 39 = .ok (.sipush 141, 3) := dk_17 0 141 (dk_at dksX5_frostOf_1 15 rfl rfl)
theorem dX5_frostOf_42 : decode cX5_frostOf 42 = .ok (.iconst 2, 1) := dk_5 (dk_at dksX5_frostOf_1 18 rfl rfl)
theorem dX5_frostOf_43 : decode cX5_frostOf 43 = .ok (.iload_n 1, 1) := dk_27 (dk_at dksX5_frostOf_1 19 rfl rfl)
theorem dX5_frostOf_44 : decode cX5_frostOf 44 = .ok (.imul, 1) := dk_104 (dk_at dksX5_frostOf_1 20 rfl rfl)
theorem dX5_frostOf_45 : decode cX5_frostOf 45 = .ok (.iadd, 1) := dk_96 (dk_at dksX5_frostOf_1 21 rfl rfl)
theorem dX5_frostOf_46 : decode cX5_frostOf 46 = .ok (.iload_n 2, 1) := dk_28 (dk_at dksX5_frostOf_1 22 rfl rfl)
theorem dX5_frostOf_47 : decode cX5_frostOf 47 = .ok (.iadd, 1) := dk_96 (dk_at dksX5_frostOf_1 23 rfl rfl)
theorem dX5_frostOf_48 : decode cX5_frostOf 48 = .ok (.iaload, 1) := dk_46 (dk_at dksX5_frostOf_2 0 rfl rfl)
theorem dX5_frostOf_49 : decode cX5_frostOf 49 = .ok (.goto 4, 3) := dk_167 0 4 (dk_at dksX5_frostOf_2 1 rfl rfl)
theorem dX5_frostOf_52 : decode cX5_frostOf 52 = .ok (.iconst (-1), 1) := dk_2 (dk_at dksX5_frostOf_2 4 rfl rfl)
theorem dX5_frostOf_53 : decode cX5_frostOf 53 = .ok (.ireturn, 1) := dk_172 (dk_at dksX5_frostOf_2 5 rfl rfl)
abbrev cX5_outing : ByteArray := prog_8_method_67_code
def yX5_outing : MethodName := ⟨RX5, "outing", "(II)I"⟩
def dkwX5_outing_1 : List UInt8 := [167, 0, 8, 42, 4, 182, 0, 124, 172]
abbrev dktX5_outing_1 : List UInt8 := dkwX5_outing_1 ++ []
def dkwX5_outing_0 : List UInt8 := [42, 3, 181, 0, 35, 27, 155, 0, 21, 28, 3, 5, 184, 0, 39, 153, 0, 12, 42, 27, 28, 182, 0, 189]
abbrev dktX5_outing_0 : List UInt8 := dkwX5_outing_0 ++ dktX5_outing_1
theorem dksX5_outing_0 : cX5_outing.data.toList.drop 0 = dktX5_outing_0 := by decide +kernel
theorem dksX5_outing_1 : cX5_outing.data.toList.drop 24 = dktX5_outing_1 := dk_seg dksX5_outing_0 24 rfl rfl
theorem dX5_outing_0 : decode cX5_outing 0 = .ok (.aload_n 0, 1) := dk_42 (dk_at dksX5_outing_0 0 rfl rfl)
theorem dX5_outing_1 : decode cX5_outing 1 = .ok (.iconst 0, 1) := dk_3 (dk_at dksX5_outing_0 1 rfl rfl)
theorem dX5_outing_2 : decode cX5_outing 2 = .ok (.putfield 35, 3) := dk_181 0 35 (dk_at dksX5_outing_0 2 rfl rfl)
theorem dX5_outing_5 : decode cX5_outing 5 = .ok (.iload_n 1, 1) := dk_27 (dk_at dksX5_outing_0 5 rfl rfl)
theorem dX5_outing_6 : decode cX5_outing 6 = .ok (.ifCond .lt 21, 3) := dk_155 0 21 (dk_at dksX5_outing_0 6 rfl rfl)
theorem dX5_outing_9 : decode cX5_outing 9 = .ok (.iload_n 2, 1) := dk_28 (dk_at dksX5_outing_0 9 rfl rfl)
theorem dX5_outing_10 : decode cX5_outing 10 = .ok (.iconst 0, 1) := dk_3 (dk_at dksX5_outing_0 10 rfl rfl)
theorem dX5_outing_11 : decode cX5_outing 11 = .ok (.iconst 2, 1) := dk_5 (dk_at dksX5_outing_0 11 rfl rfl)
theorem dX5_outing_12 : decode cX5_outing 12 = .ok (.invokestatic 39, 3) := dk_184 0 39 (dk_at dksX5_outing_0 12 rfl rfl)
theorem dX5_outing_15 : decode cX5_outing 15 = .ok (.ifCond .eq 12, 3) := dk_153 0 12 (dk_at dksX5_outing_0 15 rfl rfl)
theorem dX5_outing_18 : decode cX5_outing 18 = .ok (.aload_n 0, 1) := dk_42 (dk_at dksX5_outing_0 18 rfl rfl)
theorem dX5_outing_19 : decode cX5_outing 19 = .ok (.iload_n 1, 1) := dk_27 (dk_at dksX5_outing_0 19 rfl rfl)
theorem dX5_outing_20 : decode cX5_outing 20 = .ok (.iload_n 2, 1) := dk_28 (dk_at dksX5_outing_0 20 rfl rfl)
theorem dX5_outing_21 : decode cX5_outing 21 = .ok (.invokevirtual 189, 3) := dk_182 0 189 (dk_at dksX5_outing_0 21 rfl rfl)
theorem dX5_outing_24 : decode cX5_outing 24 = .ok (.goto 8, 3) := dk_167 0 8 (dk_at dksX5_outing_1 0 rfl rfl)
theorem dX5_outing_27 : decode cX5_outing 27 = .ok (.aload_n 0, 1) := dk_42 (dk_at dksX5_outing_1 3 rfl rfl)
theorem dX5_outing_28 : decode cX5_outing 28 = .ok (.iconst 1, 1) := dk_4 (dk_at dksX5_outing_1 4 rfl rfl)
theorem dX5_outing_29 : decode cX5_outing 29 = .ok (.invokevirtual 124, 3) := dk_182 0 124 (dk_at dksX5_outing_1 5 rfl rfl)
theorem dX5_outing_32 : decode cX5_outing 32 = .ok (.ireturn, 1) := dk_172 (dk_at dksX5_outing_1 8 rfl rfl)
abbrev cX5_tellsOuting : ByteArray := prog_8_method_66_code
def yX5_tellsOuting : MethodName := ⟨RX5, "tellsOuting", "(II)I"⟩
def dkwX5_tellsOuting_5 : List UInt8 := [182, 0, 98, 172, 132, 3, 1, 167, 255, 137, 2, 172]
abbrev dktX5_tellsOuting_5 : List UInt8 := dkwX5_tellsOuting_5 ++ []
def dkwX5_tellsOuting_4 : List UInt8 := [4, 167, 0, 4, 3, 96, 54, 4, 132, 5, 1, 167, 255, 173, 21, 4, 27, 160, 0, 10, 42, 29, 28]
abbrev dktX5_tellsOuting_4 : List UInt8 := dkwX5_tellsOuting_4 ++ dktX5_tellsOuting_5
def dkwX5_tellsOuting_3 : List UInt8 := [157, 0, 24, 21, 6, 154, 0, 23, 21, 7, 157, 0, 14, 21, 7, 154, 0, 13, 21, 5, 29, 162, 0, 7]
abbrev dktX5_tellsOuting_3 : List UInt8 := dkwX5_tellsOuting_3 ++ dktX5_tellsOuting_4
def dkwX5_tellsOuting_2 : List UInt8 := [54, 6, 42, 21, 5, 4, 182, 0, 98, 42, 29, 4, 182, 0, 98, 100, 54, 7, 21, 4, 21, 6]
abbrev dktX5_tellsOuting_2 : List UInt8 := dkwX5_tellsOuting_2 ++ dktX5_tellsOuting_3
def dkwX5_tellsOuting_1 : List UInt8 := [180, 0, 7, 16, 7, 46, 162, 0, 77, 42, 29, 3, 182, 0, 98, 42, 21, 5, 3, 182, 0, 98, 100]
abbrev dktX5_tellsOuting_1 : List UInt8 := dkwX5_tellsOuting_1 ++ dktX5_tellsOuting_2
def dkwX5_tellsOuting_0 : List UInt8 := [3, 62, 29, 42, 180, 0, 7, 16, 7, 46, 162, 0, 114, 3, 54, 4, 3, 54, 5, 21, 5, 42]
abbrev dktX5_tellsOuting_0 : List UInt8 := dkwX5_tellsOuting_0 ++ dktX5_tellsOuting_1
theorem dksX5_tellsOuting_0 : cX5_tellsOuting.data.toList.drop 0 = dktX5_tellsOuting_0 := by decide +kernel
theorem dksX5_tellsOuting_1 : cX5_tellsOuting.data.toList.drop 22 = dktX5_tellsOuting_1 := dk_seg dksX5_tellsOuting_0 22 rfl rfl
theorem dksX5_tellsOuting_2 : cX5_tellsOuting.data.toList.drop 45 = dktX5_tellsOuting_2 := dk_seg dksX5_tellsOuting_1 23 rfl rfl
theorem dksX5_tellsOuting_3 : cX5_tellsOuting.data.toList.drop 67 = dktX5_tellsOuting_3 := dk_seg dksX5_tellsOuting_2 22 rfl rfl
theorem dksX5_tellsOuting_4 : cX5_tellsOuting.data.toList.drop 91 = dktX5_tellsOuting_4 := dk_seg dksX5_tellsOuting_3 24 rfl rfl
theorem dksX5_tellsOuting_5 : cX5_tellsOuting.data.toList.drop 114 = dktX5_tellsOuting_5 := dk_seg dksX5_tellsOuting_4 23 rfl rfl
theorem dX5_tellsOuting_0 : decode cX5_tellsOuting 0 = .ok (.iconst 0, 1) := dk_3 (dk_at dksX5_tellsOuting_0 0 rfl rfl)
theorem dX5_tellsOuting_1 : decode cX5_tellsOuting 1 = .ok (.istore_n 3, 1) := dk_62 (dk_at dksX5_tellsOuting_0 1 rfl rfl)
theorem dX5_tellsOuting_2 : decode cX5_tellsOuting 2 = .ok (.iload_n 3, 1) := dk_29 (dk_at dksX5_tellsOuting_0 2 rfl rfl)
theorem dX5_tellsOuting_3 : decode cX5_tellsOuting 3 = .ok (.aload_n 0, 1) := dk_42 (dk_at dksX5_tellsOuting_0 3 rfl rfl)
theorem dX5_tellsOuting_4 : decode cX5_tellsOuting 4 = .ok (.getfield 7, 3) := dk_180 0 7 (dk_at dksX5_tellsOuting_0 4 rfl rfl)
theorem dX5_tellsOuting_7 : decode cX5_tellsOuting 7 = .ok (.bipush 7, 2) := dk_16 7 (dk_at dksX5_tellsOuting_0 7 rfl rfl)
theorem dX5_tellsOuting_9 : decode cX5_tellsOuting 9 = .ok (.iaload, 1) := dk_46 (dk_at dksX5_tellsOuting_0 9 rfl rfl)
theorem dX5_tellsOuting_10 : decode cX5_tellsOuting 10 = .ok (.if_icmp .ge 114, 3) := dk_162 0 114 (dk_at dksX5_tellsOuting_0 10 rfl rfl)
theorem dX5_tellsOuting_13 : decode cX5_tellsOuting 13 = .ok (.iconst 0, 1) := dk_3 (dk_at dksX5_tellsOuting_0 13 rfl rfl)
theorem dX5_tellsOuting_14 : decode cX5_tellsOuting 14 = .ok (.istore 4, 2) := dk_54 4 (dk_at dksX5_tellsOuting_0 14 rfl rfl)
theorem dX5_tellsOuting_16 : decode cX5_tellsOuting 16 = .ok (.iconst 0, 1) := dk_3 (dk_at dksX5_tellsOuting_0 16 rfl rfl)
theorem dX5_tellsOuting_17 : decode cX5_tellsOuting 17 = .ok (.istore 5, 2) := dk_54 5 (dk_at dksX5_tellsOuting_0 17 rfl rfl)
theorem dX5_tellsOuting_19 : decode cX5_tellsOuting 19 = .ok (.iload 5, 2) := dk_21 5 (dk_at dksX5_tellsOuting_0 19 rfl rfl)
theorem dX5_tellsOuting_21 : decode cX5_tellsOuting 21 = .ok (.aload_n 0, 1) := dk_42 (dk_at dksX5_tellsOuting_0 21 rfl rfl)
theorem dX5_tellsOuting_22 : decode cX5_tellsOuting 22 = .ok (.getfield 7, 3) := dk_180 0 7 (dk_at dksX5_tellsOuting_1 0 rfl rfl)
theorem dX5_tellsOuting_25 : decode cX5_tellsOuting 25 = .ok (.bipush 7, 2) := dk_16 7 (dk_at dksX5_tellsOuting_1 3 rfl rfl)
theorem dX5_tellsOuting_27 : decode cX5_tellsOuting 27 = .ok (.iaload, 1) := dk_46 (dk_at dksX5_tellsOuting_1 5 rfl rfl)
theorem dX5_tellsOuting_28 : decode cX5_tellsOuting 28 = .ok (.if_icmp .ge 77, 3) := dk_162 0 77 (dk_at dksX5_tellsOuting_1 6 rfl rfl)
theorem dX5_tellsOuting_31 : decode cX5_tellsOuting 31 = .ok (.aload_n 0, 1) := dk_42 (dk_at dksX5_tellsOuting_1 9 rfl rfl)
theorem dX5_tellsOuting_32 : decode cX5_tellsOuting 32 = .ok (.iload_n 3, 1) := dk_29 (dk_at dksX5_tellsOuting_1 10 rfl rfl)
theorem dX5_tellsOuting_33 : decode cX5_tellsOuting 33 = .ok (.iconst 0, 1) := dk_3 (dk_at dksX5_tellsOuting_1 11 rfl rfl)
theorem dX5_tellsOuting_34 : decode cX5_tellsOuting 34 = .ok (.invokevirtual 98, 3) := dk_182 0 98 (dk_at dksX5_tellsOuting_1 12 rfl rfl)
theorem dX5_tellsOuting_37 : decode cX5_tellsOuting 37 = .ok (.aload_n 0, 1) := dk_42 (dk_at dksX5_tellsOuting_1 15 rfl rfl)
theorem dX5_tellsOuting_38 : decode cX5_tellsOuting 38 = .ok (.iload 5, 2) := dk_21 5 (dk_at dksX5_tellsOuting_1 16 rfl rfl)
theorem dX5_tellsOuting_40 : decode cX5_tellsOuting 40 = .ok (.iconst 0, 1) := dk_3 (dk_at dksX5_tellsOuting_1 18 rfl rfl)
theorem dX5_tellsOuting_41 : decode cX5_tellsOuting 41 = .ok (.invokevirtual 98, 3) := dk_182 0 98 (dk_at dksX5_tellsOuting_1 19 rfl rfl)
theorem dX5_tellsOuting_44 : decode cX5_tellsOuting 44 = .ok (.isub, 1) := dk_100 (dk_at dksX5_tellsOuting_1 22 rfl rfl)
theorem dX5_tellsOuting_45 : decode cX5_tellsOuting 45 = .ok (.istore 6, 2) := dk_54 6 (dk_at dksX5_tellsOuting_2 0 rfl rfl)
theorem dX5_tellsOuting_47 : decode cX5_tellsOuting 47 = .ok (.aload_n 0, 1) := dk_42 (dk_at dksX5_tellsOuting_2 2 rfl rfl)
theorem dX5_tellsOuting_48 : decode cX5_tellsOuting 48 = .ok (.iload 5, 2) := dk_21 5 (dk_at dksX5_tellsOuting_2 3 rfl rfl)
theorem dX5_tellsOuting_50 : decode cX5_tellsOuting 50 = .ok (.iconst 1, 1) := dk_4 (dk_at dksX5_tellsOuting_2 5 rfl rfl)
theorem dX5_tellsOuting_51 : decode cX5_tellsOuting 51 = .ok (.invokevirtual 98, 3) := dk_182 0 98 (dk_at dksX5_tellsOuting_2 6 rfl rfl)
theorem dX5_tellsOuting_54 : decode cX5_tellsOuting 54 = .ok (.aload_n 0, 1) := dk_42 (dk_at dksX5_tellsOuting_2 9 rfl rfl)
theorem dX5_tellsOuting_55 : decode cX5_tellsOuting 55 = .ok (.iload_n 3, 1) := dk_29 (dk_at dksX5_tellsOuting_2 10 rfl rfl)
theorem dX5_tellsOuting_56 : decode cX5_tellsOuting 56 = .ok (.iconst 1, 1) := dk_4 (dk_at dksX5_tellsOuting_2 11 rfl rfl)
theorem dX5_tellsOuting_57 : decode cX5_tellsOuting 57 = .ok (.invokevirtual 98, 3) := dk_182 0 98 (dk_at dksX5_tellsOuting_2 12 rfl rfl)
theorem dX5_tellsOuting_60 : decode cX5_tellsOuting 60 = .ok (.isub, 1) := dk_100 (dk_at dksX5_tellsOuting_2 15 rfl rfl)
theorem dX5_tellsOuting_61 : decode cX5_tellsOuting 61 = .ok (.istore 7, 2) := dk_54 7 (dk_at dksX5_tellsOuting_2 16 rfl rfl)
theorem dX5_tellsOuting_63 : decode cX5_tellsOuting 63 = .ok (.iload 4, 2) := dk_21 4 (dk_at dksX5_tellsOuting_2 18 rfl rfl)
theorem dX5_tellsOuting_65 : decode cX5_tellsOuting 65 = .ok (.iload 6, 2) := dk_21 6 (dk_at dksX5_tellsOuting_2 20 rfl rfl)
theorem dX5_tellsOuting_67 : decode cX5_tellsOuting 67 = .ok (.ifCond .gt 24, 3) := dk_157 0 24 (dk_at dksX5_tellsOuting_3 0 rfl rfl)
theorem dX5_tellsOuting_70 : decode cX5_tellsOuting 70 = .ok (.iload 6, 2) := dk_21 6 (dk_at dksX5_tellsOuting_3 3 rfl rfl)
theorem dX5_tellsOuting_72 : decode cX5_tellsOuting 72 = .ok (.ifCond .ne 23, 3) := dk_154 0 23 (dk_at dksX5_tellsOuting_3 5 rfl rfl)
theorem dX5_tellsOuting_75 : decode cX5_tellsOuting 75 = .ok (.iload 7, 2) := dk_21 7 (dk_at dksX5_tellsOuting_3 8 rfl rfl)
theorem dX5_tellsOuting_77 : decode cX5_tellsOuting 77 = .ok (.ifCond .gt 14, 3) := dk_157 0 14 (dk_at dksX5_tellsOuting_3 10 rfl rfl)
theorem dX5_tellsOuting_80 : decode cX5_tellsOuting 80 = .ok (.iload 7, 2) := dk_21 7 (dk_at dksX5_tellsOuting_3 13 rfl rfl)
theorem dX5_tellsOuting_82 : decode cX5_tellsOuting 82 = .ok (.ifCond .ne 13, 3) := dk_154 0 13 (dk_at dksX5_tellsOuting_3 15 rfl rfl)
theorem dX5_tellsOuting_85 : decode cX5_tellsOuting 85 = .ok (.iload 5, 2) := dk_21 5 (dk_at dksX5_tellsOuting_3 18 rfl rfl)
theorem dX5_tellsOuting_87 : decode cX5_tellsOuting 87 = .ok (.iload_n 3, 1) := dk_29 (dk_at dksX5_tellsOuting_3 20 rfl rfl)
theorem dX5_tellsOuting_88 : decode cX5_tellsOuting 88 = .ok (.if_icmp .ge 7, 3) := dk_162 0 7 (dk_at dksX5_tellsOuting_3 21 rfl rfl)
theorem dX5_tellsOuting_91 : decode cX5_tellsOuting 91 = .ok (.iconst 1, 1) := dk_4 (dk_at dksX5_tellsOuting_4 0 rfl rfl)
theorem dX5_tellsOuting_92 : decode cX5_tellsOuting 92 = .ok (.goto 4, 3) := dk_167 0 4 (dk_at dksX5_tellsOuting_4 1 rfl rfl)
theorem dX5_tellsOuting_95 : decode cX5_tellsOuting 95 = .ok (.iconst 0, 1) := dk_3 (dk_at dksX5_tellsOuting_4 4 rfl rfl)
theorem dX5_tellsOuting_96 : decode cX5_tellsOuting 96 = .ok (.iadd, 1) := dk_96 (dk_at dksX5_tellsOuting_4 5 rfl rfl)
theorem dX5_tellsOuting_97 : decode cX5_tellsOuting 97 = .ok (.istore 4, 2) := dk_54 4 (dk_at dksX5_tellsOuting_4 6 rfl rfl)
theorem dX5_tellsOuting_99 : decode cX5_tellsOuting 99 = .ok (.iinc 5 1, 3) := dk_132 5 1 (dk_at dksX5_tellsOuting_4 8 rfl rfl)
theorem dX5_tellsOuting_102 : decode cX5_tellsOuting 102 = .ok (.goto (-83), 3) := dk_167 255 173 (dk_at dksX5_tellsOuting_4 11 rfl rfl)
theorem dX5_tellsOuting_105 : decode cX5_tellsOuting 105 = .ok (.iload 4, 2) := dk_21 4 (dk_at dksX5_tellsOuting_4 14 rfl rfl)
theorem dX5_tellsOuting_107 : decode cX5_tellsOuting 107 = .ok (.iload_n 1, 1) := dk_27 (dk_at dksX5_tellsOuting_4 16 rfl rfl)
theorem dX5_tellsOuting_108 : decode cX5_tellsOuting 108 = .ok (.if_icmp .ne 10, 3) := dk_160 0 10 (dk_at dksX5_tellsOuting_4 17 rfl rfl)
theorem dX5_tellsOuting_111 : decode cX5_tellsOuting 111 = .ok (.aload_n 0, 1) := dk_42 (dk_at dksX5_tellsOuting_4 20 rfl rfl)
theorem dX5_tellsOuting_112 : decode cX5_tellsOuting 112 = .ok (.iload_n 3, 1) := dk_29 (dk_at dksX5_tellsOuting_4 21 rfl rfl)
theorem dX5_tellsOuting_113 : decode cX5_tellsOuting 113 = .ok (.iload_n 2, 1) := dk_28 (dk_at dksX5_tellsOuting_4 22 rfl rfl)
theorem dX5_tellsOuting_114 : decode cX5_tellsOuting 114 = .ok (.invokevirtual 98, 3) := dk_182 0 98 (dk_at dksX5_tellsOuting_5 0 rfl rfl)
theorem dX5_tellsOuting_117 : decode cX5_tellsOuting 117 = .ok (.ireturn, 1) := dk_172 (dk_at dksX5_tellsOuting_5 3 rfl rfl)
theorem dX5_tellsOuting_118 : decode cX5_tellsOuting 118 = .ok (.iinc 3 1, 3) := dk_132 3 1 (dk_at dksX5_tellsOuting_5 4 rfl rfl)
theorem dX5_tellsOuting_121 : decode cX5_tellsOuting 121 = .ok (.goto (-119), 3) := dk_167 255 137 (dk_at dksX5_tellsOuting_5 7 rfl rfl)
theorem dX5_tellsOuting_124 : decode cX5_tellsOuting 124 = .ok (.iconst (-1), 1) := dk_2 (dk_at dksX5_tellsOuting_5 10 rfl rfl)
theorem dX5_tellsOuting_125 : decode cX5_tellsOuting 125 = .ok (.ireturn, 1) := dk_172 (dk_at dksX5_tellsOuting_5 11 rfl rfl)
abbrev cX5_count : ByteArray := prog_8_method_69_code
def yX5_count : MethodName := ⟨RX5, "count", "(I)I"⟩
def dkwX5_count_1 : List UInt8 := [4, 182, 0, 124, 172]
abbrev dktX5_count_1 : List UInt8 := dkwX5_count_1 ++ []
def dkwX5_count_0 : List UInt8 := [42, 3, 181, 0, 35, 27, 3, 16, 11, 184, 0, 39, 153, 0, 11, 42, 27, 182, 0, 198, 167, 0, 8, 42]
abbrev dktX5_count_0 : List UInt8 := dkwX5_count_0 ++ dktX5_count_1
theorem dksX5_count_0 : cX5_count.data.toList.drop 0 = dktX5_count_0 := by decide +kernel
theorem dksX5_count_1 : cX5_count.data.toList.drop 24 = dktX5_count_1 := dk_seg dksX5_count_0 24 rfl rfl
theorem dX5_count_0 : decode cX5_count 0 = .ok (.aload_n 0, 1) := dk_42 (dk_at dksX5_count_0 0 rfl rfl)
theorem dX5_count_1 : decode cX5_count 1 = .ok (.iconst 0, 1) := dk_3 (dk_at dksX5_count_0 1 rfl rfl)
theorem dX5_count_2 : decode cX5_count 2 = .ok (.putfield 35, 3) := dk_181 0 35 (dk_at dksX5_count_0 2 rfl rfl)
theorem dX5_count_5 : decode cX5_count 5 = .ok (.iload_n 1, 1) := dk_27 (dk_at dksX5_count_0 5 rfl rfl)
theorem dX5_count_6 : decode cX5_count 6 = .ok (.iconst 0, 1) := dk_3 (dk_at dksX5_count_0 6 rfl rfl)
theorem dX5_count_7 : decode cX5_count 7 = .ok (.bipush 11, 2) := dk_16 11 (dk_at dksX5_count_0 7 rfl rfl)
theorem dX5_count_9 : decode cX5_count 9 = .ok (.invokestatic 39, 3) := dk_184 0 39 (dk_at dksX5_count_0 9 rfl rfl)
theorem dX5_count_12 : decode cX5_count 12 = .ok (.ifCond .eq 11, 3) := dk_153 0 11 (dk_at dksX5_count_0 12 rfl rfl)
theorem dX5_count_15 : decode cX5_count 15 = .ok (.aload_n 0, 1) := dk_42 (dk_at dksX5_count_0 15 rfl rfl)
theorem dX5_count_16 : decode cX5_count 16 = .ok (.iload_n 1, 1) := dk_27 (dk_at dksX5_count_0 16 rfl rfl)
theorem dX5_count_17 : decode cX5_count 17 = .ok (.invokevirtual 198, 3) := dk_182 0 198 (dk_at dksX5_count_0 17 rfl rfl)
theorem dX5_count_20 : decode cX5_count 20 = .ok (.goto 8, 3) := dk_167 0 8 (dk_at dksX5_count_0 20 rfl rfl)
theorem dX5_count_23 : decode cX5_count 23 = .ok (.aload_n 0, 1) := dk_42 (dk_at dksX5_count_0 23 rfl rfl)
theorem dX5_count_24 : decode cX5_count 24 = .ok (.iconst 1, 1) := dk_4 (dk_at dksX5_count_1 0 rfl rfl)
theorem dX5_count_25 : decode cX5_count 25 = .ok (.invokevirtual 124, 3) := dk_182 0 124 (dk_at dksX5_count_1 1 rfl rfl)
theorem dX5_count_28 : decode cX5_count 28 = .ok (.ireturn, 1) := dk_172 (dk_at dksX5_count_1 4 rfl rfl)
abbrev cX5_counts : ByteArray := prog_8_method_68_code
def yX5_counts : MethodName := ⟨RX5, "counts", "(I)I"⟩
def dkwX5_counts_4 : List UInt8 := [3, 172, 42, 180, 0, 43, 172, 42, 180, 0, 7, 16, 8, 27, 96, 8, 100, 46, 172]
abbrev dktX5_counts_4 : List UInt8 := dkwX5_counts_4 ++ []
def dkwX5_counts_3 : List UInt8 := [180, 0, 7, 16, 7, 46, 172, 42, 42, 180, 0, 7, 8, 46, 182, 0, 50, 153, 0, 7, 4, 167, 0, 4]
abbrev dktX5_counts_3 : List UInt8 := dkwX5_counts_3 ++ dktX5_counts_4
def dkwX5_counts_2 : List UInt8 := [42, 180, 0, 7, 8, 46, 172, 42, 182, 0, 130, 172, 42, 182, 0, 192, 172, 42, 182, 0, 195, 172, 42]
abbrev dktX5_counts_2 : List UInt8 := dkwX5_counts_2 ++ dktX5_counts_3
def dkwX5_counts_1 : List UInt8 := [170, 0, 0, 0, 0, 0, 117, 0, 0, 0, 0, 0, 0, 0, 11, 0, 0, 0, 63, 0, 0, 0, 70, 0, 0, 0, 75, 0, 0, 0, 80, 0, 0, 0, 85, 0, 0, 0, 117, 0, 0, 0, 117, 0, 0, 0, 117, 0, 0, 0, 117, 0, 0, 0, 117, 0, 0, 0, 93, 0, 0, 0, 112]
abbrev dktX5_counts_1 : List UInt8 := dkwX5_counts_1 ++ dktX5_counts_2
def dkwX5_counts_0 : List UInt8 := [27]
abbrev dktX5_counts_0 : List UInt8 := dkwX5_counts_0 ++ dktX5_counts_1
theorem dksX5_counts_0 : cX5_counts.data.toList.drop 0 = dktX5_counts_0 := by decide +kernel
theorem dksX5_counts_1 : cX5_counts.data.toList.drop 1 = dktX5_counts_1 := dk_seg dksX5_counts_0 1 rfl rfl
theorem dksX5_counts_2 : cX5_counts.data.toList.drop 64 = dktX5_counts_2 := dk_seg dksX5_counts_1 63 rfl rfl
theorem dksX5_counts_3 : cX5_counts.data.toList.drop 87 = dktX5_counts_3 := dk_seg dksX5_counts_2 23 rfl rfl
theorem dksX5_counts_4 : cX5_counts.data.toList.drop 111 = dktX5_counts_4 := dk_seg dksX5_counts_3 24 rfl rfl
theorem dX5_counts_0 : decode cX5_counts 0 = .ok (.iload_n 1, 1) := dk_27 (dk_at dksX5_counts_0 0 rfl rfl)
theorem dX5_counts_1 : decode cX5_counts 1 = .ok (.tableswitch 117 0 11 #[63, 70, 75, 80, 85, 117, 117, 117, 117, 117, 93, 112], 63) := by decide +kernel
theorem dX5_counts_64 : decode cX5_counts 64 = .ok (.aload_n 0, 1) := dk_42 (dk_at dksX5_counts_2 0 rfl rfl)
theorem dX5_counts_65 : decode cX5_counts 65 = .ok (.getfield 7, 3) := dk_180 0 7 (dk_at dksX5_counts_2 1 rfl rfl)
theorem dX5_counts_68 : decode cX5_counts 68 = .ok (.iconst 5, 1) := dk_8 (dk_at dksX5_counts_2 4 rfl rfl)
theorem dX5_counts_69 : decode cX5_counts 69 = .ok (.iaload, 1) := dk_46 (dk_at dksX5_counts_2 5 rfl rfl)
theorem dX5_counts_70 : decode cX5_counts 70 = .ok (.ireturn, 1) := dk_172 (dk_at dksX5_counts_2 6 rfl rfl)
theorem dX5_counts_71 : decode cX5_counts 71 = .ok (.aload_n 0, 1) := dk_42 (dk_at dksX5_counts_2 7 rfl rfl)
theorem dX5_counts_72 : decode cX5_counts 72 = .ok (.invokevirtual 130, 3) := dk_182 0 130 (dk_at dksX5_counts_2 8 rfl rfl)
theorem dX5_counts_75 : decode cX5_counts 75 = .ok (.ireturn, 1) := dk_172 (dk_at dksX5_counts_2 11 rfl rfl)
theorem dX5_counts_76 : decode cX5_counts 76 = .ok (.aload_n 0, 1) := dk_42 (dk_at dksX5_counts_2 12 rfl rfl)
theorem dX5_counts_77 : decode cX5_counts 77 = .ok (.invokevirtual 192, 3) := dk_182 0 192 (dk_at dksX5_counts_2 13 rfl rfl)
theorem dX5_counts_80 : decode cX5_counts 80 = .ok (.ireturn, 1) := dk_172 (dk_at dksX5_counts_2 16 rfl rfl)
theorem dX5_counts_81 : decode cX5_counts 81 = .ok (.aload_n 0, 1) := dk_42 (dk_at dksX5_counts_2 17 rfl rfl)
theorem dX5_counts_82 : decode cX5_counts 82 = .ok (.invokevirtual 195, 3) := dk_182 0 195 (dk_at dksX5_counts_2 18 rfl rfl)
theorem dX5_counts_85 : decode cX5_counts 85 = .ok (.ireturn, 1) := dk_172 (dk_at dksX5_counts_2 21 rfl rfl)
theorem dX5_counts_86 : decode cX5_counts 86 = .ok (.aload_n 0, 1) := dk_42 (dk_at dksX5_counts_2 22 rfl rfl)
theorem dX5_counts_87 : decode cX5_counts 87 = .ok (.getfield 7, 3) := dk_180 0 7 (dk_at dksX5_counts_3 0 rfl rfl)
theorem dX5_counts_90 : decode cX5_counts 90 = .ok (.bipush 7, 2) := dk_16 7 (dk_at dksX5_counts_3 3 rfl rfl)
theorem dX5_counts_92 : decode cX5_counts 92 = .ok (.iaload, 1) := dk_46 (dk_at dksX5_counts_3 5 rfl rfl)
theorem dX5_counts_93 : decode cX5_counts 93 = .ok (.ireturn, 1) := dk_172 (dk_at dksX5_counts_3 6 rfl rfl)
theorem dX5_counts_94 : decode cX5_counts 94 = .ok (.aload_n 0, 1) := dk_42 (dk_at dksX5_counts_3 7 rfl rfl)
theorem dX5_counts_95 : decode cX5_counts 95 = .ok (.aload_n 0, 1) := dk_42 (dk_at dksX5_counts_3 8 rfl rfl)
theorem dX5_counts_96 : decode cX5_counts 96 = .ok (.getfield 7, 3) := dk_180 0 7 (dk_at dksX5_counts_3 9 rfl rfl)
theorem dX5_counts_99 : decode cX5_counts 99 = .ok (.iconst 5, 1) := dk_8 (dk_at dksX5_counts_3 12 rfl rfl)
theorem dX5_counts_100 : decode cX5_counts 100 = .ok (.iaload, 1) := dk_46 (dk_at dksX5_counts_3 13 rfl rfl)
theorem dX5_counts_101 : decode cX5_counts 101 = .ok (.invokevirtual 50, 3) := dk_182 0 50 (dk_at dksX5_counts_3 14 rfl rfl)
theorem dX5_counts_104 : decode cX5_counts 104 = .ok (.ifCond .eq 7, 3) := dk_153 0 7 (dk_at dksX5_counts_3 17 rfl rfl)
theorem dX5_counts_107 : decode cX5_counts 107 = .ok (.iconst 1, 1) := dk_4 (dk_at dksX5_counts_3 20 rfl rfl)
theorem dX5_counts_108 : decode cX5_counts 108 = .ok (.goto 4, 3) := dk_167 0 4 (dk_at dksX5_counts_3 21 rfl rfl)
theorem dX5_counts_111 : decode cX5_counts 111 = .ok (.iconst 0, 1) := dk_3 (dk_at dksX5_counts_4 0 rfl rfl)
theorem dX5_counts_112 : decode cX5_counts 112 = .ok (.ireturn, 1) := dk_172 (dk_at dksX5_counts_4 1 rfl rfl)
theorem dX5_counts_113 : decode cX5_counts 113 = .ok (.aload_n 0, 1) := dk_42 (dk_at dksX5_counts_4 2 rfl rfl)
theorem dX5_counts_114 : decode cX5_counts 114 = .ok (.getfield 43, 3) := dk_180 0 43 (dk_at dksX5_counts_4 3 rfl rfl)
theorem dX5_counts_117 : decode cX5_counts 117 = .ok (.ireturn, 1) := dk_172 (dk_at dksX5_counts_4 6 rfl rfl)
theorem dX5_counts_118 : decode cX5_counts 118 = .ok (.aload_n 0, 1) := dk_42 (dk_at dksX5_counts_4 7 rfl rfl)
theorem dX5_counts_119 : decode cX5_counts 119 = .ok (.getfield 7, 3) := dk_180 0 7 (dk_at dksX5_counts_4 8 rfl rfl)
theorem dX5_counts_122 : decode cX5_counts 122 = .ok (.bipush 8, 2) := dk_16 8 (dk_at dksX5_counts_4 11 rfl rfl)
theorem dX5_counts_124 : decode cX5_counts 124 = .ok (.iload_n 1, 1) := dk_27 (dk_at dksX5_counts_4 13 rfl rfl)
theorem dX5_counts_125 : decode cX5_counts 125 = .ok (.iadd, 1) := dk_96 (dk_at dksX5_counts_4 14 rfl rfl)
theorem dX5_counts_126 : decode cX5_counts 126 = .ok (.iconst 5, 1) := dk_8 (dk_at dksX5_counts_4 15 rfl rfl)
theorem dX5_counts_127 : decode cX5_counts 127 = .ok (.isub, 1) := dk_100 (dk_at dksX5_counts_4 16 rfl rfl)
theorem dX5_counts_128 : decode cX5_counts 128 = .ok (.iaload, 1) := dk_46 (dk_at dksX5_counts_4 17 rfl rfl)
theorem dX5_counts_129 : decode cX5_counts 129 = .ok (.ireturn, 1) := dk_172 (dk_at dksX5_counts_4 18 rfl rfl)
abbrev cX5_open : ByteArray := prog_8_method_15_code
def yX5_open : MethodName := ⟨RX5, "open", "()I"⟩
def dkwX5_open_1 : List UInt8 := [96, 60, 132, 2, 1, 167, 255, 231, 27, 172]
abbrev dktX5_open_1 : List UInt8 := dkwX5_open_1 ++ []
def dkwX5_open_0 : List UInt8 := [3, 60, 3, 61, 28, 16, 8, 162, 0, 25, 27, 42, 28, 182, 0, 54, 154, 0, 7, 4, 167, 0, 4, 3]
abbrev dktX5_open_0 : List UInt8 := dkwX5_open_0 ++ dktX5_open_1
theorem dksX5_open_0 : cX5_open.data.toList.drop 0 = dktX5_open_0 := by decide +kernel
theorem dksX5_open_1 : cX5_open.data.toList.drop 24 = dktX5_open_1 := dk_seg dksX5_open_0 24 rfl rfl
theorem dX5_open_0 : decode cX5_open 0 = .ok (.iconst 0, 1) := dk_3 (dk_at dksX5_open_0 0 rfl rfl)
theorem dX5_open_1 : decode cX5_open 1 = .ok (.istore_n 1, 1) := dk_60 (dk_at dksX5_open_0 1 rfl rfl)
theorem dX5_open_2 : decode cX5_open 2 = .ok (.iconst 0, 1) := dk_3 (dk_at dksX5_open_0 2 rfl rfl)
theorem dX5_open_3 : decode cX5_open 3 = .ok (.istore_n 2, 1) := dk_61 (dk_at dksX5_open_0 3 rfl rfl)
theorem dX5_open_4 : decode cX5_open 4 = .ok (.iload_n 2, 1) := dk_28 (dk_at dksX5_open_0 4 rfl rfl)
theorem dX5_open_5 : decode cX5_open 5 = .ok (.bipush 8, 2) := dk_16 8 (dk_at dksX5_open_0 5 rfl rfl)
theorem dX5_open_7 : decode cX5_open 7 = .ok (.if_icmp .ge 25, 3) := dk_162 0 25 (dk_at dksX5_open_0 7 rfl rfl)
theorem dX5_open_10 : decode cX5_open 10 = .ok (.iload_n 1, 1) := dk_27 (dk_at dksX5_open_0 10 rfl rfl)
theorem dX5_open_11 : decode cX5_open 11 = .ok (.aload_n 0, 1) := dk_42 (dk_at dksX5_open_0 11 rfl rfl)
theorem dX5_open_12 : decode cX5_open 12 = .ok (.iload_n 2, 1) := dk_28 (dk_at dksX5_open_0 12 rfl rfl)
theorem dX5_open_13 : decode cX5_open 13 = .ok (.invokevirtual 54, 3) := dk_182 0 54 (dk_at dksX5_open_0 13 rfl rfl)
theorem dX5_open_16 : decode cX5_open 16 = .ok (.ifCond .ne 7, 3) := dk_154 0 7 (dk_at dksX5_open_0 16 rfl rfl)
theorem dX5_open_19 : decode cX5_open 19 = .ok (.iconst 1, 1) := dk_4 (dk_at dksX5_open_0 19 rfl rfl)
theorem dX5_open_20 : decode cX5_open 20 = .ok (.goto 4, 3) := dk_167 0 4 (dk_at dksX5_open_0 20 rfl rfl)
theorem dX5_open_23 : decode cX5_open 23 = .ok (.iconst 0, 1) := dk_3 (dk_at dksX5_open_0 23 rfl rfl)
theorem dX5_open_24 : decode cX5_open 24 = .ok (.iadd, 1) := dk_96 (dk_at dksX5_open_1 0 rfl rfl)
theorem dX5_open_25 : decode cX5_open 25 = .ok (.istore_n 1, 1) := dk_60 (dk_at dksX5_open_1 1 rfl rfl)
theorem dX5_open_26 : decode cX5_open 26 = .ok (.iinc 2 1, 3) := dk_132 2 1 (dk_at dksX5_open_1 2 rfl rfl)
theorem dX5_open_29 : decode cX5_open 29 = .ok (.goto (-25), 3) := dk_167 255 231 (dk_at dksX5_open_1 5 rfl rfl)
theorem dX5_open_32 : decode cX5_open 32 = .ok (.iload_n 1, 1) := dk_27 (dk_at dksX5_open_1 8 rfl rfl)
theorem dX5_open_33 : decode cX5_open 33 = .ok (.ireturn, 1) := dk_172 (dk_at dksX5_open_1 9 rfl rfl)
abbrev cX5_jobs : ByteArray := prog_8_method_19_code
def yX5_jobs : MethodName := ⟨RX5, "jobs", "()I"⟩
def dkwX5_jobs_1 : List UInt8 := [167, 255, 238, 27, 172]
abbrev dktX5_jobs_1 : List UInt8 := dkwX5_jobs_1 ++ []
def dkwX5_jobs_0 : List UInt8 := [3, 60, 3, 61, 28, 16, 16, 162, 0, 18, 27, 42, 28, 3, 182, 0, 58, 96, 60, 132, 2, 1]
abbrev dktX5_jobs_0 : List UInt8 := dkwX5_jobs_0 ++ dktX5_jobs_1
theorem dksX5_jobs_0 : cX5_jobs.data.toList.drop 0 = dktX5_jobs_0 := by decide +kernel
theorem dksX5_jobs_1 : cX5_jobs.data.toList.drop 22 = dktX5_jobs_1 := dk_seg dksX5_jobs_0 22 rfl rfl
theorem dX5_jobs_0 : decode cX5_jobs 0 = .ok (.iconst 0, 1) := dk_3 (dk_at dksX5_jobs_0 0 rfl rfl)
theorem dX5_jobs_1 : decode cX5_jobs 1 = .ok (.istore_n 1, 1) := dk_60 (dk_at dksX5_jobs_0 1 rfl rfl)
theorem dX5_jobs_2 : decode cX5_jobs 2 = .ok (.iconst 0, 1) := dk_3 (dk_at dksX5_jobs_0 2 rfl rfl)
theorem dX5_jobs_3 : decode cX5_jobs 3 = .ok (.istore_n 2, 1) := dk_61 (dk_at dksX5_jobs_0 3 rfl rfl)
theorem dX5_jobs_4 : decode cX5_jobs 4 = .ok (.iload_n 2, 1) := dk_28 (dk_at dksX5_jobs_0 4 rfl rfl)
theorem dX5_jobs_5 : decode cX5_jobs 5 = .ok (.bipush 16, 2) := dk_16 16 (dk_at dksX5_jobs_0 5 rfl rfl)
theorem dX5_jobs_7 : decode cX5_jobs 7 = .ok (.if_icmp .ge 18, 3) := dk_162 0 18 (dk_at dksX5_jobs_0 7 rfl rfl)
theorem dX5_jobs_10 : decode cX5_jobs 10 = .ok (.iload_n 1, 1) := dk_27 (dk_at dksX5_jobs_0 10 rfl rfl)
theorem dX5_jobs_11 : decode cX5_jobs 11 = .ok (.aload_n 0, 1) := dk_42 (dk_at dksX5_jobs_0 11 rfl rfl)
theorem dX5_jobs_12 : decode cX5_jobs 12 = .ok (.iload_n 2, 1) := dk_28 (dk_at dksX5_jobs_0 12 rfl rfl)
theorem dX5_jobs_13 : decode cX5_jobs 13 = .ok (.iconst 0, 1) := dk_3 (dk_at dksX5_jobs_0 13 rfl rfl)
theorem dX5_jobs_14 : decode cX5_jobs 14 = .ok (.invokevirtual 58, 3) := dk_182 0 58 (dk_at dksX5_jobs_0 14 rfl rfl)
theorem dX5_jobs_17 : decode cX5_jobs 17 = .ok (.iadd, 1) := dk_96 (dk_at dksX5_jobs_0 17 rfl rfl)
theorem dX5_jobs_18 : decode cX5_jobs 18 = .ok (.istore_n 1, 1) := dk_60 (dk_at dksX5_jobs_0 18 rfl rfl)
theorem dX5_jobs_19 : decode cX5_jobs 19 = .ok (.iinc 2 1, 3) := dk_132 2 1 (dk_at dksX5_jobs_0 19 rfl rfl)
theorem dX5_jobs_22 : decode cX5_jobs 22 = .ok (.goto (-18), 3) := dk_167 255 238 (dk_at dksX5_jobs_1 0 rfl rfl)
theorem dX5_jobs_25 : decode cX5_jobs 25 = .ok (.iload_n 1, 1) := dk_27 (dk_at dksX5_jobs_1 3 rfl rfl)
theorem dX5_jobs_26 : decode cX5_jobs 26 = .ok (.ireturn, 1) := dk_172 (dk_at dksX5_jobs_1 4 rfl rfl)
abbrev cX5_setting : ByteArray := prog_8_method_70_code
def yX5_setting : MethodName := ⟨RX5, "setting", "(I)I"⟩
def dkwX5_setting_1 : List UInt8 := [4, 182, 0, 124, 172]
abbrev dktX5_setting_1 : List UInt8 := dkwX5_setting_1 ++ []
def dkwX5_setting_0 : List UInt8 := [42, 3, 181, 0, 35, 27, 3, 7, 184, 0, 39, 153, 0, 12, 42, 180, 0, 7, 27, 46, 167, 0, 8, 42]
abbrev dktX5_setting_0 : List UInt8 := dkwX5_setting_0 ++ dktX5_setting_1
theorem dksX5_setting_0 : cX5_setting.data.toList.drop 0 = dktX5_setting_0 := by decide +kernel
theorem dksX5_setting_1 : cX5_setting.data.toList.drop 24 = dktX5_setting_1 := dk_seg dksX5_setting_0 24 rfl rfl
theorem dX5_setting_0 : decode cX5_setting 0 = .ok (.aload_n 0, 1) := dk_42 (dk_at dksX5_setting_0 0 rfl rfl)
theorem dX5_setting_1 : decode cX5_setting 1 = .ok (.iconst 0, 1) := dk_3 (dk_at dksX5_setting_0 1 rfl rfl)
theorem dX5_setting_2 : decode cX5_setting 2 = .ok (.putfield 35, 3) := dk_181 0 35 (dk_at dksX5_setting_0 2 rfl rfl)
theorem dX5_setting_5 : decode cX5_setting 5 = .ok (.iload_n 1, 1) := dk_27 (dk_at dksX5_setting_0 5 rfl rfl)
theorem dX5_setting_6 : decode cX5_setting 6 = .ok (.iconst 0, 1) := dk_3 (dk_at dksX5_setting_0 6 rfl rfl)
theorem dX5_setting_7 : decode cX5_setting 7 = .ok (.iconst 4, 1) := dk_7 (dk_at dksX5_setting_0 7 rfl rfl)
theorem dX5_setting_8 : decode cX5_setting 8 = .ok (.invokestatic 39, 3) := dk_184 0 39 (dk_at dksX5_setting_0 8 rfl rfl)
theorem dX5_setting_11 : decode cX5_setting 11 = .ok (.ifCond .eq 12, 3) := dk_153 0 12 (dk_at dksX5_setting_0 11 rfl rfl)
theorem dX5_setting_14 : decode cX5_setting 14 = .ok (.aload_n 0, 1) := dk_42 (dk_at dksX5_setting_0 14 rfl rfl)
theorem dX5_setting_15 : decode cX5_setting 15 = .ok (.getfield 7, 3) := dk_180 0 7 (dk_at dksX5_setting_0 15 rfl rfl)
theorem dX5_setting_18 : decode cX5_setting 18 = .ok (.iload_n 1, 1) := dk_27 (dk_at dksX5_setting_0 18 rfl rfl)
theorem dX5_setting_19 : decode cX5_setting 19 = .ok (.iaload, 1) := dk_46 (dk_at dksX5_setting_0 19 rfl rfl)
theorem dX5_setting_20 : decode cX5_setting 20 = .ok (.goto 8, 3) := dk_167 0 8 (dk_at dksX5_setting_0 20 rfl rfl)
theorem dX5_setting_23 : decode cX5_setting 23 = .ok (.aload_n 0, 1) := dk_42 (dk_at dksX5_setting_0 23 rfl rfl)
theorem dX5_setting_24 : decode cX5_setting 24 = .ok (.iconst 1, 1) := dk_4 (dk_at dksX5_setting_1 0 rfl rfl)
theorem dX5_setting_25 : decode cX5_setting 25 = .ok (.invokevirtual 124, 3) := dk_182 0 124 (dk_at dksX5_setting_1 1 rfl rfl)
theorem dX5_setting_28 : decode cX5_setting 28 = .ok (.ireturn, 1) := dk_172 (dk_at dksX5_setting_1 4 rfl rfl)
abbrev cX5_ifPassed : ByteArray := prog_8_method_72_code
def yX5_ifPassed : MethodName := ⟨RX5, "ifPassed", "(II)I"⟩
def dkwX5_ifPassed_1 : List UInt8 := [42, 27, 28, 182, 0, 207, 167, 0, 8, 42, 4, 182, 0, 124, 172]
abbrev dktX5_ifPassed_1 : List UInt8 := dkwX5_ifPassed_1 ++ []
def dkwX5_ifPassed_0 : List UInt8 := [42, 3, 181, 0, 35, 27, 4, 16, 60, 184, 0, 39, 153, 0, 21, 28, 3, 6, 184, 0, 39, 153, 0, 12]
abbrev dktX5_ifPassed_0 : List UInt8 := dkwX5_ifPassed_0 ++ dktX5_ifPassed_1
theorem dksX5_ifPassed_0 : cX5_ifPassed.data.toList.drop 0 = dktX5_ifPassed_0 := by decide +kernel
theorem dksX5_ifPassed_1 : cX5_ifPassed.data.toList.drop 24 = dktX5_ifPassed_1 := dk_seg dksX5_ifPassed_0 24 rfl rfl
theorem dX5_ifPassed_0 : decode cX5_ifPassed 0 = .ok (.aload_n 0, 1) := dk_42 (dk_at dksX5_ifPassed_0 0 rfl rfl)
theorem dX5_ifPassed_1 : decode cX5_ifPassed 1 = .ok (.iconst 0, 1) := dk_3 (dk_at dksX5_ifPassed_0 1 rfl rfl)
theorem dX5_ifPassed_2 : decode cX5_ifPassed 2 = .ok (.putfield 35, 3) := dk_181 0 35 (dk_at dksX5_ifPassed_0 2 rfl rfl)
theorem dX5_ifPassed_5 : decode cX5_ifPassed 5 = .ok (.iload_n 1, 1) := dk_27 (dk_at dksX5_ifPassed_0 5 rfl rfl)
theorem dX5_ifPassed_6 : decode cX5_ifPassed 6 = .ok (.iconst 1, 1) := dk_4 (dk_at dksX5_ifPassed_0 6 rfl rfl)
theorem dX5_ifPassed_7 : decode cX5_ifPassed 7 = .ok (.bipush 60, 2) := dk_16 60 (dk_at dksX5_ifPassed_0 7 rfl rfl)
theorem dX5_ifPassed_9 : decode cX5_ifPassed 9 = .ok (.invokestatic 39, 3) := dk_184 0 39 (dk_at dksX5_ifPassed_0 9 rfl rfl)
theorem dX5_ifPassed_12 : decode cX5_ifPassed 12 = .ok (.ifCond .eq 21, 3) := dk_153 0 21 (dk_at dksX5_ifPassed_0 12 rfl rfl)
theorem dX5_ifPassed_15 : decode cX5_ifPassed 15 = .ok (.iload_n 2, 1) := dk_28 (dk_at dksX5_ifPassed_0 15 rfl rfl)
theorem dX5_ifPassed_16 : decode cX5_ifPassed 16 = .ok (.iconst 0, 1) := dk_3 (dk_at dksX5_ifPassed_0 16 rfl rfl)
theorem dX5_ifPassed_17 : decode cX5_ifPassed 17 = .ok (.iconst 3, 1) := dk_6 (dk_at dksX5_ifPassed_0 17 rfl rfl)
theorem dX5_ifPassed_18 : decode cX5_ifPassed 18 = .ok (.invokestatic 39, 3) := dk_184 0 39 (dk_at dksX5_ifPassed_0 18 rfl rfl)
theorem dX5_ifPassed_21 : decode cX5_ifPassed 21 = .ok (.ifCond .eq 12, 3) := dk_153 0 12 (dk_at dksX5_ifPassed_0 21 rfl rfl)
theorem dX5_ifPassed_24 : decode cX5_ifPassed 24 = .ok (.aload_n 0, 1) := dk_42 (dk_at dksX5_ifPassed_1 0 rfl rfl)
theorem dX5_ifPassed_25 : decode cX5_ifPassed 25 = .ok (.iload_n 1, 1) := dk_27 (dk_at dksX5_ifPassed_1 1 rfl rfl)
theorem dX5_ifPassed_26 : decode cX5_ifPassed 26 = .ok (.iload_n 2, 1) := dk_28 (dk_at dksX5_ifPassed_1 2 rfl rfl)
theorem dX5_ifPassed_27 : decode cX5_ifPassed 27 = .ok (.invokevirtual 207, 3) := dk_182 0 207 (dk_at dksX5_ifPassed_1 3 rfl rfl)
theorem dX5_ifPassed_30 : decode cX5_ifPassed 30 = .ok (.goto 8, 3) := dk_167 0 8 (dk_at dksX5_ifPassed_1 6 rfl rfl)
theorem dX5_ifPassed_33 : decode cX5_ifPassed 33 = .ok (.aload_n 0, 1) := dk_42 (dk_at dksX5_ifPassed_1 9 rfl rfl)
theorem dX5_ifPassed_34 : decode cX5_ifPassed 34 = .ok (.iconst 1, 1) := dk_4 (dk_at dksX5_ifPassed_1 10 rfl rfl)
theorem dX5_ifPassed_35 : decode cX5_ifPassed 35 = .ok (.invokevirtual 124, 3) := dk_182 0 124 (dk_at dksX5_ifPassed_1 11 rfl rfl)
theorem dX5_ifPassed_38 : decode cX5_ifPassed 38 = .ok (.ireturn, 1) := dk_172 (dk_at dksX5_ifPassed_1 14 rfl rfl)
abbrev cX5_passed : ByteArray := prog_8_method_71_code
def yX5_passed : MethodName := ⟨RX5, "passed", "(II)I"⟩
def dkwX5_passed_2 : List UInt8 := [160, 0, 10, 42, 182, 0, 195, 167, 0, 7, 42, 182, 0, 192, 54, 5, 42, 182, 0, 204, 21, 5, 172]
abbrev dktX5_passed_2 : List UInt8 := dkwX5_passed_2 ++ []
def dkwX5_passed_1 : List UInt8 := [21, 4, 167, 0, 36, 28, 4, 160, 0, 15, 42, 180, 0, 7, 16, 10, 46, 29, 100, 167, 0, 19, 28, 5]
abbrev dktX5_passed_1 : List UInt8 := dkwX5_passed_1 ++ dktX5_passed_2
def dkwX5_passed_0 : List UInt8 := [42, 182, 0, 201, 42, 180, 0, 7, 16, 10, 46, 62, 42, 27, 182, 0, 143, 54, 4, 28, 154, 0, 8]
abbrev dktX5_passed_0 : List UInt8 := dkwX5_passed_0 ++ dktX5_passed_1
theorem dksX5_passed_0 : cX5_passed.data.toList.drop 0 = dktX5_passed_0 := by decide +kernel
theorem dksX5_passed_1 : cX5_passed.data.toList.drop 23 = dktX5_passed_1 := dk_seg dksX5_passed_0 23 rfl rfl
theorem dksX5_passed_2 : cX5_passed.data.toList.drop 47 = dktX5_passed_2 := dk_seg dksX5_passed_1 24 rfl rfl
theorem dX5_passed_0 : decode cX5_passed 0 = .ok (.aload_n 0, 1) := dk_42 (dk_at dksX5_passed_0 0 rfl rfl)
theorem dX5_passed_1 : decode cX5_passed 1 = .ok (.invokevirtual 201, 3) := dk_182 0 201 (dk_at dksX5_passed_0 1 rfl rfl)
theorem dX5_passed_4 : decode cX5_passed 4 = .ok (.aload_n 0, 1) := dk_42 (dk_at dksX5_passed_0 4 rfl rfl)
theorem dX5_passed_5 : decode cX5_passed 5 = .ok (.getfield 7, 3) := dk_180 0 7 (dk_at dksX5_passed_0 5 rfl rfl)
theorem dX5_passed_8 : decode cX5_passed 8 = .ok (.bipush 10, 2) := dk_16 10 (dk_at dksX5_passed_0 8 rfl rfl)
theorem dX5_passed_10 : decode cX5_passed 10 = .ok (.iaload, 1) := dk_46 (dk_at dksX5_passed_0 10 rfl rfl)
theorem dX5_passed_11 : decode cX5_passed 11 = .ok (.istore_n 3, 1) := dk_62 (dk_at dksX5_passed_0 11 rfl rfl)
theorem dX5_passed_12 : decode cX5_passed 12 = .ok (.aload_n 0, 1) := dk_42 (dk_at dksX5_passed_0 12 rfl rfl)
theorem dX5_passed_13 : decode cX5_passed 13 = .ok (.iload_n 1, 1) := dk_27 (dk_at dksX5_passed_0 13 rfl rfl)
theorem dX5_passed_14 : decode cX5_passed 14 = .ok (.invokevirtual 143, 3) := dk_182 0 143 (dk_at dksX5_passed_0 14 rfl rfl)
theorem dX5_passed_17 : decode cX5_passed 17 = .ok (.istore 4, 2) := dk_54 4 (dk_at dksX5_passed_0 17 rfl rfl)
theorem dX5_passed_19 : decode cX5_passed 19 = .ok (.iload_n 2, 1) := dk_28 (dk_at dksX5_passed_0 19 rfl rfl)
theorem dX5_passed_20 : decode cX5_passed 20 = .ok (.ifCond .ne 8, 3) := dk_154 0 8 (dk_at dksX5_passed_0 20 rfl rfl)
theorem dX5_passed_23 : decode cX5_passed 23 = .ok (.iload 4, 2) := dk_21 4 (dk_at dksX5_passed_1 0 rfl rfl)
theorem dX5_passed_25 : decode cX5_passed 25 = .ok (.goto 36, 3) := dk_167 0 36 (dk_at dksX5_passed_1 2 rfl rfl)
theorem dX5_passed_28 : decode cX5_passed 28 = .ok (.iload_n 2, 1) := dk_28 (dk_at dksX5_passed_1 5 rfl rfl)
theorem dX5_passed_29 : decode cX5_passed 29 = .ok (.iconst 1, 1) := dk_4 (dk_at dksX5_passed_1 6 rfl rfl)
theorem dX5_passed_30 : decode cX5_passed 30 = .ok (.if_icmp .ne 15, 3) := dk_160 0 15 (dk_at dksX5_passed_1 7 rfl rfl)
theorem dX5_passed_33 : decode cX5_passed 33 = .ok (.aload_n 0, 1) := dk_42 (dk_at dksX5_passed_1 10 rfl rfl)
theorem dX5_passed_34 : decode cX5_passed 34 = .ok (.getfield 7, 3) := dk_180 0 7 (dk_at dksX5_passed_1 11 rfl rfl)
theorem dX5_passed_37 : decode cX5_passed 37 = .ok (.bipush 10, 2) := dk_16 10 (dk_at dksX5_passed_1 14 rfl rfl)
theorem dX5_passed_39 : decode cX5_passed 39 = .ok (.iaload, 1) := dk_46 (dk_at dksX5_passed_1 16 rfl rfl)
theorem dX5_passed_40 : decode cX5_passed 40 = .ok (.iload_n 3, 1) := dk_29 (dk_at dksX5_passed_1 17 rfl rfl)
theorem dX5_passed_41 : decode cX5_passed 41 = .ok (.isub, 1) := dk_100 (dk_at dksX5_passed_1 18 rfl rfl)
theorem dX5_passed_42 : decode cX5_passed 42 = .ok (.goto 19, 3) := dk_167 0 19 (dk_at dksX5_passed_1 19 rfl rfl)
theorem dX5_passed_45 : decode cX5_passed 45 = .ok (.iload_n 2, 1) := dk_28 (dk_at dksX5_passed_1 22 rfl rfl)
theorem dX5_passed_46 : decode cX5_passed 46 = .ok (.iconst 2, 1) := dk_5 (dk_at dksX5_passed_1 23 rfl rfl)
theorem dX5_passed_47 : decode cX5_passed 47 = .ok (.if_icmp .ne 10, 3) := dk_160 0 10 (dk_at dksX5_passed_2 0 rfl rfl)
theorem dX5_passed_50 : decode cX5_passed 50 = .ok (.aload_n 0, 1) := dk_42 (dk_at dksX5_passed_2 3 rfl rfl)
theorem dX5_passed_51 : decode cX5_passed 51 = .ok (.invokevirtual 195, 3) := dk_182 0 195 (dk_at dksX5_passed_2 4 rfl rfl)
theorem dX5_passed_54 : decode cX5_passed 54 = .ok (.goto 7, 3) := dk_167 0 7 (dk_at dksX5_passed_2 7 rfl rfl)
theorem dX5_passed_57 : decode cX5_passed 57 = .ok (.aload_n 0, 1) := dk_42 (dk_at dksX5_passed_2 10 rfl rfl)
theorem dX5_passed_58 : decode cX5_passed 58 = .ok (.invokevirtual 192, 3) := dk_182 0 192 (dk_at dksX5_passed_2 11 rfl rfl)
theorem dX5_passed_61 : decode cX5_passed 61 = .ok (.istore 5, 2) := dk_54 5 (dk_at dksX5_passed_2 14 rfl rfl)
theorem dX5_passed_63 : decode cX5_passed 63 = .ok (.aload_n 0, 1) := dk_42 (dk_at dksX5_passed_2 16 rfl rfl)
theorem dX5_passed_64 : decode cX5_passed 64 = .ok (.invokevirtual 204, 3) := dk_182 0 204 (dk_at dksX5_passed_2 17 rfl rfl)
theorem dX5_passed_67 : decode cX5_passed 67 = .ok (.iload 5, 2) := dk_21 5 (dk_at dksX5_passed_2 20 rfl rfl)
theorem dX5_passed_69 : decode cX5_passed 69 = .ok (.ireturn, 1) := dk_172 (dk_at dksX5_passed_2 22 rfl rfl)
abbrev cX5_putAside : ByteArray := prog_8_method_7_code
def yX5_putAside : MethodName := ⟨RX5, "putAside", "()V"⟩
def dkwX5_putAside_1 : List UInt8 := [167, 255, 234, 177]
abbrev dktX5_putAside_1 : List UInt8 := dkwX5_putAside_1 ++ []
def dkwX5_putAside_0 : List UInt8 := [3, 60, 27, 17, 0, 204, 162, 0, 21, 42, 180, 0, 13, 27, 42, 180, 0, 7, 27, 46, 79, 132, 1, 1]
abbrev dktX5_putAside_0 : List UInt8 := dkwX5_putAside_0 ++ dktX5_putAside_1
theorem dksX5_putAside_0 : cX5_putAside.data.toList.drop 0 = dktX5_putAside_0 := by decide +kernel
theorem dksX5_putAside_1 : cX5_putAside.data.toList.drop 24 = dktX5_putAside_1 := dk_seg dksX5_putAside_0 24 rfl rfl
theorem dX5_putAside_0 : decode cX5_putAside 0 = .ok (.iconst 0, 1) := dk_3 (dk_at dksX5_putAside_0 0 rfl rfl)
theorem dX5_putAside_1 : decode cX5_putAside 1 = .ok (.istore_n 1, 1) := dk_60 (dk_at dksX5_putAside_0 1 rfl rfl)
theorem dX5_putAside_2 : decode cX5_putAside 2 = .ok (.iload_n 1, 1) := dk_27 (dk_at dksX5_putAside_0 2 rfl rfl)
theorem dX5_putAside_3 : decode cX5_putAside 3 = .ok (.sipush 204, 3) := dk_17 0 204 (dk_at dksX5_putAside_0 3 rfl rfl)
theorem dX5_putAside_6 : decode cX5_putAside 6 = .ok (.if_icmp .ge 21, 3) := dk_162 0 21 (dk_at dksX5_putAside_0 6 rfl rfl)
theorem dX5_putAside_9 : decode cX5_putAside 9 = .ok (.aload_n 0, 1) := dk_42 (dk_at dksX5_putAside_0 9 rfl rfl)
theorem dX5_putAside_10 : decode cX5_putAside 10 = .ok (.getfield 13, 3) := dk_180 0 13 (dk_at dksX5_putAside_0 10 rfl rfl)
theorem dX5_putAside_13 : decode cX5_putAside 13 = .ok (.iload_n 1, 1) := dk_27 (dk_at dksX5_putAside_0 13 rfl rfl)
theorem dX5_putAside_14 : decode cX5_putAside 14 = .ok (.aload_n 0, 1) := dk_42 (dk_at dksX5_putAside_0 14 rfl rfl)
theorem dX5_putAside_15 : decode cX5_putAside 15 = .ok (.getfield 7, 3) := dk_180 0 7 (dk_at dksX5_putAside_0 15 rfl rfl)
theorem dX5_putAside_18 : decode cX5_putAside 18 = .ok (.iload_n 1, 1) := dk_27 (dk_at dksX5_putAside_0 18 rfl rfl)
theorem dX5_putAside_19 : decode cX5_putAside 19 = .ok (.iaload, 1) := dk_46 (dk_at dksX5_putAside_0 19 rfl rfl)
theorem dX5_putAside_20 : decode cX5_putAside 20 = .ok (.iastore, 1) := dk_79 (dk_at dksX5_putAside_0 20 rfl rfl)
theorem dX5_putAside_21 : decode cX5_putAside 21 = .ok (.iinc 1 1, 3) := dk_132 1 1 (dk_at dksX5_putAside_0 21 rfl rfl)
theorem dX5_putAside_24 : decode cX5_putAside 24 = .ok (.goto (-22), 3) := dk_167 255 234 (dk_at dksX5_putAside_1 0 rfl rfl)
theorem dX5_putAside_27 : decode cX5_putAside 27 = .ok (.return_, 1) := dk_177 (dk_at dksX5_putAside_1 3 rfl rfl)
abbrev cX5_takeBack : ByteArray := prog_8_method_8_code
def yX5_takeBack : MethodName := ⟨RX5, "takeBack", "()V"⟩
def dkwX5_takeBack_1 : List UInt8 := [167, 255, 234, 177]
abbrev dktX5_takeBack_1 : List UInt8 := dkwX5_takeBack_1 ++ []
def dkwX5_takeBack_0 : List UInt8 := [3, 60, 27, 17, 0, 204, 162, 0, 21, 42, 180, 0, 7, 27, 42, 180, 0, 13, 27, 46, 79, 132, 1, 1]
abbrev dktX5_takeBack_0 : List UInt8 := dkwX5_takeBack_0 ++ dktX5_takeBack_1
theorem dksX5_takeBack_0 : cX5_takeBack.data.toList.drop 0 = dktX5_takeBack_0 := by decide +kernel
theorem dksX5_takeBack_1 : cX5_takeBack.data.toList.drop 24 = dktX5_takeBack_1 := dk_seg dksX5_takeBack_0 24 rfl rfl
theorem dX5_takeBack_0 : decode cX5_takeBack 0 = .ok (.iconst 0, 1) := dk_3 (dk_at dksX5_takeBack_0 0 rfl rfl)
theorem dX5_takeBack_1 : decode cX5_takeBack 1 = .ok (.istore_n 1, 1) := dk_60 (dk_at dksX5_takeBack_0 1 rfl rfl)
theorem dX5_takeBack_2 : decode cX5_takeBack 2 = .ok (.iload_n 1, 1) := dk_27 (dk_at dksX5_takeBack_0 2 rfl rfl)
theorem dX5_takeBack_3 : decode cX5_takeBack 3 = .ok (.sipush 204, 3) := dk_17 0 204 (dk_at dksX5_takeBack_0 3 rfl rfl)
theorem dX5_takeBack_6 : decode cX5_takeBack 6 = .ok (.if_icmp .ge 21, 3) := dk_162 0 21 (dk_at dksX5_takeBack_0 6 rfl rfl)
theorem dX5_takeBack_9 : decode cX5_takeBack 9 = .ok (.aload_n 0, 1) := dk_42 (dk_at dksX5_takeBack_0 9 rfl rfl)
theorem dX5_takeBack_10 : decode cX5_takeBack 10 = .ok (.getfield 7, 3) := dk_180 0 7 (dk_at dksX5_takeBack_0 10 rfl rfl)
theorem dX5_takeBack_13 : decode cX5_takeBack 13 = .ok (.iload_n 1, 1) := dk_27 (dk_at dksX5_takeBack_0 13 rfl rfl)
theorem dX5_takeBack_14 : decode cX5_takeBack 14 = .ok (.aload_n 0, 1) := dk_42 (dk_at dksX5_takeBack_0 14 rfl rfl)
theorem dX5_takeBack_15 : decode cX5_takeBack 15 = .ok (.getfield 13, 3) := dk_180 0 13 (dk_at dksX5_takeBack_0 15 rfl rfl)
theorem dX5_takeBack_18 : decode cX5_takeBack 18 = .ok (.iload_n 1, 1) := dk_27 (dk_at dksX5_takeBack_0 18 rfl rfl)
theorem dX5_takeBack_19 : decode cX5_takeBack 19 = .ok (.iaload, 1) := dk_46 (dk_at dksX5_takeBack_0 19 rfl rfl)
theorem dX5_takeBack_20 : decode cX5_takeBack 20 = .ok (.iastore, 1) := dk_79 (dk_at dksX5_takeBack_0 20 rfl rfl)
theorem dX5_takeBack_21 : decode cX5_takeBack 21 = .ok (.iinc 1 1, 3) := dk_132 1 1 (dk_at dksX5_takeBack_0 21 rfl rfl)
theorem dX5_takeBack_24 : decode cX5_takeBack 24 = .ok (.goto (-22), 3) := dk_167 255 234 (dk_at dksX5_takeBack_1 0 rfl rfl)
theorem dX5_takeBack_27 : decode cX5_takeBack 27 = .ok (.return_, 1) := dk_177 (dk_at dksX5_takeBack_1 3 rfl rfl)
abbrev cX5_ifOuting : ByteArray := prog_8_method_74_code
def yX5_ifOuting : MethodName := ⟨RX5, "ifOuting", "(II)I"⟩
def dkwX5_ifOuting_1 : List UInt8 := [28, 182, 0, 210, 167, 0, 8, 42, 4, 182, 0, 124, 172]
abbrev dktX5_ifOuting_1 : List UInt8 := dkwX5_ifOuting_1 ++ []
def dkwX5_ifOuting_0 : List UInt8 := [42, 3, 181, 0, 35, 27, 4, 16, 99, 184, 0, 39, 153, 0, 19, 28, 184, 0, 121, 153, 0, 12, 42, 27]
abbrev dktX5_ifOuting_0 : List UInt8 := dkwX5_ifOuting_0 ++ dktX5_ifOuting_1
theorem dksX5_ifOuting_0 : cX5_ifOuting.data.toList.drop 0 = dktX5_ifOuting_0 := by decide +kernel
theorem dksX5_ifOuting_1 : cX5_ifOuting.data.toList.drop 24 = dktX5_ifOuting_1 := dk_seg dksX5_ifOuting_0 24 rfl rfl
theorem dX5_ifOuting_0 : decode cX5_ifOuting 0 = .ok (.aload_n 0, 1) := dk_42 (dk_at dksX5_ifOuting_0 0 rfl rfl)
theorem dX5_ifOuting_1 : decode cX5_ifOuting 1 = .ok (.iconst 0, 1) := dk_3 (dk_at dksX5_ifOuting_0 1 rfl rfl)
theorem dX5_ifOuting_2 : decode cX5_ifOuting 2 = .ok (.putfield 35, 3) := dk_181 0 35 (dk_at dksX5_ifOuting_0 2 rfl rfl)
theorem dX5_ifOuting_5 : decode cX5_ifOuting 5 = .ok (.iload_n 1, 1) := dk_27 (dk_at dksX5_ifOuting_0 5 rfl rfl)
theorem dX5_ifOuting_6 : decode cX5_ifOuting 6 = .ok (.iconst 1, 1) := dk_4 (dk_at dksX5_ifOuting_0 6 rfl rfl)
theorem dX5_ifOuting_7 : decode cX5_ifOuting 7 = .ok (.bipush 99, 2) := dk_16 99 (dk_at dksX5_ifOuting_0 7 rfl rfl)
theorem dX5_ifOuting_9 : decode cX5_ifOuting 9 = .ok (.invokestatic 39, 3) := dk_184 0 39 (dk_at dksX5_ifOuting_0 9 rfl rfl)
theorem dX5_ifOuting_12 : decode cX5_ifOuting 12 = .ok (.ifCond .eq 19, 3) := dk_153 0 19 (dk_at dksX5_ifOuting_0 12 rfl rfl)
theorem dX5_ifOuting_15 : decode cX5_ifOuting 15 = .ok (.iload_n 2, 1) := dk_28 (dk_at dksX5_ifOuting_0 15 rfl rfl)
theorem dX5_ifOuting_16 : decode cX5_ifOuting 16 = .ok (.invokestatic 121, 3) := dk_184 0 121 (dk_at dksX5_ifOuting_0 16 rfl rfl)
theorem dX5_ifOuting_19 : decode cX5_ifOuting 19 = .ok (.ifCond .eq 12, 3) := dk_153 0 12 (dk_at dksX5_ifOuting_0 19 rfl rfl)
theorem dX5_ifOuting_22 : decode cX5_ifOuting 22 = .ok (.aload_n 0, 1) := dk_42 (dk_at dksX5_ifOuting_0 22 rfl rfl)
theorem dX5_ifOuting_23 : decode cX5_ifOuting 23 = .ok (.iload_n 1, 1) := dk_27 (dk_at dksX5_ifOuting_0 23 rfl rfl)
theorem dX5_ifOuting_24 : decode cX5_ifOuting 24 = .ok (.iload_n 2, 1) := dk_28 (dk_at dksX5_ifOuting_1 0 rfl rfl)
theorem dX5_ifOuting_25 : decode cX5_ifOuting 25 = .ok (.invokevirtual 210, 3) := dk_182 0 210 (dk_at dksX5_ifOuting_1 1 rfl rfl)
theorem dX5_ifOuting_28 : decode cX5_ifOuting 28 = .ok (.goto 8, 3) := dk_167 0 8 (dk_at dksX5_ifOuting_1 4 rfl rfl)
theorem dX5_ifOuting_31 : decode cX5_ifOuting 31 = .ok (.aload_n 0, 1) := dk_42 (dk_at dksX5_ifOuting_1 7 rfl rfl)
theorem dX5_ifOuting_32 : decode cX5_ifOuting 32 = .ok (.iconst 1, 1) := dk_4 (dk_at dksX5_ifOuting_1 8 rfl rfl)
theorem dX5_ifOuting_33 : decode cX5_ifOuting 33 = .ok (.invokevirtual 124, 3) := dk_182 0 124 (dk_at dksX5_ifOuting_1 9 rfl rfl)
theorem dX5_ifOuting_36 : decode cX5_ifOuting 36 = .ok (.ireturn, 1) := dk_172 (dk_at dksX5_ifOuting_1 12 rfl rfl)
abbrev cX5_moreThirst : ByteArray := prog_8_method_73_code
def yX5_moreThirst : MethodName := ⟨RX5, "moreThirst", "(II)I"⟩
def dkwX5_moreThirst_1 : List UInt8 := [182, 0, 137, 42, 4, 182, 0, 143, 54, 4, 42, 182, 0, 204, 21, 4, 29, 100, 172]
abbrev dktX5_moreThirst_1 : List UInt8 := dkwX5_moreThirst_1 ++ []
def dkwX5_moreThirst_0 : List UInt8 := [42, 182, 0, 201, 42, 4, 182, 0, 143, 62, 42, 182, 0, 204, 42, 42, 180, 0, 7, 8, 46, 27, 28]
abbrev dktX5_moreThirst_0 : List UInt8 := dkwX5_moreThirst_0 ++ dktX5_moreThirst_1
theorem dksX5_moreThirst_0 : cX5_moreThirst.data.toList.drop 0 = dktX5_moreThirst_0 := by decide +kernel
theorem dksX5_moreThirst_1 : cX5_moreThirst.data.toList.drop 23 = dktX5_moreThirst_1 := dk_seg dksX5_moreThirst_0 23 rfl rfl
theorem dX5_moreThirst_0 : decode cX5_moreThirst 0 = .ok (.aload_n 0, 1) := dk_42 (dk_at dksX5_moreThirst_0 0 rfl rfl)
theorem dX5_moreThirst_1 : decode cX5_moreThirst 1 = .ok (.invokevirtual 201, 3) := dk_182 0 201 (dk_at dksX5_moreThirst_0 1 rfl rfl)
theorem dX5_moreThirst_4 : decode cX5_moreThirst 4 = .ok (.aload_n 0, 1) := dk_42 (dk_at dksX5_moreThirst_0 4 rfl rfl)
theorem dX5_moreThirst_5 : decode cX5_moreThirst 5 = .ok (.iconst 1, 1) := dk_4 (dk_at dksX5_moreThirst_0 5 rfl rfl)
theorem dX5_moreThirst_6 : decode cX5_moreThirst 6 = .ok (.invokevirtual 143, 3) := dk_182 0 143 (dk_at dksX5_moreThirst_0 6 rfl rfl)
theorem dX5_moreThirst_9 : decode cX5_moreThirst 9 = .ok (.istore_n 3, 1) := dk_62 (dk_at dksX5_moreThirst_0 9 rfl rfl)
theorem dX5_moreThirst_10 : decode cX5_moreThirst 10 = .ok (.aload_n 0, 1) := dk_42 (dk_at dksX5_moreThirst_0 10 rfl rfl)
theorem dX5_moreThirst_11 : decode cX5_moreThirst 11 = .ok (.invokevirtual 204, 3) := dk_182 0 204 (dk_at dksX5_moreThirst_0 11 rfl rfl)
theorem dX5_moreThirst_14 : decode cX5_moreThirst 14 = .ok (.aload_n 0, 1) := dk_42 (dk_at dksX5_moreThirst_0 14 rfl rfl)
theorem dX5_moreThirst_15 : decode cX5_moreThirst 15 = .ok (.aload_n 0, 1) := dk_42 (dk_at dksX5_moreThirst_0 15 rfl rfl)
theorem dX5_moreThirst_16 : decode cX5_moreThirst 16 = .ok (.getfield 7, 3) := dk_180 0 7 (dk_at dksX5_moreThirst_0 16 rfl rfl)
theorem dX5_moreThirst_19 : decode cX5_moreThirst 19 = .ok (.iconst 5, 1) := dk_8 (dk_at dksX5_moreThirst_0 19 rfl rfl)
theorem dX5_moreThirst_20 : decode cX5_moreThirst 20 = .ok (.iaload, 1) := dk_46 (dk_at dksX5_moreThirst_0 20 rfl rfl)
theorem dX5_moreThirst_21 : decode cX5_moreThirst 21 = .ok (.iload_n 1, 1) := dk_27 (dk_at dksX5_moreThirst_0 21 rfl rfl)
theorem dX5_moreThirst_22 : decode cX5_moreThirst 22 = .ok (.iload_n 2, 1) := dk_28 (dk_at dksX5_moreThirst_0 22 rfl rfl)
theorem dX5_moreThirst_23 : decode cX5_moreThirst 23 = .ok (.invokevirtual 137, 3) := dk_182 0 137 (dk_at dksX5_moreThirst_1 0 rfl rfl)
theorem dX5_moreThirst_26 : decode cX5_moreThirst 26 = .ok (.aload_n 0, 1) := dk_42 (dk_at dksX5_moreThirst_1 3 rfl rfl)
theorem dX5_moreThirst_27 : decode cX5_moreThirst 27 = .ok (.iconst 1, 1) := dk_4 (dk_at dksX5_moreThirst_1 4 rfl rfl)
theorem dX5_moreThirst_28 : decode cX5_moreThirst 28 = .ok (.invokevirtual 143, 3) := dk_182 0 143 (dk_at dksX5_moreThirst_1 5 rfl rfl)
theorem dX5_moreThirst_31 : decode cX5_moreThirst 31 = .ok (.istore 4, 2) := dk_54 4 (dk_at dksX5_moreThirst_1 8 rfl rfl)
theorem dX5_moreThirst_33 : decode cX5_moreThirst 33 = .ok (.aload_n 0, 1) := dk_42 (dk_at dksX5_moreThirst_1 10 rfl rfl)
theorem dX5_moreThirst_34 : decode cX5_moreThirst 34 = .ok (.invokevirtual 204, 3) := dk_182 0 204 (dk_at dksX5_moreThirst_1 11 rfl rfl)
theorem dX5_moreThirst_37 : decode cX5_moreThirst 37 = .ok (.iload 4, 2) := dk_21 4 (dk_at dksX5_moreThirst_1 14 rfl rfl)
theorem dX5_moreThirst_39 : decode cX5_moreThirst 39 = .ok (.iload_n 3, 1) := dk_29 (dk_at dksX5_moreThirst_1 16 rfl rfl)
theorem dX5_moreThirst_40 : decode cX5_moreThirst 40 = .ok (.isub, 1) := dk_100 (dk_at dksX5_moreThirst_1 17 rfl rfl)
theorem dX5_moreThirst_41 : decode cX5_moreThirst 41 = .ok (.ireturn, 1) := dk_172 (dk_at dksX5_moreThirst_1 18 rfl rfl)
abbrev cX5_bestGate : ByteArray := prog_8_method_76_code
def yX5_bestGate : MethodName := ⟨RX5, "bestGate", "(I)I"⟩
def dkwX5_bestGate_1 : List UInt8 := [4, 182, 0, 124, 172]
abbrev dktX5_bestGate_1 : List UInt8 := dkwX5_bestGate_1 ++ []
def dkwX5_bestGate_0 : List UInt8 := [42, 3, 181, 0, 35, 27, 4, 16, 99, 184, 0, 39, 153, 0, 11, 42, 27, 182, 0, 213, 167, 0, 8, 42]
abbrev dktX5_bestGate_0 : List UInt8 := dkwX5_bestGate_0 ++ dktX5_bestGate_1
theorem dksX5_bestGate_0 : cX5_bestGate.data.toList.drop 0 = dktX5_bestGate_0 := by decide +kernel
theorem dksX5_bestGate_1 : cX5_bestGate.data.toList.drop 24 = dktX5_bestGate_1 := dk_seg dksX5_bestGate_0 24 rfl rfl
theorem dX5_bestGate_0 : decode cX5_bestGate 0 = .ok (.aload_n 0, 1) := dk_42 (dk_at dksX5_bestGate_0 0 rfl rfl)
theorem dX5_bestGate_1 : decode cX5_bestGate 1 = .ok (.iconst 0, 1) := dk_3 (dk_at dksX5_bestGate_0 1 rfl rfl)
theorem dX5_bestGate_2 : decode cX5_bestGate 2 = .ok (.putfield 35, 3) := dk_181 0 35 (dk_at dksX5_bestGate_0 2 rfl rfl)
theorem dX5_bestGate_5 : decode cX5_bestGate 5 = .ok (.iload_n 1, 1) := dk_27 (dk_at dksX5_bestGate_0 5 rfl rfl)
theorem dX5_bestGate_6 : decode cX5_bestGate 6 = .ok (.iconst 1, 1) := dk_4 (dk_at dksX5_bestGate_0 6 rfl rfl)
theorem dX5_bestGate_7 : decode cX5_bestGate 7 = .ok (.bipush 99, 2) := dk_16 99 (dk_at dksX5_bestGate_0 7 rfl rfl)
theorem dX5_bestGate_9 : decode cX5_bestGate 9 = .ok (.invokestatic 39, 3) := dk_184 0 39 (dk_at dksX5_bestGate_0 9 rfl rfl)
theorem dX5_bestGate_12 : decode cX5_bestGate 12 = .ok (.ifCond .eq 11, 3) := dk_153 0 11 (dk_at dksX5_bestGate_0 12 rfl rfl)
theorem dX5_bestGate_15 : decode cX5_bestGate 15 = .ok (.aload_n 0, 1) := dk_42 (dk_at dksX5_bestGate_0 15 rfl rfl)
theorem dX5_bestGate_16 : decode cX5_bestGate 16 = .ok (.iload_n 1, 1) := dk_27 (dk_at dksX5_bestGate_0 16 rfl rfl)
theorem dX5_bestGate_17 : decode cX5_bestGate 17 = .ok (.invokevirtual 213, 3) := dk_182 0 213 (dk_at dksX5_bestGate_0 17 rfl rfl)
theorem dX5_bestGate_20 : decode cX5_bestGate 20 = .ok (.goto 8, 3) := dk_167 0 8 (dk_at dksX5_bestGate_0 20 rfl rfl)
theorem dX5_bestGate_23 : decode cX5_bestGate 23 = .ok (.aload_n 0, 1) := dk_42 (dk_at dksX5_bestGate_0 23 rfl rfl)
theorem dX5_bestGate_24 : decode cX5_bestGate 24 = .ok (.iconst 1, 1) := dk_4 (dk_at dksX5_bestGate_1 0 rfl rfl)
theorem dX5_bestGate_25 : decode cX5_bestGate 25 = .ok (.invokevirtual 124, 3) := dk_182 0 124 (dk_at dksX5_bestGate_1 1 rfl rfl)
theorem dX5_bestGate_28 : decode cX5_bestGate 28 = .ok (.ireturn, 1) := dk_172 (dk_at dksX5_bestGate_1 4 rfl rfl)
abbrev cX5_gateFor : ByteArray := prog_8_method_75_code
def yX5_gateFor : MethodName := ⟨RX5, "gateFor", "(I)I"⟩
def dkwX5_gateFor_2 : List UInt8 := [21, 5, 167, 0, 4, 29, 62, 132, 4, 1, 167, 255, 211, 28, 172]
abbrev dktX5_gateFor_2 : List UInt8 := dkwX5_gateFor_2 ++ []
def dkwX5_gateFor_1 : List UInt8 := [182, 0, 210, 54, 5, 21, 5, 29, 162, 0, 8, 21, 4, 167, 0, 4, 28, 61, 21, 5, 29, 162, 0, 8]
abbrev dktX5_gateFor_1 : List UInt8 := dkwX5_gateFor_1 ++ dktX5_gateFor_2
def dkwX5_gateFor_0 : List UInt8 := [3, 61, 42, 27, 3, 182, 0, 210, 62, 4, 54, 4, 21, 4, 16, 8, 162, 0, 44, 42, 27, 21, 4]
abbrev dktX5_gateFor_0 : List UInt8 := dkwX5_gateFor_0 ++ dktX5_gateFor_1
theorem dksX5_gateFor_0 : cX5_gateFor.data.toList.drop 0 = dktX5_gateFor_0 := by decide +kernel
theorem dksX5_gateFor_1 : cX5_gateFor.data.toList.drop 23 = dktX5_gateFor_1 := dk_seg dksX5_gateFor_0 23 rfl rfl
theorem dksX5_gateFor_2 : cX5_gateFor.data.toList.drop 47 = dktX5_gateFor_2 := dk_seg dksX5_gateFor_1 24 rfl rfl
theorem dX5_gateFor_0 : decode cX5_gateFor 0 = .ok (.iconst 0, 1) := dk_3 (dk_at dksX5_gateFor_0 0 rfl rfl)
theorem dX5_gateFor_1 : decode cX5_gateFor 1 = .ok (.istore_n 2, 1) := dk_61 (dk_at dksX5_gateFor_0 1 rfl rfl)
theorem dX5_gateFor_2 : decode cX5_gateFor 2 = .ok (.aload_n 0, 1) := dk_42 (dk_at dksX5_gateFor_0 2 rfl rfl)
theorem dX5_gateFor_3 : decode cX5_gateFor 3 = .ok (.iload_n 1, 1) := dk_27 (dk_at dksX5_gateFor_0 3 rfl rfl)
theorem dX5_gateFor_4 : decode cX5_gateFor 4 = .ok (.iconst 0, 1) := dk_3 (dk_at dksX5_gateFor_0 4 rfl rfl)
theorem dX5_gateFor_5 : decode cX5_gateFor 5 = .ok (.invokevirtual 210, 3) := dk_182 0 210 (dk_at dksX5_gateFor_0 5 rfl rfl)
theorem dX5_gateFor_8 : decode cX5_gateFor 8 = .ok (.istore_n 3, 1) := dk_62 (dk_at dksX5_gateFor_0 8 rfl rfl)
theorem dX5_gateFor_9 : decode cX5_gateFor 9 = .ok (.iconst 1, 1) := dk_4 (dk_at dksX5_gateFor_0 9 rfl rfl)
theorem dX5_gateFor_10 : decode cX5_gateFor 10 = .ok (.istore 4, 2) := dk_54 4 (dk_at dksX5_gateFor_0 10 rfl rfl)
theorem dX5_gateFor_12 : decode cX5_gateFor 12 = .ok (.iload 4, 2) := dk_21 4 (dk_at dksX5_gateFor_0 12 rfl rfl)
theorem dX5_gateFor_14 : decode cX5_gateFor 14 = .ok (.bipush 8, 2) := dk_16 8 (dk_at dksX5_gateFor_0 14 rfl rfl)
theorem dX5_gateFor_16 : decode cX5_gateFor 16 = .ok (.if_icmp .ge 44, 3) := dk_162 0 44 (dk_at dksX5_gateFor_0 16 rfl rfl)
theorem dX5_gateFor_19 : decode cX5_gateFor 19 = .ok (.aload_n 0, 1) := dk_42 (dk_at dksX5_gateFor_0 19 rfl rfl)
theorem dX5_gateFor_20 : decode cX5_gateFor 20 = .ok (.iload_n 1, 1) := dk_27 (dk_at dksX5_gateFor_0 20 rfl rfl)
theorem dX5_gateFor_21 : decode cX5_gateFor 21 = .ok (.iload 4, 2) := dk_21 4 (dk_at dksX5_gateFor_0 21 rfl rfl)
theorem dX5_gateFor_23 : decode cX5_gateFor 23 = .ok (.invokevirtual 210, 3) := dk_182 0 210 (dk_at dksX5_gateFor_1 0 rfl rfl)
theorem dX5_gateFor_26 : decode cX5_gateFor 26 = .ok (.istore 5, 2) := dk_54 5 (dk_at dksX5_gateFor_1 3 rfl rfl)
theorem dX5_gateFor_28 : decode cX5_gateFor 28 = .ok (.iload 5, 2) := dk_21 5 (dk_at dksX5_gateFor_1 5 rfl rfl)
theorem dX5_gateFor_30 : decode cX5_gateFor 30 = .ok (.iload_n 3, 1) := dk_29 (dk_at dksX5_gateFor_1 7 rfl rfl)
theorem dX5_gateFor_31 : decode cX5_gateFor 31 = .ok (.if_icmp .ge 8, 3) := dk_162 0 8 (dk_at dksX5_gateFor_1 8 rfl rfl)
theorem dX5_gateFor_34 : decode cX5_gateFor 34 = .ok (.iload 4, 2) := dk_21 4 (dk_at dksX5_gateFor_1 11 rfl rfl)
theorem dX5_gateFor_36 : decode cX5_gateFor 36 = .ok (.goto 4, 3) := dk_167 0 4 (dk_at dksX5_gateFor_1 13 rfl rfl)
theorem dX5_gateFor_39 : decode cX5_gateFor 39 = .ok (.iload_n 2, 1) := dk_28 (dk_at dksX5_gateFor_1 16 rfl rfl)
theorem dX5_gateFor_40 : decode cX5_gateFor 40 = .ok (.istore_n 2, 1) := dk_61 (dk_at dksX5_gateFor_1 17 rfl rfl)
theorem dX5_gateFor_41 : decode cX5_gateFor 41 = .ok (.iload 5, 2) := dk_21 5 (dk_at dksX5_gateFor_1 18 rfl rfl)
theorem dX5_gateFor_43 : decode cX5_gateFor 43 = .ok (.iload_n 3, 1) := dk_29 (dk_at dksX5_gateFor_1 20 rfl rfl)
theorem dX5_gateFor_44 : decode cX5_gateFor 44 = .ok (.if_icmp .ge 8, 3) := dk_162 0 8 (dk_at dksX5_gateFor_1 21 rfl rfl)
theorem dX5_gateFor_47 : decode cX5_gateFor 47 = .ok (.iload 5, 2) := dk_21 5 (dk_at dksX5_gateFor_2 0 rfl rfl)
theorem dX5_gateFor_49 : decode cX5_gateFor 49 = .ok (.goto 4, 3) := dk_167 0 4 (dk_at dksX5_gateFor_2 2 rfl rfl)
theorem dX5_gateFor_52 : decode cX5_gateFor 52 = .ok (.iload_n 3, 1) := dk_29 (dk_at dksX5_gateFor_2 5 rfl rfl)
theorem dX5_gateFor_53 : decode cX5_gateFor 53 = .ok (.istore_n 3, 1) := dk_62 (dk_at dksX5_gateFor_2 6 rfl rfl)
theorem dX5_gateFor_54 : decode cX5_gateFor 54 = .ok (.iinc 4 1, 3) := dk_132 4 1 (dk_at dksX5_gateFor_2 7 rfl rfl)
theorem dX5_gateFor_57 : decode cX5_gateFor 57 = .ok (.goto (-45), 3) := dk_167 255 211 (dk_at dksX5_gateFor_2 10 rfl rfl)
theorem dX5_gateFor_60 : decode cX5_gateFor 60 = .ok (.iload_n 2, 1) := dk_28 (dk_at dksX5_gateFor_2 13 rfl rfl)
theorem dX5_gateFor_61 : decode cX5_gateFor 61 = .ok (.ireturn, 1) := dk_172 (dk_at dksX5_gateFor_2 14 rfl rfl)
abbrev cX5_daysToFilter : ByteArray := prog_8_method_79_code
def yX5_daysToFilter : MethodName := ⟨RX5, "daysToFilter", "(I)I"⟩
def dkwX5_daysToFilter_1 : List UInt8 := [182, 0, 124, 172]
abbrev dktX5_daysToFilter_1 : List UInt8 := dkwX5_daysToFilter_1 ++ []
def dkwX5_daysToFilter_0 : List UInt8 := [42, 3, 181, 0, 35, 27, 184, 0, 121, 153, 0, 11, 42, 27, 182, 0, 219, 167, 0, 8, 42, 4]
abbrev dktX5_daysToFilter_0 : List UInt8 := dkwX5_daysToFilter_0 ++ dktX5_daysToFilter_1
theorem dksX5_daysToFilter_0 : cX5_daysToFilter.data.toList.drop 0 = dktX5_daysToFilter_0 := by decide +kernel
theorem dksX5_daysToFilter_1 : cX5_daysToFilter.data.toList.drop 22 = dktX5_daysToFilter_1 := dk_seg dksX5_daysToFilter_0 22 rfl rfl
theorem dX5_daysToFilter_0 : decode cX5_daysToFilter 0 = .ok (.aload_n 0, 1) := dk_42 (dk_at dksX5_daysToFilter_0 0 rfl rfl)
theorem dX5_daysToFilter_1 : decode cX5_daysToFilter 1 = .ok (.iconst 0, 1) := dk_3 (dk_at dksX5_daysToFilter_0 1 rfl rfl)
theorem dX5_daysToFilter_2 : decode cX5_daysToFilter 2 = .ok (.putfield 35, 3) := dk_181 0 35 (dk_at dksX5_daysToFilter_0 2 rfl rfl)
theorem dX5_daysToFilter_5 : decode cX5_daysToFilter 5 = .ok (.iload_n 1, 1) := dk_27 (dk_at dksX5_daysToFilter_0 5 rfl rfl)
theorem dX5_daysToFilter_6 : decode cX5_daysToFilter 6 = .ok (.invokestatic 121, 3) := dk_184 0 121 (dk_at dksX5_daysToFilter_0 6 rfl rfl)
theorem dX5_daysToFilter_9 : decode cX5_daysToFilter 9 = .ok (.ifCond .eq 11, 3) := dk_153 0 11 (dk_at dksX5_daysToFilter_0 9 rfl rfl)
theorem dX5_daysToFilter_12 : decode cX5_daysToFilter 12 = .ok (.aload_n 0, 1) := dk_42 (dk_at dksX5_daysToFilter_0 12 rfl rfl)
theorem dX5_daysToFilter_13 : decode cX5_daysToFilter 13 = .ok (.iload_n 1, 1) := dk_27 (dk_at dksX5_daysToFilter_0 13 rfl rfl)
theorem dX5_daysToFilter_14 : decode cX5_daysToFilter 14 = .ok (.invokevirtual 219, 3) := dk_182 0 219 (dk_at dksX5_daysToFilter_0 14 rfl rfl)
theorem dX5_daysToFilter_17 : decode cX5_daysToFilter 17 = .ok (.goto 8, 3) := dk_167 0 8 (dk_at dksX5_daysToFilter_0 17 rfl rfl)
theorem dX5_daysToFilter_20 : decode cX5_daysToFilter 20 = .ok (.aload_n 0, 1) := dk_42 (dk_at dksX5_daysToFilter_0 20 rfl rfl)
theorem dX5_daysToFilter_21 : decode cX5_daysToFilter 21 = .ok (.iconst 1, 1) := dk_4 (dk_at dksX5_daysToFilter_0 21 rfl rfl)
theorem dX5_daysToFilter_22 : decode cX5_daysToFilter 22 = .ok (.invokevirtual 124, 3) := dk_182 0 124 (dk_at dksX5_daysToFilter_1 0 rfl rfl)
theorem dX5_daysToFilter_25 : decode cX5_daysToFilter 25 = .ok (.ireturn, 1) := dk_172 (dk_at dksX5_daysToFilter_1 3 rfl rfl)
abbrev cX5_untilUsed : ByteArray := prog_8_method_78_code
def yX5_untilUsed : MethodName := ⟨RX5, "untilUsed", "(I)I"⟩
def dkwX5_untilUsed_3 : List UInt8 := [167, 0, 4, 2, 172]
abbrev dktX5_untilUsed_3 : List UInt8 := dkwX5_untilUsed_3 ++ []
def dkwX5_untilUsed_2 : List UInt8 := [16, 6, 96, 46, 4, 160, 0, 7, 4, 167, 0, 4, 3, 62, 42, 182, 0, 204, 29, 153, 0, 7, 28]
abbrev dktX5_untilUsed_2 : List UInt8 := dkwX5_untilUsed_2 ++ dktX5_untilUsed_3
def dkwX5_untilUsed_1 : List UInt8 := [132, 2, 1, 167, 255, 235, 28, 16, 61, 162, 0, 26, 42, 180, 0, 13, 16, 13, 16, 10, 27, 104, 96]
abbrev dktX5_untilUsed_1 : List UInt8 := dkwX5_untilUsed_1 ++ dktX5_untilUsed_2
def dkwX5_untilUsed_0 : List UInt8 := [42, 182, 0, 201, 3, 61, 28, 16, 61, 162, 0, 21, 42, 27, 182, 0, 216, 154, 0, 13, 42, 182, 0, 118]
abbrev dktX5_untilUsed_0 : List UInt8 := dkwX5_untilUsed_0 ++ dktX5_untilUsed_1
theorem dksX5_untilUsed_0 : cX5_untilUsed.data.toList.drop 0 = dktX5_untilUsed_0 := by decide +kernel
theorem dksX5_untilUsed_1 : cX5_untilUsed.data.toList.drop 24 = dktX5_untilUsed_1 := dk_seg dksX5_untilUsed_0 24 rfl rfl
theorem dksX5_untilUsed_2 : cX5_untilUsed.data.toList.drop 47 = dktX5_untilUsed_2 := dk_seg dksX5_untilUsed_1 23 rfl rfl
theorem dksX5_untilUsed_3 : cX5_untilUsed.data.toList.drop 70 = dktX5_untilUsed_3 := dk_seg dksX5_untilUsed_2 23 rfl rfl
theorem dX5_untilUsed_0 : decode cX5_untilUsed 0 = .ok (.aload_n 0, 1) := dk_42 (dk_at dksX5_untilUsed_0 0 rfl rfl)
theorem dX5_untilUsed_1 : decode cX5_untilUsed 1 = .ok (.invokevirtual 201, 3) := dk_182 0 201 (dk_at dksX5_untilUsed_0 1 rfl rfl)
theorem dX5_untilUsed_4 : decode cX5_untilUsed 4 = .ok (.iconst 0, 1) := dk_3 (dk_at dksX5_untilUsed_0 4 rfl rfl)
theorem dX5_untilUsed_5 : decode cX5_untilUsed 5 = .ok (.istore_n 2, 1) := dk_61 (dk_at dksX5_untilUsed_0 5 rfl rfl)
theorem dX5_untilUsed_6 : decode cX5_untilUsed 6 = .ok (.iload_n 2, 1) := dk_28 (dk_at dksX5_untilUsed_0 6 rfl rfl)
theorem dX5_untilUsed_7 : decode cX5_untilUsed 7 = .ok (.bipush 61, 2) := dk_16 61 (dk_at dksX5_untilUsed_0 7 rfl rfl)
theorem dX5_untilUsed_9 : decode cX5_untilUsed 9 = .ok (.if_icmp .ge 21, 3) := dk_162 0 21 (dk_at dksX5_untilUsed_0 9 rfl rfl)
theorem dX5_untilUsed_12 : decode cX5_untilUsed 12 = .ok (.aload_n 0, 1) := dk_42 (dk_at dksX5_untilUsed_0 12 rfl rfl)
theorem dX5_untilUsed_13 : decode cX5_untilUsed 13 = .ok (.iload_n 1, 1) := dk_27 (dk_at dksX5_untilUsed_0 13 rfl rfl)
theorem dX5_untilUsed_14 : decode cX5_untilUsed 14 = .ok (.invokevirtual 216, 3) := dk_182 0 216 (dk_at dksX5_untilUsed_0 14 rfl rfl)
theorem dX5_untilUsed_17 : decode cX5_untilUsed 17 = .ok (.ifCond .ne 13, 3) := dk_154 0 13 (dk_at dksX5_untilUsed_0 17 rfl rfl)
theorem dX5_untilUsed_20 : decode cX5_untilUsed 20 = .ok (.aload_n 0, 1) := dk_42 (dk_at dksX5_untilUsed_0 20 rfl rfl)
theorem dX5_untilUsed_21 : decode cX5_untilUsed 21 = .ok (.invokevirtual 118, 3) := dk_182 0 118 (dk_at dksX5_untilUsed_0 21 rfl rfl)
theorem dX5_untilUsed_24 : decode cX5_untilUsed 24 = .ok (.iinc 2 1, 3) := dk_132 2 1 (dk_at dksX5_untilUsed_1 0 rfl rfl)
theorem dX5_untilUsed_27 : decode cX5_untilUsed 27 = .ok (.goto (-21), 3) := dk_167 255 235 (dk_at dksX5_untilUsed_1 3 rfl rfl)
theorem dX5_untilUsed_30 : decode cX5_untilUsed 30 = .ok (.iload_n 2, 1) := dk_28 (dk_at dksX5_untilUsed_1 6 rfl rfl)
theorem dX5_untilUsed_31 : decode cX5_untilUsed 31 = .ok (.bipush 61, 2) := dk_16 61 (dk_at dksX5_untilUsed_1 7 rfl rfl)
theorem dX5_untilUsed_33 : decode cX5_untilUsed 33 = .ok (.if_icmp .ge 26, 3) := dk_162 0 26 (dk_at dksX5_untilUsed_1 9 rfl rfl)
theorem dX5_untilUsed_36 : decode cX5_untilUsed 36 = .ok (.aload_n 0, 1) := dk_42 (dk_at dksX5_untilUsed_1 12 rfl rfl)
theorem dX5_untilUsed_37 : decode cX5_untilUsed 37 = .ok (.getfield 13, 3) := dk_180 0 13 (dk_at dksX5_untilUsed_1 13 rfl rfl)
theorem dX5_untilUsed_40 : decode cX5_untilUsed 40 = .ok (.bipush 13, 2) := dk_16 13 (dk_at dksX5_untilUsed_1 16 rfl rfl)
theorem dX5_untilUsed_42 : decode cX5_untilUsed 42 = .ok (.bipush 10, 2) := dk_16 10 (dk_at dksX5_untilUsed_1 18 rfl rfl)
theorem dX5_untilUsed_44 : decode cX5_untilUsed 44 = .ok (.iload_n 1, 1) := dk_27 (dk_at dksX5_untilUsed_1 20 rfl rfl)
theorem dX5_untilUsed_45 : decode cX5_untilUsed 45 = .ok (.imul, 1) := dk_104 (dk_at dksX5_untilUsed_1 21 rfl rfl)
theorem dX5_untilUsed_46 : decode cX5_untilUsed 46 = .ok (.iadd, 1) := dk_96 (dk_at dksX5_untilUsed_1 22 rfl rfl)
theorem dX5_untilUsed_47 : decode cX5_untilUsed 47 = .ok (.bipush 6, 2) := dk_16 6 (dk_at dksX5_untilUsed_2 0 rfl rfl)
theorem dX5_untilUsed_49 : decode cX5_untilUsed 49 = .ok (.iadd, 1) := dk_96 (dk_at dksX5_untilUsed_2 2 rfl rfl)
theorem dX5_untilUsed_50 : decode cX5_untilUsed 50 = .ok (.iaload, 1) := dk_46 (dk_at dksX5_untilUsed_2 3 rfl rfl)
theorem dX5_untilUsed_51 : decode cX5_untilUsed 51 = .ok (.iconst 1, 1) := dk_4 (dk_at dksX5_untilUsed_2 4 rfl rfl)
theorem dX5_untilUsed_52 : decode cX5_untilUsed 52 = .ok (.if_icmp .ne 7, 3) := dk_160 0 7 (dk_at dksX5_untilUsed_2 5 rfl rfl)
theorem dX5_untilUsed_55 : decode cX5_untilUsed 55 = .ok (.iconst 1, 1) := dk_4 (dk_at dksX5_untilUsed_2 8 rfl rfl)
theorem dX5_untilUsed_56 : decode cX5_untilUsed 56 = .ok (.goto 4, 3) := dk_167 0 4 (dk_at dksX5_untilUsed_2 9 rfl rfl)
theorem dX5_untilUsed_59 : decode cX5_untilUsed 59 = .ok (.iconst 0, 1) := dk_3 (dk_at dksX5_untilUsed_2 12 rfl rfl)
theorem dX5_untilUsed_60 : decode cX5_untilUsed 60 = .ok (.istore_n 3, 1) := dk_62 (dk_at dksX5_untilUsed_2 13 rfl rfl)
theorem dX5_untilUsed_61 : decode cX5_untilUsed 61 = .ok (.aload_n 0, 1) := dk_42 (dk_at dksX5_untilUsed_2 14 rfl rfl)
theorem dX5_untilUsed_62 : decode cX5_untilUsed 62 = .ok (.invokevirtual 204, 3) := dk_182 0 204 (dk_at dksX5_untilUsed_2 15 rfl rfl)
theorem dX5_untilUsed_65 : decode cX5_untilUsed 65 = .ok (.iload_n 3, 1) := dk_29 (dk_at dksX5_untilUsed_2 18 rfl rfl)
theorem dX5_untilUsed_66 : decode cX5_untilUsed 66 = .ok (.ifCond .eq 7, 3) := dk_153 0 7 (dk_at dksX5_untilUsed_2 19 rfl rfl)
theorem dX5_untilUsed_69 : decode cX5_untilUsed 69 = .ok (.iload_n 2, 1) := dk_28 (dk_at dksX5_untilUsed_2 22 rfl rfl)
theorem dX5_untilUsed_70 : decode cX5_untilUsed 70 = .ok (.goto 4, 3) := dk_167 0 4 (dk_at dksX5_untilUsed_3 0 rfl rfl)
theorem dX5_untilUsed_73 : decode cX5_untilUsed 73 = .ok (.iconst (-1), 1) := dk_2 (dk_at dksX5_untilUsed_3 3 rfl rfl)
theorem dX5_untilUsed_74 : decode cX5_untilUsed 74 = .ok (.ireturn, 1) := dk_172 (dk_at dksX5_untilUsed_3 4 rfl rfl)
abbrev cX5_isUsedUp : ByteArray := prog_8_method_77_code
def yX5_isUsedUp : MethodName := ⟨RX5, "isUsedUp", "(I)Z"⟩
def dkwX5_isUsedUp_1 : List UInt8 := [104, 160, 0, 7, 4, 167, 0, 4, 3, 172]
abbrev dktX5_isUsedUp_1 : List UInt8 := dkwX5_isUsedUp_1 ++ []
def dkwX5_isUsedUp_0 : List UInt8 := [42, 27, 16, 6, 182, 0, 46, 4, 160, 0, 24, 42, 27, 5, 182, 0, 46, 7, 42, 27, 4, 182, 0, 46]
abbrev dktX5_isUsedUp_0 : List UInt8 := dkwX5_isUsedUp_0 ++ dktX5_isUsedUp_1
theorem dksX5_isUsedUp_0 : cX5_isUsedUp.data.toList.drop 0 = dktX5_isUsedUp_0 := by decide +kernel
theorem dksX5_isUsedUp_1 : cX5_isUsedUp.data.toList.drop 24 = dktX5_isUsedUp_1 := dk_seg dksX5_isUsedUp_0 24 rfl rfl
theorem dX5_isUsedUp_0 : decode cX5_isUsedUp 0 = .ok (.aload_n 0, 1) := dk_42 (dk_at dksX5_isUsedUp_0 0 rfl rfl)
theorem dX5_isUsedUp_1 : decode cX5_isUsedUp 1 = .ok (.iload_n 1, 1) := dk_27 (dk_at dksX5_isUsedUp_0 1 rfl rfl)
theorem dX5_isUsedUp_2 : decode cX5_isUsedUp 2 = .ok (.bipush 6, 2) := dk_16 6 (dk_at dksX5_isUsedUp_0 2 rfl rfl)
theorem dX5_isUsedUp_4 : decode cX5_isUsedUp 4 = .ok (.invokevirtual 46, 3) := dk_182 0 46 (dk_at dksX5_isUsedUp_0 4 rfl rfl)
theorem dX5_isUsedUp_7 : decode cX5_isUsedUp 7 = .ok (.iconst 1, 1) := dk_4 (dk_at dksX5_isUsedUp_0 7 rfl rfl)
theorem dX5_isUsedUp_8 : decode cX5_isUsedUp 8 = .ok (.if_icmp .ne 24, 3) := dk_160 0 24 (dk_at dksX5_isUsedUp_0 8 rfl rfl)
theorem dX5_isUsedUp_11 : decode cX5_isUsedUp 11 = .ok (.aload_n 0, 1) := dk_42 (dk_at dksX5_isUsedUp_0 11 rfl rfl)
theorem dX5_isUsedUp_12 : decode cX5_isUsedUp 12 = .ok (.iload_n 1, 1) := dk_27 (dk_at dksX5_isUsedUp_0 12 rfl rfl)
theorem dX5_isUsedUp_13 : decode cX5_isUsedUp 13 = .ok (.iconst 2, 1) := dk_5 (dk_at dksX5_isUsedUp_0 13 rfl rfl)
theorem dX5_isUsedUp_14 : decode cX5_isUsedUp 14 = .ok (.invokevirtual 46, 3) := dk_182 0 46 (dk_at dksX5_isUsedUp_0 14 rfl rfl)
theorem dX5_isUsedUp_17 : decode cX5_isUsedUp 17 = .ok (.iconst 4, 1) := dk_7 (dk_at dksX5_isUsedUp_0 17 rfl rfl)
theorem dX5_isUsedUp_18 : decode cX5_isUsedUp 18 = .ok (.aload_n 0, 1) := dk_42 (dk_at dksX5_isUsedUp_0 18 rfl rfl)
theorem dX5_isUsedUp_19 : decode cX5_isUsedUp 19 = .ok (.iload_n 1, 1) := dk_27 (dk_at dksX5_isUsedUp_0 19 rfl rfl)
theorem dX5_isUsedUp_20 : decode cX5_isUsedUp 20 = .ok (.iconst 1, 1) := dk_4 (dk_at dksX5_isUsedUp_0 20 rfl rfl)
theorem dX5_isUsedUp_21 : decode cX5_isUsedUp 21 = .ok (.invokevirtual 46, 3) := dk_182 0 46 (dk_at dksX5_isUsedUp_0 21 rfl rfl)
theorem dX5_isUsedUp_24 : decode cX5_isUsedUp 24 = .ok (.imul, 1) := dk_104 (dk_at dksX5_isUsedUp_1 0 rfl rfl)
theorem dX5_isUsedUp_25 : decode cX5_isUsedUp 25 = .ok (.if_icmp .ne 7, 3) := dk_160 0 7 (dk_at dksX5_isUsedUp_1 1 rfl rfl)
theorem dX5_isUsedUp_28 : decode cX5_isUsedUp 28 = .ok (.iconst 1, 1) := dk_4 (dk_at dksX5_isUsedUp_1 4 rfl rfl)
theorem dX5_isUsedUp_29 : decode cX5_isUsedUp 29 = .ok (.goto 4, 3) := dk_167 0 4 (dk_at dksX5_isUsedUp_1 5 rfl rfl)
theorem dX5_isUsedUp_32 : decode cX5_isUsedUp 32 = .ok (.iconst 0, 1) := dk_3 (dk_at dksX5_isUsedUp_1 8 rfl rfl)
theorem dX5_isUsedUp_33 : decode cX5_isUsedUp 33 = .ok (.ireturn, 1) := dk_172 (dk_at dksX5_isUsedUp_1 9 rfl rfl)
abbrev cX5_bestOrder : ByteArray := prog_8_method_81_code
def yX5_bestOrder : MethodName := ⟨RX5, "bestOrder", "(I)I"⟩
def dkwX5_bestOrder_1 : List UInt8 := [4, 182, 0, 124, 172]
abbrev dktX5_bestOrder_1 : List UInt8 := dkwX5_bestOrder_1 ++ []
def dkwX5_bestOrder_0 : List UInt8 := [42, 3, 181, 0, 35, 27, 4, 16, 30, 184, 0, 39, 153, 0, 11, 42, 27, 182, 0, 222, 167, 0, 8, 42]
abbrev dktX5_bestOrder_0 : List UInt8 := dkwX5_bestOrder_0 ++ dktX5_bestOrder_1
theorem dksX5_bestOrder_0 : cX5_bestOrder.data.toList.drop 0 = dktX5_bestOrder_0 := by decide +kernel
theorem dksX5_bestOrder_1 : cX5_bestOrder.data.toList.drop 24 = dktX5_bestOrder_1 := dk_seg dksX5_bestOrder_0 24 rfl rfl
theorem dX5_bestOrder_0 : decode cX5_bestOrder 0 = .ok (.aload_n 0, 1) := dk_42 (dk_at dksX5_bestOrder_0 0 rfl rfl)
theorem dX5_bestOrder_1 : decode cX5_bestOrder 1 = .ok (.iconst 0, 1) := dk_3 (dk_at dksX5_bestOrder_0 1 rfl rfl)
theorem dX5_bestOrder_2 : decode cX5_bestOrder 2 = .ok (.putfield 35, 3) := dk_181 0 35 (dk_at dksX5_bestOrder_0 2 rfl rfl)
theorem dX5_bestOrder_5 : decode cX5_bestOrder 5 = .ok (.iload_n 1, 1) := dk_27 (dk_at dksX5_bestOrder_0 5 rfl rfl)
theorem dX5_bestOrder_6 : decode cX5_bestOrder 6 = .ok (.iconst 1, 1) := dk_4 (dk_at dksX5_bestOrder_0 6 rfl rfl)
theorem dX5_bestOrder_7 : decode cX5_bestOrder 7 = .ok (.bipush 30, 2) := dk_16 30 (dk_at dksX5_bestOrder_0 7 rfl rfl)
theorem dX5_bestOrder_9 : decode cX5_bestOrder 9 = .ok (.invokestatic 39, 3) := dk_184 0 39 (dk_at dksX5_bestOrder_0 9 rfl rfl)
theorem dX5_bestOrder_12 : decode cX5_bestOrder 12 = .ok (.ifCond .eq 11, 3) := dk_153 0 11 (dk_at dksX5_bestOrder_0 12 rfl rfl)
theorem dX5_bestOrder_15 : decode cX5_bestOrder 15 = .ok (.aload_n 0, 1) := dk_42 (dk_at dksX5_bestOrder_0 15 rfl rfl)
theorem dX5_bestOrder_16 : decode cX5_bestOrder 16 = .ok (.iload_n 1, 1) := dk_27 (dk_at dksX5_bestOrder_0 16 rfl rfl)
theorem dX5_bestOrder_17 : decode cX5_bestOrder 17 = .ok (.invokevirtual 222, 3) := dk_182 0 222 (dk_at dksX5_bestOrder_0 17 rfl rfl)
theorem dX5_bestOrder_20 : decode cX5_bestOrder 20 = .ok (.goto 8, 3) := dk_167 0 8 (dk_at dksX5_bestOrder_0 20 rfl rfl)
theorem dX5_bestOrder_23 : decode cX5_bestOrder 23 = .ok (.aload_n 0, 1) := dk_42 (dk_at dksX5_bestOrder_0 23 rfl rfl)
theorem dX5_bestOrder_24 : decode cX5_bestOrder 24 = .ok (.iconst 1, 1) := dk_4 (dk_at dksX5_bestOrder_1 0 rfl rfl)
theorem dX5_bestOrder_25 : decode cX5_bestOrder 25 = .ok (.invokevirtual 124, 3) := dk_182 0 124 (dk_at dksX5_bestOrder_1 1 rfl rfl)
theorem dX5_bestOrder_28 : decode cX5_bestOrder 28 = .ok (.ireturn, 1) := dk_172 (dk_at dksX5_bestOrder_1 4 rfl rfl)
abbrev cX5_orderFor : ByteArray := prog_8_method_80_code
def yX5_orderFor : MethodName := ⟨RX5, "orderFor", "(I)I"⟩
def dkwX5_orderFor_4 : List UInt8 := [4, 28, 79, 29, 172]
abbrev dktX5_orderFor_4 : List UInt8 := dkwX5_orderFor_4 ++ []
def dkwX5_orderFor_3 : List UInt8 := [164, 0, 14, 21, 6, 62, 21, 7, 54, 4, 21, 8, 54, 5, 132, 6, 1, 167, 255, 186, 42, 180, 0, 7]
abbrev dktX5_orderFor_3 : List UInt8 := dkwX5_orderFor_3 ++ dktX5_orderFor_4
def dkwX5_orderFor_2 : List UInt8 := [29, 2, 159, 0, 24, 21, 7, 21, 4, 161, 0, 17, 21, 7, 21, 4, 160, 0, 21, 21, 8, 21, 5]
abbrev dktX5_orderFor_2 : List UInt8 := dkwX5_orderFor_2 ++ dktX5_orderFor_3
def dkwX5_orderFor_1 : List UInt8 := [42, 180, 0, 7, 4, 21, 6, 79, 42, 27, 3, 182, 0, 207, 54, 7, 42, 27, 6, 182, 0, 207, 54, 8]
abbrev dktX5_orderFor_1 : List UInt8 := dkwX5_orderFor_1 ++ dktX5_orderFor_2
def dkwX5_orderFor_0 : List UInt8 := [42, 180, 0, 7, 4, 46, 61, 2, 62, 3, 54, 4, 3, 54, 5, 3, 54, 6, 21, 6, 6, 162, 0, 70]
abbrev dktX5_orderFor_0 : List UInt8 := dkwX5_orderFor_0 ++ dktX5_orderFor_1
theorem dksX5_orderFor_0 : cX5_orderFor.data.toList.drop 0 = dktX5_orderFor_0 := by decide +kernel
theorem dksX5_orderFor_1 : cX5_orderFor.data.toList.drop 24 = dktX5_orderFor_1 := dk_seg dksX5_orderFor_0 24 rfl rfl
theorem dksX5_orderFor_2 : cX5_orderFor.data.toList.drop 48 = dktX5_orderFor_2 := dk_seg dksX5_orderFor_1 24 rfl rfl
theorem dksX5_orderFor_3 : cX5_orderFor.data.toList.drop 71 = dktX5_orderFor_3 := dk_seg dksX5_orderFor_2 23 rfl rfl
theorem dksX5_orderFor_4 : cX5_orderFor.data.toList.drop 95 = dktX5_orderFor_4 := dk_seg dksX5_orderFor_3 24 rfl rfl
theorem dX5_orderFor_0 : decode cX5_orderFor 0 = .ok (.aload_n 0, 1) := dk_42 (dk_at dksX5_orderFor_0 0 rfl rfl)
theorem dX5_orderFor_1 : decode cX5_orderFor 1 = .ok (.getfield 7, 3) := dk_180 0 7 (dk_at dksX5_orderFor_0 1 rfl rfl)
theorem dX5_orderFor_4 : decode cX5_orderFor 4 = .ok (.iconst 1, 1) := dk_4 (dk_at dksX5_orderFor_0 4 rfl rfl)
theorem dX5_orderFor_5 : decode cX5_orderFor 5 = .ok (.iaload, 1) := dk_46 (dk_at dksX5_orderFor_0 5 rfl rfl)
theorem dX5_orderFor_6 : decode cX5_orderFor 6 = .ok (.istore_n 2, 1) := dk_61 (dk_at dksX5_orderFor_0 6 rfl rfl)
theorem dX5_orderFor_7 : decode cX5_orderFor 7 = .ok (.iconst (-1), 1) := dk_2 (dk_at dksX5_orderFor_0 7 rfl rfl)
theorem dX5_orderFor_8 : decode cX5_orderFor 8 = .ok (.istore_n 3, 1) := dk_62 (dk_at dksX5_orderFor_0 8 rfl rfl)
theorem dX5_orderFor_9 : decode cX5_orderFor 9 = .ok (.iconst 0, 1) := dk_3 (dk_at dksX5_orderFor_0 9 rfl rfl)
theorem dX5_orderFor_10 : decode cX5_orderFor 10 = .ok (.istore 4, 2) := dk_54 4 (dk_at dksX5_orderFor_0 10 rfl rfl)
theorem dX5_orderFor_12 : decode cX5_orderFor 12 = .ok (.iconst 0, 1) := dk_3 (dk_at dksX5_orderFor_0 12 rfl rfl)
theorem dX5_orderFor_13 : decode cX5_orderFor 13 = .ok (.istore 5, 2) := dk_54 5 (dk_at dksX5_orderFor_0 13 rfl rfl)
theorem dX5_orderFor_15 : decode cX5_orderFor 15 = .ok (.iconst 0, 1) := dk_3 (dk_at dksX5_orderFor_0 15 rfl rfl)
theorem dX5_orderFor_16 : decode cX5_orderFor 16 = .ok (.istore 6, 2) := dk_54 6 (dk_at dksX5_orderFor_0 16 rfl rfl)
theorem dX5_orderFor_18 : decode cX5_orderFor 18 = .ok (.iload 6, 2) := dk_21 6 (dk_at dksX5_orderFor_0 18 rfl rfl)
theorem dX5_orderFor_20 : decode cX5_orderFor 20 = .ok (.iconst 3, 1) := dk_6 (dk_at dksX5_orderFor_0 20 rfl rfl)
theorem dX5_orderFor_21 : decode cX5_orderFor 21 = .ok (.if_icmp .ge 70, 3) := dk_162 0 70 (dk_at dksX5_orderFor_0 21 rfl rfl)
theorem dX5_orderFor_24 : decode cX5_orderFor 24 = .ok (.aload_n 0, 1) := dk_42 (dk_at dksX5_orderFor_1 0 rfl rfl)
theorem dX5_orderFor_25 : decode cX5_orderFor 25 = .ok (.getfield 7, 3) := dk_180 0 7 (dk_at dksX5_orderFor_1 1 rfl rfl)
theorem dX5_orderFor_28 : decode cX5_orderFor 28 = .ok (.iconst 1, 1) := dk_4 (dk_at dksX5_orderFor_1 4 rfl rfl)
theorem dX5_orderFor_29 : decode cX5_orderFor 29 = .ok (.iload 6, 2) := dk_21 6 (dk_at dksX5_orderFor_1 5 rfl rfl)
theorem dX5_orderFor_31 : decode cX5_orderFor 31 = .ok (.iastore, 1) := dk_79 (dk_at dksX5_orderFor_1 7 rfl rfl)
theorem dX5_orderFor_32 : decode cX5_orderFor 32 = .ok (.aload_n 0, 1) := dk_42 (dk_at dksX5_orderFor_1 8 rfl rfl)
theorem dX5_orderFor_33 : decode cX5_orderFor 33 = .ok (.iload_n 1, 1) := dk_27 (dk_at dksX5_orderFor_1 9 rfl rfl)
theorem dX5_orderFor_34 : decode cX5_orderFor 34 = .ok (.iconst 0, 1) := dk_3 (dk_at dksX5_orderFor_1 10 rfl rfl)
theorem dX5_orderFor_35 : decode cX5_orderFor 35 = .ok (.invokevirtual 207, 3) := dk_182 0 207 (dk_at dksX5_orderFor_1 11 rfl rfl)
theorem dX5_orderFor_38 : decode cX5_orderFor 38 = .ok (.istore 7, 2) := dk_54 7 (dk_at dksX5_orderFor_1 14 rfl rfl)
theorem dX5_orderFor_40 : decode cX5_orderFor 40 = .ok (.aload_n 0, 1) := dk_42 (dk_at dksX5_orderFor_1 16 rfl rfl)
theorem dX5_orderFor_41 : decode cX5_orderFor 41 = .ok (.iload_n 1, 1) := dk_27 (dk_at dksX5_orderFor_1 17 rfl rfl)
theorem dX5_orderFor_42 : decode cX5_orderFor 42 = .ok (.iconst 3, 1) := dk_6 (dk_at dksX5_orderFor_1 18 rfl rfl)
theorem dX5_orderFor_43 : decode cX5_orderFor 43 = .ok (.invokevirtual 207, 3) := dk_182 0 207 (dk_at dksX5_orderFor_1 19 rfl rfl)
theorem dX5_orderFor_46 : decode cX5_orderFor 46 = .ok (.istore 8, 2) := dk_54 8 (dk_at dksX5_orderFor_1 22 rfl rfl)
theorem dX5_orderFor_48 : decode cX5_orderFor 48 = .ok (.iload_n 3, 1) := dk_29 (dk_at dksX5_orderFor_2 0 rfl rfl)
theorem dX5_orderFor_49 : decode cX5_orderFor 49 = .ok (.iconst (-1), 1) := dk_2 (dk_at dksX5_orderFor_2 1 rfl rfl)
theorem dX5_orderFor_50 : decode cX5_orderFor 50 = .ok (.if_icmp .eq 24, 3) := dk_159 0 24 (dk_at dksX5_orderFor_2 2 rfl rfl)
theorem dX5_orderFor_53 : decode cX5_orderFor 53 = .ok (.iload 7, 2) := dk_21 7 (dk_at dksX5_orderFor_2 5 rfl rfl)
theorem dX5_orderFor_55 : decode cX5_orderFor 55 = .ok (.iload 4, 2) := dk_21 4 (dk_at dksX5_orderFor_2 7 rfl rfl)
theorem dX5_orderFor_57 : decode cX5_orderFor 57 = .ok (.if_icmp .lt 17, 3) := dk_161 0 17 (dk_at dksX5_orderFor_2 9 rfl rfl)
theorem dX5_orderFor_60 : decode cX5_orderFor 60 = .ok (.iload 7, 2) := dk_21 7 (dk_at dksX5_orderFor_2 12 rfl rfl)
theorem dX5_orderFor_62 : decode cX5_orderFor 62 = .ok (.iload 4, 2) := dk_21 4 (dk_at dksX5_orderFor_2 14 rfl rfl)
theorem dX5_orderFor_64 : decode cX5_orderFor 64 = .ok (.if_icmp .ne 21, 3) := dk_160 0 21 (dk_at dksX5_orderFor_2 16 rfl rfl)
theorem dX5_orderFor_67 : decode cX5_orderFor 67 = .ok (.iload 8, 2) := dk_21 8 (dk_at dksX5_orderFor_2 19 rfl rfl)
theorem dX5_orderFor_69 : decode cX5_orderFor 69 = .ok (.iload 5, 2) := dk_21 5 (dk_at dksX5_orderFor_2 21 rfl rfl)
theorem dX5_orderFor_71 : decode cX5_orderFor 71 = .ok (.if_icmp .le 14, 3) := dk_164 0 14 (dk_at dksX5_orderFor_3 0 rfl rfl)
theorem dX5_orderFor_74 : decode cX5_orderFor 74 = .ok (.iload 6, 2) := dk_21 6 (dk_at dksX5_orderFor_3 3 rfl rfl)
theorem dX5_orderFor_76 : decode cX5_orderFor 76 = .ok (.istore_n 3, 1) := dk_62 (dk_at dksX5_orderFor_3 5 rfl rfl)
theorem dX5_orderFor_77 : decode cX5_orderFor 77 = .ok (.iload 7, 2) := dk_21 7 (dk_at dksX5_orderFor_3 6 rfl rfl)
theorem dX5_orderFor_79 : decode cX5_orderFor 79 = .ok (.istore 4, 2) := dk_54 4 (dk_at dksX5_orderFor_3 8 rfl rfl)
theorem dX5_orderFor_81 : decode cX5_orderFor 81 = .ok (.iload 8, 2) := dk_21 8 (dk_at dksX5_orderFor_3 10 rfl rfl)
theorem dX5_orderFor_83 : decode cX5_orderFor 83 = .ok (.istore 5, 2) := dk_54 5 (dk_at dksX5_orderFor_3 12 rfl rfl)
theorem dX5_orderFor_85 : decode cX5_orderFor 85 = .ok (.iinc 6 1, 3) := dk_132 6 1 (dk_at dksX5_orderFor_3 14 rfl rfl)
theorem dX5_orderFor_88 : decode cX5_orderFor 88 = .ok (.goto (-70), 3) := dk_167 255 186 (dk_at dksX5_orderFor_3 17 rfl rfl)
theorem dX5_orderFor_91 : decode cX5_orderFor 91 = .ok (.aload_n 0, 1) := dk_42 (dk_at dksX5_orderFor_3 20 rfl rfl)
theorem dX5_orderFor_92 : decode cX5_orderFor 92 = .ok (.getfield 7, 3) := dk_180 0 7 (dk_at dksX5_orderFor_3 21 rfl rfl)
theorem dX5_orderFor_95 : decode cX5_orderFor 95 = .ok (.iconst 1, 1) := dk_4 (dk_at dksX5_orderFor_4 0 rfl rfl)
theorem dX5_orderFor_96 : decode cX5_orderFor 96 = .ok (.iload_n 2, 1) := dk_28 (dk_at dksX5_orderFor_4 1 rfl rfl)
theorem dX5_orderFor_97 : decode cX5_orderFor 97 = .ok (.iastore, 1) := dk_79 (dk_at dksX5_orderFor_4 2 rfl rfl)
theorem dX5_orderFor_98 : decode cX5_orderFor 98 = .ok (.iload_n 3, 1) := dk_29 (dk_at dksX5_orderFor_4 3 rfl rfl)
theorem dX5_orderFor_99 : decode cX5_orderFor 99 = .ok (.ireturn, 1) := dk_172 (dk_at dksX5_orderFor_4 4 rfl rfl)
abbrev cX5_fed : ByteArray := prog_8_method_82_code
def yX5_fed : MethodName := ⟨RX5, "fed", "()D"⟩
def dkwX5_fed_1 : List UInt8 := [16, 9, 46, 42, 180, 0, 7, 16, 8, 46, 100, 135, 42, 180, 0, 7, 16, 9, 46, 135, 111, 175]
abbrev dktX5_fed_1 : List UInt8 := dkwX5_fed_1 ++ []
def dkwX5_fed_0 : List UInt8 := [42, 3, 181, 0, 35, 42, 180, 0, 7, 16, 9, 46, 154, 0, 7, 15, 167, 0, 28, 42, 180, 0, 7]
abbrev dktX5_fed_0 : List UInt8 := dkwX5_fed_0 ++ dktX5_fed_1
theorem dksX5_fed_0 : cX5_fed.data.toList.drop 0 = dktX5_fed_0 := by decide +kernel
theorem dksX5_fed_1 : cX5_fed.data.toList.drop 23 = dktX5_fed_1 := dk_seg dksX5_fed_0 23 rfl rfl
theorem dX5_fed_0 : decode cX5_fed 0 = .ok (.aload_n 0, 1) := dk_42 (dk_at dksX5_fed_0 0 rfl rfl)
theorem dX5_fed_1 : decode cX5_fed 1 = .ok (.iconst 0, 1) := dk_3 (dk_at dksX5_fed_0 1 rfl rfl)
theorem dX5_fed_2 : decode cX5_fed 2 = .ok (.putfield 35, 3) := dk_181 0 35 (dk_at dksX5_fed_0 2 rfl rfl)
theorem dX5_fed_5 : decode cX5_fed 5 = .ok (.aload_n 0, 1) := dk_42 (dk_at dksX5_fed_0 5 rfl rfl)
theorem dX5_fed_6 : decode cX5_fed 6 = .ok (.getfield 7, 3) := dk_180 0 7 (dk_at dksX5_fed_0 6 rfl rfl)
theorem dX5_fed_9 : decode cX5_fed 9 = .ok (.bipush 9, 2) := dk_16 9 (dk_at dksX5_fed_0 9 rfl rfl)
theorem dX5_fed_11 : decode cX5_fed 11 = .ok (.iaload, 1) := dk_46 (dk_at dksX5_fed_0 11 rfl rfl)
theorem dX5_fed_12 : decode cX5_fed 12 = .ok (.ifCond .ne 7, 3) := dk_154 0 7 (dk_at dksX5_fed_0 12 rfl rfl)
theorem dX5_fed_15 : decode cX5_fed 15 = .ok (.dconst 1, 1) := dk_15 (dk_at dksX5_fed_0 15 rfl rfl)
theorem dX5_fed_16 : decode cX5_fed 16 = .ok (.goto 28, 3) := dk_167 0 28 (dk_at dksX5_fed_0 16 rfl rfl)
theorem dX5_fed_19 : decode cX5_fed 19 = .ok (.aload_n 0, 1) := dk_42 (dk_at dksX5_fed_0 19 rfl rfl)
theorem dX5_fed_20 : decode cX5_fed 20 = .ok (.getfield 7, 3) := dk_180 0 7 (dk_at dksX5_fed_0 20 rfl rfl)
theorem dX5_fed_23 : decode cX5_fed 23 = .ok (.bipush 9, 2) := dk_16 9 (dk_at dksX5_fed_1 0 rfl rfl)
theorem dX5_fed_25 : decode cX5_fed 25 = .ok (.iaload, 1) := dk_46 (dk_at dksX5_fed_1 2 rfl rfl)
theorem dX5_fed_26 : decode cX5_fed 26 = .ok (.aload_n 0, 1) := dk_42 (dk_at dksX5_fed_1 3 rfl rfl)
theorem dX5_fed_27 : decode cX5_fed 27 = .ok (.getfield 7, 3) := dk_180 0 7 (dk_at dksX5_fed_1 4 rfl rfl)
theorem dX5_fed_30 : decode cX5_fed 30 = .ok (.bipush 8, 2) := dk_16 8 (dk_at dksX5_fed_1 7 rfl rfl)
theorem dX5_fed_32 : decode cX5_fed 32 = .ok (.iaload, 1) := dk_46 (dk_at dksX5_fed_1 9 rfl rfl)
theorem dX5_fed_33 : decode cX5_fed 33 = .ok (.isub, 1) := dk_100 (dk_at dksX5_fed_1 10 rfl rfl)
theorem dX5_fed_34 : decode cX5_fed 34 = .ok (.i2d, 1) := dk_135 (dk_at dksX5_fed_1 11 rfl rfl)
theorem dX5_fed_35 : decode cX5_fed 35 = .ok (.aload_n 0, 1) := dk_42 (dk_at dksX5_fed_1 12 rfl rfl)
theorem dX5_fed_36 : decode cX5_fed 36 = .ok (.getfield 7, 3) := dk_180 0 7 (dk_at dksX5_fed_1 13 rfl rfl)
theorem dX5_fed_39 : decode cX5_fed 39 = .ok (.bipush 9, 2) := dk_16 9 (dk_at dksX5_fed_1 16 rfl rfl)
theorem dX5_fed_41 : decode cX5_fed 41 = .ok (.iaload, 1) := dk_46 (dk_at dksX5_fed_1 18 rfl rfl)
theorem dX5_fed_42 : decode cX5_fed 42 = .ok (.i2d, 1) := dk_135 (dk_at dksX5_fed_1 19 rfl rfl)
theorem dX5_fed_43 : decode cX5_fed 43 = .ok (.ddiv, 1) := dk_111 (dk_at dksX5_fed_1 20 rfl rfl)
theorem dX5_fed_44 : decode cX5_fed 44 = .ok (.dreturn, 1) := dk_175 (dk_at dksX5_fed_1 21 rfl rfl)
abbrev cX5_digest : ByteArray := prog_8_method_85_code
def yX5_digest : MethodName := ⟨RX5, "digest", "()J"⟩
def dkwX5_digest_13 : List UInt8 := [173]
abbrev dktX5_digest_13 : List UInt8 := dkwX5_digest_13 ++ []
def dkwX5_digest_12 : List UInt8 := [162, 0, 20, 42, 42, 180, 0, 19, 27, 46, 133, 182, 0, 231, 132, 1, 1, 167, 255, 234, 42, 180, 0, 227]
abbrev dktX5_digest_12 : List UInt8 := dkwX5_digest_12 ++ dktX5_digest_13
def dkwX5_digest_11 : List UInt8 := [184, 0, 244, 182, 0, 231, 42, 42, 180, 0, 146, 133, 182, 0, 231, 3, 60, 27, 42, 180, 0, 146]
abbrev dktX5_digest_11 : List UInt8 := dkwX5_digest_11 ++ dktX5_digest_12
def dkwX5_digest_10 : List UInt8 := [182, 0, 213, 133, 182, 0, 231, 42, 42, 16, 7, 182, 0, 222, 133, 182, 0, 231, 42, 42, 182, 0, 240]
abbrev dktX5_digest_10 : List UInt8 := dkwX5_digest_10 ++ dktX5_digest_11
def dkwX5_digest_9 : List UInt8 := [42, 42, 16, 20, 27, 182, 0, 210, 133, 182, 0, 231, 132, 1, 1, 167, 255, 235, 42, 42, 16, 30]
abbrev dktX5_digest_9 : List UInt8 := dkwX5_digest_9 ++ dktX5_digest_10
def dkwX5_digest_8 : List UInt8 := [16, 10, 27, 182, 0, 207, 133, 182, 0, 231, 132, 1, 1, 167, 255, 236, 3, 60, 27, 16, 8, 162, 0, 21]
abbrev dktX5_digest_8 : List UInt8 := dkwX5_digest_8 ++ dktX5_digest_9
def dkwX5_digest_7 : List UInt8 := [182, 0, 231, 132, 2, 1, 167, 255, 237, 132, 1, 1, 167, 255, 218, 3, 60, 27, 7, 162, 0, 21, 42, 42]
abbrev dktX5_digest_7 : List UInt8 := dkwX5_digest_7 ++ dktX5_digest_8
def dkwX5_digest_6 : List UInt8 := [180, 0, 7, 16, 7, 46, 162, 0, 33, 3, 61, 28, 6, 162, 0, 20, 42, 42, 27, 28, 182, 0, 189, 133]
abbrev dktX5_digest_6 : List UInt8 := dkwX5_digest_6 ++ dktX5_digest_7
def dkwX5_digest_5 : List UInt8 := [180, 0, 7, 17, 0, 141, 27, 96, 46, 133, 182, 0, 231, 132, 1, 1, 167, 255, 225, 3, 60, 27, 42]
abbrev dktX5_digest_5 : List UInt8 := dkwX5_digest_5 ++ dktX5_digest_6
def dkwX5_digest_4 : List UInt8 := [132, 1, 1, 167, 255, 221, 3, 60, 27, 5, 42, 180, 0, 7, 16, 6, 46, 104, 162, 0, 24, 42, 42]
abbrev dktX5_digest_4 : List UInt8 := dkwX5_digest_4 ++ dktX5_digest_5
def dkwX5_digest_3 : List UInt8 := [61, 28, 7, 162, 0, 20, 42, 42, 27, 28, 182, 0, 186, 133, 182, 0, 231, 132, 2, 1, 167, 255, 237]
abbrev dktX5_digest_3 : List UInt8 := dkwX5_digest_3 ++ dktX5_digest_4
def dkwX5_digest_2 : List UInt8 := [182, 0, 231, 132, 1, 1, 167, 255, 237, 42, 182, 0, 237, 3, 60, 27, 42, 182, 0, 195, 162, 0, 33, 3]
abbrev dktX5_digest_2 : List UInt8 := dkwX5_digest_2 ++ dktX5_digest_3
def dkwX5_digest_1 : List UInt8 := [182, 0, 231, 132, 1, 1, 167, 255, 237, 3, 60, 27, 8, 162, 0, 20, 42, 42, 180, 0, 7, 27, 46, 133]
abbrev dktX5_digest_1 : List UInt8 := dkwX5_digest_1 ++ dktX5_digest_2
def dkwX5_digest_0 : List UInt8 := [42, 20, 0, 235, 181, 0, 227, 3, 60, 27, 16, 12, 162, 0, 19, 42, 42, 27, 182, 0, 198, 133]
abbrev dktX5_digest_0 : List UInt8 := dkwX5_digest_0 ++ dktX5_digest_1
theorem dksX5_digest_0 : cX5_digest.data.toList.drop 0 = dktX5_digest_0 := by decide +kernel
theorem dksX5_digest_1 : cX5_digest.data.toList.drop 22 = dktX5_digest_1 := dk_seg dksX5_digest_0 22 rfl rfl
theorem dksX5_digest_2 : cX5_digest.data.toList.drop 46 = dktX5_digest_2 := dk_seg dksX5_digest_1 24 rfl rfl
theorem dksX5_digest_3 : cX5_digest.data.toList.drop 70 = dktX5_digest_3 := dk_seg dksX5_digest_2 24 rfl rfl
theorem dksX5_digest_4 : cX5_digest.data.toList.drop 93 = dktX5_digest_4 := dk_seg dksX5_digest_3 23 rfl rfl
theorem dksX5_digest_5 : cX5_digest.data.toList.drop 116 = dktX5_digest_5 := dk_seg dksX5_digest_4 23 rfl rfl
theorem dksX5_digest_6 : cX5_digest.data.toList.drop 139 = dktX5_digest_6 := dk_seg dksX5_digest_5 23 rfl rfl
theorem dksX5_digest_7 : cX5_digest.data.toList.drop 163 = dktX5_digest_7 := dk_seg dksX5_digest_6 24 rfl rfl
theorem dksX5_digest_8 : cX5_digest.data.toList.drop 187 = dktX5_digest_8 := dk_seg dksX5_digest_7 24 rfl rfl
theorem dksX5_digest_9 : cX5_digest.data.toList.drop 211 = dktX5_digest_9 := dk_seg dksX5_digest_8 24 rfl rfl
theorem dksX5_digest_10 : cX5_digest.data.toList.drop 233 = dktX5_digest_10 := dk_seg dksX5_digest_9 22 rfl rfl
theorem dksX5_digest_11 : cX5_digest.data.toList.drop 256 = dktX5_digest_11 := dk_seg dksX5_digest_10 23 rfl rfl
theorem dksX5_digest_12 : cX5_digest.data.toList.drop 278 = dktX5_digest_12 := dk_seg dksX5_digest_11 22 rfl rfl
theorem dksX5_digest_13 : cX5_digest.data.toList.drop 302 = dktX5_digest_13 := dk_seg dksX5_digest_12 24 rfl rfl
theorem dX5_digest_0 : decode cX5_digest 0 = .ok (.aload_n 0, 1) := dk_42 (dk_at dksX5_digest_0 0 rfl rfl)
theorem dX5_digest_1 : decode cX5_digest 1 = .ok (.ldc2_w 235, 3) := dk_20 0 235 (dk_at dksX5_digest_0 1 rfl rfl)
theorem dX5_digest_4 : decode cX5_digest 4 = .ok (.putfield 227, 3) := dk_181 0 227 (dk_at dksX5_digest_0 4 rfl rfl)
theorem dX5_digest_7 : decode cX5_digest 7 = .ok (.iconst 0, 1) := dk_3 (dk_at dksX5_digest_0 7 rfl rfl)
theorem dX5_digest_8 : decode cX5_digest 8 = .ok (.istore_n 1, 1) := dk_60 (dk_at dksX5_digest_0 8 rfl rfl)
theorem dX5_digest_9 : decode cX5_digest 9 = .ok (.iload_n 1, 1) := dk_27 (dk_at dksX5_digest_0 9 rfl rfl)
theorem dX5_digest_10 : decode cX5_digest 10 = .ok (.bipush 12, 2) := dk_16 12 (dk_at dksX5_digest_0 10 rfl rfl)
theorem dX5_digest_12 : decode cX5_digest 12 = .ok (.if_icmp .ge 19, 3) := dk_162 0 19 (dk_at dksX5_digest_0 12 rfl rfl)
theorem dX5_digest_15 : decode cX5_digest 15 = .ok (.aload_n 0, 1) := dk_42 (dk_at dksX5_digest_0 15 rfl rfl)
theorem dX5_digest_16 : decode cX5_digest 16 = .ok (.aload_n 0, 1) := dk_42 (dk_at dksX5_digest_0 16 rfl rfl)
theorem dX5_digest_17 : decode cX5_digest 17 = .ok (.iload_n 1, 1) := dk_27 (dk_at dksX5_digest_0 17 rfl rfl)
theorem dX5_digest_18 : decode cX5_digest 18 = .ok (.invokevirtual 198, 3) := dk_182 0 198 (dk_at dksX5_digest_0 18 rfl rfl)
theorem dX5_digest_21 : decode cX5_digest 21 = .ok (.i2l, 1) := dk_133 (dk_at dksX5_digest_0 21 rfl rfl)
theorem dX5_digest_22 : decode cX5_digest 22 = .ok (.invokevirtual 231, 3) := dk_182 0 231 (dk_at dksX5_digest_1 0 rfl rfl)
theorem dX5_digest_25 : decode cX5_digest 25 = .ok (.iinc 1 1, 3) := dk_132 1 1 (dk_at dksX5_digest_1 3 rfl rfl)
theorem dX5_digest_28 : decode cX5_digest 28 = .ok (.goto (-19), 3) := dk_167 255 237 (dk_at dksX5_digest_1 6 rfl rfl)
theorem dX5_digest_31 : decode cX5_digest 31 = .ok (.iconst 0, 1) := dk_3 (dk_at dksX5_digest_1 9 rfl rfl)
theorem dX5_digest_32 : decode cX5_digest 32 = .ok (.istore_n 1, 1) := dk_60 (dk_at dksX5_digest_1 10 rfl rfl)
theorem dX5_digest_33 : decode cX5_digest 33 = .ok (.iload_n 1, 1) := dk_27 (dk_at dksX5_digest_1 11 rfl rfl)
theorem dX5_digest_34 : decode cX5_digest 34 = .ok (.iconst 5, 1) := dk_8 (dk_at dksX5_digest_1 12 rfl rfl)
theorem dX5_digest_35 : decode cX5_digest 35 = .ok (.if_icmp .ge 20, 3) := dk_162 0 20 (dk_at dksX5_digest_1 13 rfl rfl)
theorem dX5_digest_38 : decode cX5_digest 38 = .ok (.aload_n 0, 1) := dk_42 (dk_at dksX5_digest_1 16 rfl rfl)
theorem dX5_digest_39 : decode cX5_digest 39 = .ok (.aload_n 0, 1) := dk_42 (dk_at dksX5_digest_1 17 rfl rfl)
theorem dX5_digest_40 : decode cX5_digest 40 = .ok (.getfield 7, 3) := dk_180 0 7 (dk_at dksX5_digest_1 18 rfl rfl)
theorem dX5_digest_43 : decode cX5_digest 43 = .ok (.iload_n 1, 1) := dk_27 (dk_at dksX5_digest_1 21 rfl rfl)
theorem dX5_digest_44 : decode cX5_digest 44 = .ok (.iaload, 1) := dk_46 (dk_at dksX5_digest_1 22 rfl rfl)
theorem dX5_digest_45 : decode cX5_digest 45 = .ok (.i2l, 1) := dk_133 (dk_at dksX5_digest_1 23 rfl rfl)
theorem dX5_digest_46 : decode cX5_digest 46 = .ok (.invokevirtual 231, 3) := dk_182 0 231 (dk_at dksX5_digest_2 0 rfl rfl)
theorem dX5_digest_49 : decode cX5_digest 49 = .ok (.iinc 1 1, 3) := dk_132 1 1 (dk_at dksX5_digest_2 3 rfl rfl)
theorem dX5_digest_52 : decode cX5_digest 52 = .ok (.goto (-19), 3) := dk_167 255 237 (dk_at dksX5_digest_2 6 rfl rfl)
theorem dX5_digest_55 : decode cX5_digest 55 = .ok (.aload_n 0, 1) := dk_42 (dk_at dksX5_digest_2 9 rfl rfl)
theorem dX5_digest_56 : decode cX5_digest 56 = .ok (.invokevirtual 237, 3) := dk_182 0 237 (dk_at dksX5_digest_2 10 rfl rfl)
theorem dX5_digest_59 : decode cX5_digest 59 = .ok (.iconst 0, 1) := dk_3 (dk_at dksX5_digest_2 13 rfl rfl)
theorem dX5_digest_60 : decode cX5_digest 60 = .ok (.istore_n 1, 1) := dk_60 (dk_at dksX5_digest_2 14 rfl rfl)
theorem dX5_digest_61 : decode cX5_digest 61 = .ok (.iload_n 1, 1) := dk_27 (dk_at dksX5_digest_2 15 rfl rfl)
theorem dX5_digest_62 : decode cX5_digest 62 = .ok (.aload_n 0, 1) := dk_42 (dk_at dksX5_digest_2 16 rfl rfl)
theorem dX5_digest_63 : decode cX5_digest 63 = .ok (.invokevirtual 195, 3) := dk_182 0 195 (dk_at dksX5_digest_2 17 rfl rfl)
theorem dX5_digest_66 : decode cX5_digest 66 = .ok (.if_icmp .ge 33, 3) := dk_162 0 33 (dk_at dksX5_digest_2 20 rfl rfl)
theorem dX5_digest_69 : decode cX5_digest 69 = .ok (.iconst 0, 1) := dk_3 (dk_at dksX5_digest_2 23 rfl rfl)
theorem dX5_digest_70 : decode cX5_digest 70 = .ok (.istore_n 2, 1) := dk_61 (dk_at dksX5_digest_3 0 rfl rfl)
theorem dX5_digest_71 : decode cX5_digest 71 = .ok (.iload_n 2, 1) := dk_28 (dk_at dksX5_digest_3 1 rfl rfl)
theorem dX5_digest_72 : decode cX5_digest 72 = .ok (.iconst 4, 1) := dk_7 (dk_at dksX5_digest_3 2 rfl rfl)
theorem dX5_digest_73 : decode cX5_digest 73 = .ok (.if_icmp .ge 20, 3) := dk_162 0 20 (dk_at dksX5_digest_3 3 rfl rfl)
theorem dX5_digest_76 : decode cX5_digest 76 = .ok (.aload_n 0, 1) := dk_42 (dk_at dksX5_digest_3 6 rfl rfl)
theorem dX5_digest_77 : decode cX5_digest 77 = .ok (.aload_n 0, 1) := dk_42 (dk_at dksX5_digest_3 7 rfl rfl)
theorem dX5_digest_78 : decode cX5_digest 78 = .ok (.iload_n 1, 1) := dk_27 (dk_at dksX5_digest_3 8 rfl rfl)
theorem dX5_digest_79 : decode cX5_digest 79 = .ok (.iload_n 2, 1) := dk_28 (dk_at dksX5_digest_3 9 rfl rfl)
theorem dX5_digest_80 : decode cX5_digest 80 = .ok (.invokevirtual 186, 3) := dk_182 0 186 (dk_at dksX5_digest_3 10 rfl rfl)
theorem dX5_digest_83 : decode cX5_digest 83 = .ok (.i2l, 1) := dk_133 (dk_at dksX5_digest_3 13 rfl rfl)
theorem dX5_digest_84 : decode cX5_digest 84 = .ok (.invokevirtual 231, 3) := dk_182 0 231 (dk_at dksX5_digest_3 14 rfl rfl)
theorem dX5_digest_87 : decode cX5_digest 87 = .ok (.iinc 2 1, 3) := dk_132 2 1 (dk_at dksX5_digest_3 17 rfl rfl)
theorem dX5_digest_90 : decode cX5_digest 90 = .ok (.goto (-19), 3) := dk_167 255 237 (dk_at dksX5_digest_3 20 rfl rfl)
theorem dX5_digest_93 : decode cX5_digest 93 = .ok (.iinc 1 1, 3) := dk_132 1 1 (dk_at dksX5_digest_4 0 rfl rfl)
theorem dX5_digest_96 : decode cX5_digest 96 = .ok (.goto (-35), 3) := dk_167 255 221 (dk_at dksX5_digest_4 3 rfl rfl)
theorem dX5_digest_99 : decode cX5_digest 99 = .ok (.iconst 0, 1) := dk_3 (dk_at dksX5_digest_4 6 rfl rfl)
theorem dX5_digest_100 : decode cX5_digest 100 = .ok (.istore_n 1, 1) := dk_60 (dk_at dksX5_digest_4 7 rfl rfl)
theorem dX5_digest_101 : decode cX5_digest 101 = .ok (.iload_n 1, 1) := dk_27 (dk_at dksX5_digest_4 8 rfl rfl)
theorem dX5_digest_102 : decode cX5_digest 102 = .ok (.iconst 2, 1) := dk_5 (dk_at dksX5_digest_4 9 rfl rfl)
theorem dX5_digest_103 : decode cX5_digest 103 = .ok (.aload_n 0, 1) := dk_42 (dk_at dksX5_digest_4 10 rfl rfl)
theorem dX5_digest_104 : decode cX5_digest 104 = .ok (.getfield 7, 3) := dk_180 0 7 (dk_at dksX5_digest_4 11 rfl rfl)
theorem dX5_digest_107 : decode cX5_digest 107 = .ok (.bipush 6, 2) := dk_16 6 (dk_at dksX5_digest_4 14 rfl rfl)
theorem dX5_digest_109 : decode cX5_digest 109 = .ok (.iaload, 1) := dk_46 (dk_at dksX5_digest_4 16 rfl rfl)
theorem dX5_digest_110 : decode cX5_digest 110 = .ok (.imul, 1) := dk_104 (dk_at dksX5_digest_4 17 rfl rfl)
theorem dX5_digest_111 : decode cX5_digest 111 = .ok (.if_icmp .ge 24, 3) := dk_162 0 24 (dk_at dksX5_digest_4 18 rfl rfl)
theorem dX5_digest_114 : decode cX5_digest 114 = .ok (.aload_n 0, 1) := dk_42 (dk_at dksX5_digest_4 21 rfl rfl)
theorem dX5_digest_115 : decode cX5_digest 115 = .ok (.aload_n 0, 1) := dk_42 (dk_at dksX5_digest_4 22 rfl rfl)
theorem dX5_digest_116 : decode cX5_digest 116 = .ok (.getfield 7, 3) := dk_180 0 7 (dk_at dksX5_digest_5 0 rfl rfl)
theorem dX5_digest_119 : decode cX5_digest 119 = .ok (.sipush 141, 3) := dk_17 0 141 (dk_at dksX5_digest_5 3 rfl rfl)
theorem dX5_digest_122 : decode cX5_digest 122 = .ok (.iload_n 1, 1) := dk_27 (dk_at dksX5_digest_5 6 rfl rfl)
theorem dX5_digest_123 : decode cX5_digest 123 = .ok (.iadd, 1) := dk_96 (dk_at dksX5_digest_5 7 rfl rfl)
theorem dX5_digest_124 : decode cX5_digest 124 = .ok (.iaload, 1) := dk_46 (dk_at dksX5_digest_5 8 rfl rfl)
theorem dX5_digest_125 : decode cX5_digest 125 = .ok (.i2l, 1) := dk_133 (dk_at dksX5_digest_5 9 rfl rfl)
theorem dX5_digest_126 : decode cX5_digest 126 = .ok (.invokevirtual 231, 3) := dk_182 0 231 (dk_at dksX5_digest_5 10 rfl rfl)
theorem dX5_digest_129 : decode cX5_digest 129 = .ok (.iinc 1 1, 3) := dk_132 1 1 (dk_at dksX5_digest_5 13 rfl rfl)
theorem dX5_digest_132 : decode cX5_digest 132 = .ok (.goto (-31), 3) := dk_167 255 225 (dk_at dksX5_digest_5 16 rfl rfl)
theorem dX5_digest_135 : decode cX5_digest 135 = .ok (.iconst 0, 1) := dk_3 (dk_at dksX5_digest_5 19 rfl rfl)
theorem dX5_digest_136 : decode cX5_digest 136 = .ok (.istore_n 1, 1) := dk_60 (dk_at dksX5_digest_5 20 rfl rfl)
theorem dX5_digest_137 : decode cX5_digest 137 = .ok (.iload_n 1, 1) := dk_27 (dk_at dksX5_digest_5 21 rfl rfl)
theorem dX5_digest_138 : decode cX5_digest 138 = .ok (.aload_n 0, 1) := dk_42 (dk_at dksX5_digest_5 22 rfl rfl)
theorem dX5_digest_139 : decode cX5_digest 139 = .ok (.getfield 7, 3) := dk_180 0 7 (dk_at dksX5_digest_6 0 rfl rfl)
theorem dX5_digest_142 : decode cX5_digest 142 = .ok (.bipush 7, 2) := dk_16 7 (dk_at dksX5_digest_6 3 rfl rfl)
theorem dX5_digest_144 : decode cX5_digest 144 = .ok (.iaload, 1) := dk_46 (dk_at dksX5_digest_6 5 rfl rfl)
theorem dX5_digest_145 : decode cX5_digest 145 = .ok (.if_icmp .ge 33, 3) := dk_162 0 33 (dk_at dksX5_digest_6 6 rfl rfl)
theorem dX5_digest_148 : decode cX5_digest 148 = .ok (.iconst 0, 1) := dk_3 (dk_at dksX5_digest_6 9 rfl rfl)
theorem dX5_digest_149 : decode cX5_digest 149 = .ok (.istore_n 2, 1) := dk_61 (dk_at dksX5_digest_6 10 rfl rfl)
theorem dX5_digest_150 : decode cX5_digest 150 = .ok (.iload_n 2, 1) := dk_28 (dk_at dksX5_digest_6 11 rfl rfl)
theorem dX5_digest_151 : decode cX5_digest 151 = .ok (.iconst 3, 1) := dk_6 (dk_at dksX5_digest_6 12 rfl rfl)
theorem dX5_digest_152 : decode cX5_digest 152 = .ok (.if_icmp .ge 20, 3) := dk_162 0 20 (dk_at dksX5_digest_6 13 rfl rfl)
theorem dX5_digest_155 : decode cX5_digest 155 = .ok (.aload_n 0, 1) := dk_42 (dk_at dksX5_digest_6 16 rfl rfl)
theorem dX5_digest_156 : decode cX5_digest 156 = .ok (.aload_n 0, 1) := dk_42 (dk_at dksX5_digest_6 17 rfl rfl)
theorem dX5_digest_157 : decode cX5_digest 157 = .ok (.iload_n 1, 1) := dk_27 (dk_at dksX5_digest_6 18 rfl rfl)
theorem dX5_digest_158 : decode cX5_digest 158 = .ok (.iload_n 2, 1) := dk_28 (dk_at dksX5_digest_6 19 rfl rfl)
theorem dX5_digest_159 : decode cX5_digest 159 = .ok (.invokevirtual 189, 3) := dk_182 0 189 (dk_at dksX5_digest_6 20 rfl rfl)
theorem dX5_digest_162 : decode cX5_digest 162 = .ok (.i2l, 1) := dk_133 (dk_at dksX5_digest_6 23 rfl rfl)
theorem dX5_digest_163 : decode cX5_digest 163 = .ok (.invokevirtual 231, 3) := dk_182 0 231 (dk_at dksX5_digest_7 0 rfl rfl)
theorem dX5_digest_166 : decode cX5_digest 166 = .ok (.iinc 2 1, 3) := dk_132 2 1 (dk_at dksX5_digest_7 3 rfl rfl)
theorem dX5_digest_169 : decode cX5_digest 169 = .ok (.goto (-19), 3) := dk_167 255 237 (dk_at dksX5_digest_7 6 rfl rfl)
theorem dX5_digest_172 : decode cX5_digest 172 = .ok (.iinc 1 1, 3) := dk_132 1 1 (dk_at dksX5_digest_7 9 rfl rfl)
theorem dX5_digest_175 : decode cX5_digest 175 = .ok (.goto (-38), 3) := dk_167 255 218 (dk_at dksX5_digest_7 12 rfl rfl)
theorem dX5_digest_178 : decode cX5_digest 178 = .ok (.iconst 0, 1) := dk_3 (dk_at dksX5_digest_7 15 rfl rfl)
theorem dX5_digest_179 : decode cX5_digest 179 = .ok (.istore_n 1, 1) := dk_60 (dk_at dksX5_digest_7 16 rfl rfl)
theorem dX5_digest_180 : decode cX5_digest 180 = .ok (.iload_n 1, 1) := dk_27 (dk_at dksX5_digest_7 17 rfl rfl)
theorem dX5_digest_181 : decode cX5_digest 181 = .ok (.iconst 4, 1) := dk_7 (dk_at dksX5_digest_7 18 rfl rfl)
theorem dX5_digest_182 : decode cX5_digest 182 = .ok (.if_icmp .ge 21, 3) := dk_162 0 21 (dk_at dksX5_digest_7 19 rfl rfl)
theorem dX5_digest_185 : decode cX5_digest 185 = .ok (.aload_n 0, 1) := dk_42 (dk_at dksX5_digest_7 22 rfl rfl)
theorem dX5_digest_186 : decode cX5_digest 186 = .ok (.aload_n 0, 1) := dk_42 (dk_at dksX5_digest_7 23 rfl rfl)
theorem dX5_digest_187 : decode cX5_digest 187 = .ok (.bipush 10, 2) := dk_16 10 (dk_at dksX5_digest_8 0 rfl rfl)
theorem dX5_digest_189 : decode cX5_digest 189 = .ok (.iload_n 1, 1) := dk_27 (dk_at dksX5_digest_8 2 rfl rfl)
theorem dX5_digest_190 : decode cX5_digest 190 = .ok (.invokevirtual 207, 3) := dk_182 0 207 (dk_at dksX5_digest_8 3 rfl rfl)
theorem dX5_digest_193 : decode cX5_digest 193 = .ok (.i2l, 1) := dk_133 (dk_at dksX5_digest_8 6 rfl rfl)
theorem dX5_digest_194 : decode cX5_digest 194 = .ok (.invokevirtual 231, 3) := dk_182 0 231 (dk_at dksX5_digest_8 7 rfl rfl)
theorem dX5_digest_197 : decode cX5_digest 197 = .ok (.iinc 1 1, 3) := dk_132 1 1 (dk_at dksX5_digest_8 10 rfl rfl)
theorem dX5_digest_200 : decode cX5_digest 200 = .ok (.goto (-20), 3) := dk_167 255 236 (dk_at dksX5_digest_8 13 rfl rfl)
theorem dX5_digest_203 : decode cX5_digest 203 = .ok (.iconst 0, 1) := dk_3 (dk_at dksX5_digest_8 16 rfl rfl)
theorem dX5_digest_204 : decode cX5_digest 204 = .ok (.istore_n 1, 1) := dk_60 (dk_at dksX5_digest_8 17 rfl rfl)
theorem dX5_digest_205 : decode cX5_digest 205 = .ok (.iload_n 1, 1) := dk_27 (dk_at dksX5_digest_8 18 rfl rfl)
theorem dX5_digest_206 : decode cX5_digest 206 = .ok (.bipush 8, 2) := dk_16 8 (dk_at dksX5_digest_8 19 rfl rfl)
theorem dX5_digest_208 : decode cX5_digest 208 = .ok (.if_icmp .ge 21, 3) := dk_162 0 21 (dk_at dksX5_digest_8 21 rfl rfl)
theorem dX5_digest_211 : decode cX5_digest 211 = .ok (.aload_n 0, 1) := dk_42 (dk_at dksX5_digest_9 0 rfl rfl)
theorem dX5_digest_212 : decode cX5_digest 212 = .ok (.aload_n 0, 1) := dk_42 (dk_at dksX5_digest_9 1 rfl rfl)
theorem dX5_digest_213 : decode cX5_digest 213 = .ok (.bipush 20, 2) := dk_16 20 (dk_at dksX5_digest_9 2 rfl rfl)
theorem dX5_digest_215 : decode cX5_digest 215 = .ok (.iload_n 1, 1) := dk_27 (dk_at dksX5_digest_9 4 rfl rfl)
theorem dX5_digest_216 : decode cX5_digest 216 = .ok (.invokevirtual 210, 3) := dk_182 0 210 (dk_at dksX5_digest_9 5 rfl rfl)
theorem dX5_digest_219 : decode cX5_digest 219 = .ok (.i2l, 1) := dk_133 (dk_at dksX5_digest_9 8 rfl rfl)
theorem dX5_digest_220 : decode cX5_digest 220 = .ok (.invokevirtual 231, 3) := dk_182 0 231 (dk_at dksX5_digest_9 9 rfl rfl)
theorem dX5_digest_223 : decode cX5_digest 223 = .ok (.iinc 1 1, 3) := dk_132 1 1 (dk_at dksX5_digest_9 12 rfl rfl)
theorem dX5_digest_226 : decode cX5_digest 226 = .ok (.goto (-21), 3) := dk_167 255 235 (dk_at dksX5_digest_9 15 rfl rfl)
theorem dX5_digest_229 : decode cX5_digest 229 = .ok (.aload_n 0, 1) := dk_42 (dk_at dksX5_digest_9 18 rfl rfl)
theorem dX5_digest_230 : decode cX5_digest 230 = .ok (.aload_n 0, 1) := dk_42 (dk_at dksX5_digest_9 19 rfl rfl)
theorem dX5_digest_231 : decode cX5_digest 231 = .ok (.bipush 30, 2) := dk_16 30 (dk_at dksX5_digest_9 20 rfl rfl)
theorem dX5_digest_233 : decode cX5_digest 233 = .ok (.invokevirtual 213, 3) := dk_182 0 213 (dk_at dksX5_digest_10 0 rfl rfl)
theorem dX5_digest_236 : decode cX5_digest 236 = .ok (.i2l, 1) := dk_133 (dk_at dksX5_digest_10 3 rfl rfl)
theorem dX5_digest_237 : decode cX5_digest 237 = .ok (.invokevirtual 231, 3) := dk_182 0 231 (dk_at dksX5_digest_10 4 rfl rfl)
theorem dX5_digest_240 : decode cX5_digest 240 = .ok (.aload_n 0, 1) := dk_42 (dk_at dksX5_digest_10 7 rfl rfl)
theorem dX5_digest_241 : decode cX5_digest 241 = .ok (.aload_n 0, 1) := dk_42 (dk_at dksX5_digest_10 8 rfl rfl)
theorem dX5_digest_242 : decode cX5_digest 242 = .ok (.bipush 7, 2) := dk_16 7 (dk_at dksX5_digest_10 9 rfl rfl)
theorem dX5_digest_244 : decode cX5_digest 244 = .ok (.invokevirtual 222, 3) := dk_182 0 222 (dk_at dksX5_digest_10 11 rfl rfl)
theorem dX5_digest_247 : decode cX5_digest 247 = .ok (.i2l, 1) := dk_133 (dk_at dksX5_digest_10 14 rfl rfl)
theorem dX5_digest_248 : decode cX5_digest 248 = .ok (.invokevirtual 231, 3) := dk_182 0 231 (dk_at dksX5_digest_10 15 rfl rfl)
theorem dX5_digest_251 : decode cX5_digest 251 = .ok (.aload_n 0, 1) := dk_42 (dk_at dksX5_digest_10 18 rfl rfl)
theorem dX5_digest_252 : decode cX5_digest 252 = .ok (.aload_n 0, 1) := dk_42 (dk_at dksX5_digest_10 19 rfl rfl)
theorem dX5_digest_253 : decode cX5_digest 253 = .ok (.invokevirtual 240, 3) := dk_182 0 240 (dk_at dksX5_digest_10 20 rfl rfl)
theorem dX5_digest_256 : decode cX5_digest 256 = .ok (.invokestatic 244, 3) := dk_184 0 244 (dk_at dksX5_digest_11 0 rfl rfl)
theorem dX5_digest_259 : decode cX5_digest 259 = .ok (.invokevirtual 231, 3) := dk_182 0 231 (dk_at dksX5_digest_11 3 rfl rfl)
theorem dX5_digest_262 : decode cX5_digest 262 = .ok (.aload_n 0, 1) := dk_42 (dk_at dksX5_digest_11 6 rfl rfl)
theorem dX5_digest_263 : decode cX5_digest 263 = .ok (.aload_n 0, 1) := dk_42 (dk_at dksX5_digest_11 7 rfl rfl)
theorem dX5_digest_264 : decode cX5_digest 264 = .ok (.getfield 146, 3) := dk_180 0 146 (dk_at dksX5_digest_11 8 rfl rfl)
theorem dX5_digest_267 : decode cX5_digest 267 = .ok (.i2l, 1) := dk_133 (dk_at dksX5_digest_11 11 rfl rfl)
theorem dX5_digest_268 : decode cX5_digest 268 = .ok (.invokevirtual 231, 3) := dk_182 0 231 (dk_at dksX5_digest_11 12 rfl rfl)
theorem dX5_digest_271 : decode cX5_digest 271 = .ok (.iconst 0, 1) := dk_3 (dk_at dksX5_digest_11 15 rfl rfl)
theorem dX5_digest_272 : decode cX5_digest 272 = .ok (.istore_n 1, 1) := dk_60 (dk_at dksX5_digest_11 16 rfl rfl)
theorem dX5_digest_273 : decode cX5_digest 273 = .ok (.iload_n 1, 1) := dk_27 (dk_at dksX5_digest_11 17 rfl rfl)
theorem dX5_digest_274 : decode cX5_digest 274 = .ok (.aload_n 0, 1) := dk_42 (dk_at dksX5_digest_11 18 rfl rfl)
theorem dX5_digest_275 : decode cX5_digest 275 = .ok (.getfield 146, 3) := dk_180 0 146 (dk_at dksX5_digest_11 19 rfl rfl)
theorem dX5_digest_278 : decode cX5_digest 278 = .ok (.if_icmp .ge 20, 3) := dk_162 0 20 (dk_at dksX5_digest_12 0 rfl rfl)
theorem dX5_digest_281 : decode cX5_digest 281 = .ok (.aload_n 0, 1) := dk_42 (dk_at dksX5_digest_12 3 rfl rfl)
theorem dX5_digest_282 : decode cX5_digest 282 = .ok (.aload_n 0, 1) := dk_42 (dk_at dksX5_digest_12 4 rfl rfl)
theorem dX5_digest_283 : decode cX5_digest 283 = .ok (.getfield 19, 3) := dk_180 0 19 (dk_at dksX5_digest_12 5 rfl rfl)
theorem dX5_digest_286 : decode cX5_digest 286 = .ok (.iload_n 1, 1) := dk_27 (dk_at dksX5_digest_12 8 rfl rfl)
theorem dX5_digest_287 : decode cX5_digest 287 = .ok (.iaload, 1) := dk_46 (dk_at dksX5_digest_12 9 rfl rfl)
theorem dX5_digest_288 : decode cX5_digest 288 = .ok (.i2l, 1) := dk_133 (dk_at dksX5_digest_12 10 rfl rfl)
theorem dX5_digest_289 : decode cX5_digest 289 = .ok (.invokevirtual 231, 3) := dk_182 0 231 (dk_at dksX5_digest_12 11 rfl rfl)
theorem dX5_digest_292 : decode cX5_digest 292 = .ok (.iinc 1 1, 3) := dk_132 1 1 (dk_at dksX5_digest_12 14 rfl rfl)
theorem dX5_digest_295 : decode cX5_digest 295 = .ok (.goto (-22), 3) := dk_167 255 234 (dk_at dksX5_digest_12 17 rfl rfl)
theorem dX5_digest_298 : decode cX5_digest 298 = .ok (.aload_n 0, 1) := dk_42 (dk_at dksX5_digest_12 20 rfl rfl)
theorem dX5_digest_299 : decode cX5_digest 299 = .ok (.getfield 227, 3) := dk_180 0 227 (dk_at dksX5_digest_12 21 rfl rfl)
theorem dX5_digest_302 : decode cX5_digest 302 = .ok (.lreturn, 1) := dk_173 (dk_at dksX5_digest_13 0 rfl rfl)
abbrev cX5_hashes : ByteArray := prog_8_method_83_code
def yX5_hashes : MethodName := ⟨RX5, "hashes", "(J)V"⟩
def dkwX5_hashes_0 : List UInt8 := [42, 20, 0, 225, 42, 180, 0, 227, 105, 31, 97, 181, 0, 227, 177]
abbrev dktX5_hashes_0 : List UInt8 := dkwX5_hashes_0 ++ []
theorem dksX5_hashes_0 : cX5_hashes.data.toList.drop 0 = dktX5_hashes_0 := by decide +kernel
theorem dX5_hashes_0 : decode cX5_hashes 0 = .ok (.aload_n 0, 1) := dk_42 (dk_at dksX5_hashes_0 0 rfl rfl)
theorem dX5_hashes_1 : decode cX5_hashes 1 = .ok (.ldc2_w 225, 3) := dk_20 0 225 (dk_at dksX5_hashes_0 1 rfl rfl)
theorem dX5_hashes_4 : decode cX5_hashes 4 = .ok (.aload_n 0, 1) := dk_42 (dk_at dksX5_hashes_0 4 rfl rfl)
theorem dX5_hashes_5 : decode cX5_hashes 5 = .ok (.getfield 227, 3) := dk_180 0 227 (dk_at dksX5_hashes_0 5 rfl rfl)
theorem dX5_hashes_8 : decode cX5_hashes 8 = .ok (.lmul, 1) := dk_105 (dk_at dksX5_hashes_0 8 rfl rfl)
theorem dX5_hashes_9 : decode cX5_hashes 9 = .ok (.lload_n 1, 1) := dk_31 (dk_at dksX5_hashes_0 9 rfl rfl)
theorem dX5_hashes_10 : decode cX5_hashes 10 = .ok (.ladd, 1) := dk_97 (dk_at dksX5_hashes_0 10 rfl rfl)
theorem dX5_hashes_11 : decode cX5_hashes 11 = .ok (.putfield 227, 3) := dk_181 0 227 (dk_at dksX5_hashes_0 11 rfl rfl)
theorem dX5_hashes_14 : decode cX5_hashes 14 = .ok (.return_, 1) := dk_177 (dk_at dksX5_hashes_0 14 rfl rfl)
abbrev cX5_hashesPlaces : ByteArray := prog_8_method_84_code
def yX5_hashesPlaces : MethodName := ⟨RX5, "hashesPlaces", "()V"⟩
def dkwX5_hashesPlaces_2 : List UInt8 := [167, 255, 212, 177]
abbrev dktX5_hashesPlaces_2 : List UInt8 := dkwX5_hashesPlaces_2 ++ []
def dkwX5_hashesPlaces_1 : List UInt8 := [182, 0, 231, 132, 2, 1, 167, 255, 236, 42, 42, 27, 182, 0, 219, 133, 182, 0, 231, 132, 1, 1]
abbrev dktX5_hashesPlaces_1 : List UInt8 := dkwX5_hashesPlaces_1 ++ dktX5_hashesPlaces_2
def dkwX5_hashesPlaces_0 : List UInt8 := [3, 60, 27, 16, 8, 162, 0, 44, 3, 61, 28, 16, 10, 162, 0, 20, 42, 42, 27, 28, 182, 0, 180, 133]
abbrev dktX5_hashesPlaces_0 : List UInt8 := dkwX5_hashesPlaces_0 ++ dktX5_hashesPlaces_1
theorem dksX5_hashesPlaces_0 : cX5_hashesPlaces.data.toList.drop 0 = dktX5_hashesPlaces_0 := by decide +kernel
theorem dksX5_hashesPlaces_1 : cX5_hashesPlaces.data.toList.drop 24 = dktX5_hashesPlaces_1 := dk_seg dksX5_hashesPlaces_0 24 rfl rfl
theorem dksX5_hashesPlaces_2 : cX5_hashesPlaces.data.toList.drop 46 = dktX5_hashesPlaces_2 := dk_seg dksX5_hashesPlaces_1 22 rfl rfl
theorem dX5_hashesPlaces_0 : decode cX5_hashesPlaces 0 = .ok (.iconst 0, 1) := dk_3 (dk_at dksX5_hashesPlaces_0 0 rfl rfl)
theorem dX5_hashesPlaces_1 : decode cX5_hashesPlaces 1 = .ok (.istore_n 1, 1) := dk_60 (dk_at dksX5_hashesPlaces_0 1 rfl rfl)
theorem dX5_hashesPlaces_2 : decode cX5_hashesPlaces 2 = .ok (.iload_n 1, 1) := dk_27 (dk_at dksX5_hashesPlaces_0 2 rfl rfl)
theorem dX5_hashesPlaces_3 : decode cX5_hashesPlaces 3 = .ok (.bipush 8, 2) := dk_16 8 (dk_at dksX5_hashesPlaces_0 3 rfl rfl)
theorem dX5_hashesPlaces_5 : decode cX5_hashesPlaces 5 = .ok (.if_icmp .ge 44, 3) := dk_162 0 44 (dk_at dksX5_hashesPlaces_0 5 rfl rfl)
theorem dX5_hashesPlaces_8 : decode cX5_hashesPlaces 8 = .ok (.iconst 0, 1) := dk_3 (dk_at dksX5_hashesPlaces_0 8 rfl rfl)
theorem dX5_hashesPlaces_9 : decode cX5_hashesPlaces 9 = .ok (.istore_n 2, 1) := dk_61 (dk_at dksX5_hashesPlaces_0 9 rfl rfl)
theorem dX5_hashesPlaces_10 : decode cX5_hashesPlaces 10 = .ok (.iload_n 2, 1) := dk_28 (dk_at dksX5_hashesPlaces_0 10 rfl rfl)
theorem dX5_hashesPlaces_11 : decode cX5_hashesPlaces 11 = .ok (.bipush 10, 2) := dk_16 10 (dk_at dksX5_hashesPlaces_0 11 rfl rfl)
theorem dX5_hashesPlaces_13 : decode cX5_hashesPlaces 13 = .ok (.if_icmp .ge 20, 3) := dk_162 0 20 (dk_at dksX5_hashesPlaces_0 13 rfl rfl)
theorem dX5_hashesPlaces_16 : decode cX5_hashesPlaces 16 = .ok (.aload_n 0, 1) := dk_42 (dk_at dksX5_hashesPlaces_0 16 rfl rfl)
theorem dX5_hashesPlaces_17 : decode cX5_hashesPlaces 17 = .ok (.aload_n 0, 1) := dk_42 (dk_at dksX5_hashesPlaces_0 17 rfl rfl)
theorem dX5_hashesPlaces_18 : decode cX5_hashesPlaces 18 = .ok (.iload_n 1, 1) := dk_27 (dk_at dksX5_hashesPlaces_0 18 rfl rfl)
theorem dX5_hashesPlaces_19 : decode cX5_hashesPlaces 19 = .ok (.iload_n 2, 1) := dk_28 (dk_at dksX5_hashesPlaces_0 19 rfl rfl)
theorem dX5_hashesPlaces_20 : decode cX5_hashesPlaces 20 = .ok (.invokevirtual 180, 3) := dk_182 0 180 (dk_at dksX5_hashesPlaces_0 20 rfl rfl)
theorem dX5_hashesPlaces_23 : decode cX5_hashesPlaces 23 = .ok (.i2l, 1) := dk_133 (dk_at dksX5_hashesPlaces_0 23 rfl rfl)
theorem dX5_hashesPlaces_24 : decode cX5_hashesPlaces 24 = .ok (.invokevirtual 231, 3) := dk_182 0 231 (dk_at dksX5_hashesPlaces_1 0 rfl rfl)
theorem dX5_hashesPlaces_27 : decode cX5_hashesPlaces 27 = .ok (.iinc 2 1, 3) := dk_132 2 1 (dk_at dksX5_hashesPlaces_1 3 rfl rfl)
theorem dX5_hashesPlaces_30 : decode cX5_hashesPlaces 30 = .ok (.goto (-20), 3) := dk_167 255 236 (dk_at dksX5_hashesPlaces_1 6 rfl rfl)
theorem dX5_hashesPlaces_33 : decode cX5_hashesPlaces 33 = .ok (.aload_n 0, 1) := dk_42 (dk_at dksX5_hashesPlaces_1 9 rfl rfl)
theorem dX5_hashesPlaces_34 : decode cX5_hashesPlaces 34 = .ok (.aload_n 0, 1) := dk_42 (dk_at dksX5_hashesPlaces_1 10 rfl rfl)
theorem dX5_hashesPlaces_35 : decode cX5_hashesPlaces 35 = .ok (.iload_n 1, 1) := dk_27 (dk_at dksX5_hashesPlaces_1 11 rfl rfl)
theorem dX5_hashesPlaces_36 : decode cX5_hashesPlaces 36 = .ok (.invokevirtual 219, 3) := dk_182 0 219 (dk_at dksX5_hashesPlaces_1 12 rfl rfl)
theorem dX5_hashesPlaces_39 : decode cX5_hashesPlaces 39 = .ok (.i2l, 1) := dk_133 (dk_at dksX5_hashesPlaces_1 15 rfl rfl)
theorem dX5_hashesPlaces_40 : decode cX5_hashesPlaces 40 = .ok (.invokevirtual 231, 3) := dk_182 0 231 (dk_at dksX5_hashesPlaces_1 16 rfl rfl)
theorem dX5_hashesPlaces_43 : decode cX5_hashesPlaces 43 = .ok (.iinc 1 1, 3) := dk_132 1 1 (dk_at dksX5_hashesPlaces_1 19 rfl rfl)
theorem dX5_hashesPlaces_46 : decode cX5_hashesPlaces 46 = .ok (.goto (-44), 3) := dk_167 255 212 (dk_at dksX5_hashesPlaces_2 0 rfl rfl)
theorem dX5_hashesPlaces_49 : decode cX5_hashesPlaces 49 = .ok (.return_, 1) := dk_177 (dk_at dksX5_hashesPlaces_2 3 rfl rfl)
theorem q114 : (Jvm.Cond.initialized "FountainParkModel") ∈ lw_all := lw_g (lw_at lw_m1 22 rfl) rfl
theorem q1555 : (Jvm.Cond.selects "FountainParkModel" ({ cls := "java/lang/Object", name := "getClass", desc := "()Ljava/lang/Class;" } : Jvm.MethodName) ({ cls := "java/lang/Object", name := "getClass", desc := "()Ljava/lang/Class;" } : Jvm.MethodName)) ∈ lw_all := lw_g (lw_at lw_m7 23 rfl) rfl
theorem q2122 : (Jvm.Cond.instantiable "FountainParkModel" (15 : Nat)) ∈ lw_all := lw_g (lw_at lw_m9 110 rfl) rfl
theorem q2124 : (Jvm.Cond.instanceMethod ({ cls := "FountainParkModel", name := "<init>", desc := "()V" } : Jvm.MethodName)) ∈ lw_all := lw_g (lw_at lw_m9 112 rfl) rfl
theorem q2125 : (Jvm.Cond.code ({ cls := "FountainParkModel", name := "<init>", desc := "()V" } : Jvm.MethodName) prog_8_method_1_code (1 : Nat) (Option.none : Option Jvm.ClassFile.FieldType)) ∈ lw_all := lw_g (lw_at lw_m9 113 rfl) rfl
theorem q2126 : (Jvm.Cond.methodLink "FountainParkModel" (1 : Nat) ({ cls := "java/lang/Object", name := "<init>", desc := "()V" } : Jvm.MethodName)) ∈ lw_all := lw_g (lw_at lw_m9 114 rfl) rfl
theorem q2127 : (Jvm.Cond.fieldLink "FountainParkModel" (35 : Nat) "FountainParkModel" "thrown" "I") ∈ lw_all := lw_g (lw_at lw_m9 115 rfl) rfl
theorem q2128 : (Jvm.Cond.fieldLink "FountainParkModel" (7 : Nat) "FountainParkModel" "s" "[I") ∈ lw_all := lw_g (lw_at lw_m9 116 rfl) rfl
theorem q2129 : (Jvm.Cond.fieldLink "FountainParkModel" (13 : Nat) "FountainParkModel" "aside" "[I") ∈ lw_all := lw_g (lw_at lw_m9 117 rfl) rfl
theorem q2130 : (Jvm.Cond.fieldLink "FountainParkModel" (16 : Nat) "FountainParkModel" "saved" "[I") ∈ lw_all := lw_g (lw_at lw_m9 118 rfl) rfl
theorem q2131 : (Jvm.Cond.fieldLink "FountainParkModel" (43 : Nat) "FountainParkModel" "savedMany" "I") ∈ lw_all := lw_g (lw_at lw_m9 119 rfl) rfl
theorem q2132 : (Jvm.Cond.fieldLink "FountainParkModel" (19 : Nat) "FountainParkModel" "buffer" "[I") ∈ lw_all := lw_g (lw_at lw_m9 120 rfl) rfl
theorem q2133 : (Jvm.Cond.fieldLink "FountainParkModel" (146 : Nat) "FountainParkModel" "length" "I") ∈ lw_all := lw_g (lw_at lw_m9 121 rfl) rfl
theorem q2134 : (Jvm.Cond.fieldLink "FountainParkModel" (22 : Nat) "FountainParkModel" "flows" "[I") ∈ lw_all := lw_g (lw_at lw_m9 122 rfl) rfl
theorem q2135 : (Jvm.Cond.fieldLink "FountainParkModel" (25 : Nat) "FountainParkModel" "isDone" "[Z") ∈ lw_all := lw_g (lw_at lw_m9 123 rfl) rfl
theorem q2136 : (Jvm.Cond.fieldLink "FountainParkModel" (29 : Nat) "FountainParkModel" "isAsked" "[Z") ∈ lw_all := lw_g (lw_at lw_m9 124 rfl) rfl
theorem q2137 : (Jvm.Cond.fieldLink "FountainParkModel" (149 : Nat) "FountainParkModel" "at" "I") ∈ lw_all := lw_g (lw_at lw_m9 125 rfl) rfl
theorem q2138 : (Jvm.Cond.fieldLink "FountainParkModel" (152 : Nat) "FountainParkModel" "isWell" "Z") ∈ lw_all := lw_g (lw_at lw_m9 126 rfl) rfl
theorem q2139 : (Jvm.Cond.fieldLink "FountainParkModel" (32 : Nat) "FountainParkModel" "told" "[I") ∈ lw_all := lw_g (lw_at lw_m9 127 rfl) rfl
theorem q2140 : (Jvm.Cond.fieldLink "FountainParkModel" (168 : Nat) "FountainParkModel" "toldMany" "I") ∈ lw_all := lw_g (lw_at lw_m9 128 rfl) rfl
theorem q2141 : (Jvm.Cond.fieldLink "FountainParkModel" (227 : Nat) "FountainParkModel" "hash" "J") ∈ lw_all := lw_g (lw_at lw_m9 129 rfl) rfl
theorem q2142 : (Jvm.Cond.lays "FountainParkModel" "FountainParkModel" "thrown" "I") ∈ lw_all := lw_g (lw_at lw_m9 130 rfl) rfl
theorem q2143 : (Jvm.Cond.soleField "FountainParkModel" "thrown") ∈ lw_all := lw_g (lw_at lw_m9 131 rfl) rfl
theorem q2144 : (Jvm.Cond.laysFinal "FountainParkModel" "FountainParkModel" "s" "[I") ∈ lw_all := lw_g (lw_at lw_m9 132 rfl) rfl
theorem q2145 : (Jvm.Cond.soleField "FountainParkModel" "s") ∈ lw_all := lw_g (lw_at lw_m9 133 rfl) rfl
theorem q2146 : (Jvm.Cond.laysFinal "FountainParkModel" "FountainParkModel" "aside" "[I") ∈ lw_all := lw_g (lw_at lw_m9 134 rfl) rfl
theorem q2147 : (Jvm.Cond.soleField "FountainParkModel" "aside") ∈ lw_all := lw_g (lw_at lw_m9 135 rfl) rfl
theorem q2148 : (Jvm.Cond.laysFinal "FountainParkModel" "FountainParkModel" "saved" "[I") ∈ lw_all := lw_g (lw_at lw_m9 136 rfl) rfl
theorem q2149 : (Jvm.Cond.soleField "FountainParkModel" "saved") ∈ lw_all := lw_g (lw_at lw_m9 137 rfl) rfl
theorem q2150 : (Jvm.Cond.lays "FountainParkModel" "FountainParkModel" "savedMany" "I") ∈ lw_all := lw_g (lw_at lw_m9 138 rfl) rfl
theorem q2151 : (Jvm.Cond.soleField "FountainParkModel" "savedMany") ∈ lw_all := lw_g (lw_at lw_m9 139 rfl) rfl
theorem q2152 : (Jvm.Cond.laysFinal "FountainParkModel" "FountainParkModel" "buffer" "[I") ∈ lw_all := lw_g (lw_at lw_m9 140 rfl) rfl
theorem q2153 : (Jvm.Cond.soleField "FountainParkModel" "buffer") ∈ lw_all := lw_g (lw_at lw_m9 141 rfl) rfl
theorem q2154 : (Jvm.Cond.lays "FountainParkModel" "FountainParkModel" "length" "I") ∈ lw_all := lw_g (lw_at lw_m9 142 rfl) rfl
theorem q2155 : (Jvm.Cond.soleField "FountainParkModel" "length") ∈ lw_all := lw_g (lw_at lw_m9 143 rfl) rfl
theorem q2156 : (Jvm.Cond.laysFinal "FountainParkModel" "FountainParkModel" "flows" "[I") ∈ lw_all := lw_g (lw_at lw_m9 144 rfl) rfl
theorem q2157 : (Jvm.Cond.soleField "FountainParkModel" "flows") ∈ lw_all := lw_g (lw_at lw_m9 145 rfl) rfl
theorem q2158 : (Jvm.Cond.laysFinal "FountainParkModel" "FountainParkModel" "isDone" "[Z") ∈ lw_all := lw_g (lw_at lw_m9 146 rfl) rfl
theorem q2159 : (Jvm.Cond.soleField "FountainParkModel" "isDone") ∈ lw_all := lw_g (lw_at lw_m9 147 rfl) rfl
theorem q2160 : (Jvm.Cond.laysFinal "FountainParkModel" "FountainParkModel" "isAsked" "[Z") ∈ lw_all := lw_g (lw_at lw_m9 148 rfl) rfl
theorem q2161 : (Jvm.Cond.soleField "FountainParkModel" "isAsked") ∈ lw_all := lw_g (lw_at lw_m9 149 rfl) rfl
theorem q2162 : (Jvm.Cond.lays "FountainParkModel" "FountainParkModel" "at" "I") ∈ lw_all := lw_g (lw_at lw_m9 150 rfl) rfl
theorem q2163 : (Jvm.Cond.soleField "FountainParkModel" "at") ∈ lw_all := lw_g (lw_at lw_m9 151 rfl) rfl
theorem q2164 : (Jvm.Cond.lays "FountainParkModel" "FountainParkModel" "isWell" "Z") ∈ lw_all := lw_g (lw_at lw_m9 152 rfl) rfl
theorem q2165 : (Jvm.Cond.soleField "FountainParkModel" "isWell") ∈ lw_all := lw_g (lw_at lw_m9 153 rfl) rfl
theorem q2166 : (Jvm.Cond.laysFinal "FountainParkModel" "FountainParkModel" "told" "[I") ∈ lw_all := lw_g (lw_at lw_m9 154 rfl) rfl
theorem q2167 : (Jvm.Cond.soleField "FountainParkModel" "told") ∈ lw_all := lw_g (lw_at lw_m9 155 rfl) rfl
theorem q2168 : (Jvm.Cond.lays "FountainParkModel" "FountainParkModel" "toldMany" "I") ∈ lw_all := lw_g (lw_at lw_m9 156 rfl) rfl
theorem q2169 : (Jvm.Cond.soleField "FountainParkModel" "toldMany") ∈ lw_all := lw_g (lw_at lw_m9 157 rfl) rfl
theorem q2170 : (Jvm.Cond.lays "FountainParkModel" "FountainParkModel" "hash" "J") ∈ lw_all := lw_g (lw_at lw_m9 158 rfl) rfl
theorem q2171 : (Jvm.Cond.soleField "FountainParkModel" "hash") ∈ lw_all := lw_g (lw_at lw_m9 159 rfl) rfl
theorem q2172 : (Jvm.Cond.superclass "FountainParkModel" "java/lang/Object") ∈ lw_all := lw_g (lw_at lw_m9 160 rfl) rfl
theorem q2175 : (Jvm.Cond.instanceMethod ({ cls := "FountainParkModel", name := "thrown", desc := "()I" } : Jvm.MethodName)) ∈ lw_all := lw_g (lw_at lw_m9 163 rfl) rfl
theorem q2176 : (Jvm.Cond.selects "FountainParkModel" ({ cls := "FountainParkModel", name := "thrown", desc := "()I" } : Jvm.MethodName) ({ cls := "FountainParkModel", name := "thrown", desc := "()I" } : Jvm.MethodName)) ∈ lw_all := lw_g (lw_at lw_m9 164 rfl) rfl
theorem q2177 : (Jvm.Cond.code ({ cls := "FountainParkModel", name := "thrown", desc := "()I" } : Jvm.MethodName) prog_8_method_2_code (1 : Nat) (Option.some Jvm.ClassFile.FieldType.int)) ∈ lw_all := lw_g (lw_at lw_m9 165 rfl) rfl
theorem q2179 : (Jvm.Cond.instanceMethod ({ cls := "FountainParkModel", name := "build", desc := "(IIIZ)I" } : Jvm.MethodName)) ∈ lw_all := lw_g (lw_at lw_m9 167 rfl) rfl
theorem q2180 : (Jvm.Cond.selects "FountainParkModel" ({ cls := "FountainParkModel", name := "build", desc := "(IIIZ)I" } : Jvm.MethodName) ({ cls := "FountainParkModel", name := "build", desc := "(IIIZ)I" } : Jvm.MethodName)) ∈ lw_all := lw_g (lw_at lw_m9 168 rfl) rfl
theorem q2181 : (Jvm.Cond.code ({ cls := "FountainParkModel", name := "build", desc := "(IIIZ)I" } : Jvm.MethodName) prog_8_method_35_code (5 : Nat) (Option.some Jvm.ClassFile.FieldType.int)) ∈ lw_all := lw_g (lw_at lw_m9 169 rfl) rfl
theorem q2182 : (Jvm.Cond.methodLink "FountainParkModel" (121 : Nat) ({ cls := "FountainParkModel", name := "isPlace", desc := "(I)Z" } : Jvm.MethodName)) ∈ lw_all := lw_g (lw_at lw_m9 170 rfl) rfl
theorem q2183 : (Jvm.Cond.static ({ cls := "FountainParkModel", name := "isPlace", desc := "(I)Z" } : Jvm.MethodName)) ∈ lw_all := lw_g (lw_at lw_m9 171 rfl) rfl
theorem q2184 : (Jvm.Cond.code ({ cls := "FountainParkModel", name := "isPlace", desc := "(I)Z" } : Jvm.MethodName) prog_8_method_5_code (1 : Nat) (Option.some Jvm.ClassFile.FieldType.boolean)) ∈ lw_all := lw_g (lw_at lw_m9 172 rfl) rfl
theorem q2185 : (Jvm.Cond.methodLink "FountainParkModel" (39 : Nat) ({ cls := "FountainParkModel", name := "in", desc := "(III)Z" } : Jvm.MethodName)) ∈ lw_all := lw_g (lw_at lw_m9 173 rfl) rfl
theorem q2186 : (Jvm.Cond.static ({ cls := "FountainParkModel", name := "in", desc := "(III)Z" } : Jvm.MethodName)) ∈ lw_all := lw_g (lw_at lw_m9 174 rfl) rfl
theorem q2187 : (Jvm.Cond.code ({ cls := "FountainParkModel", name := "in", desc := "(III)Z" } : Jvm.MethodName) prog_8_method_3_code (3 : Nat) (Option.some Jvm.ClassFile.FieldType.boolean)) ∈ lw_all := lw_g (lw_at lw_m9 175 rfl) rfl
theorem q2188 : (Jvm.Cond.methodLink "FountainParkModel" (124 : Nat) ({ cls := "FountainParkModel", name := "fails", desc := "(I)I" } : Jvm.MethodName)) ∈ lw_all := lw_g (lw_at lw_m9 176 rfl) rfl
theorem q2189 : (Jvm.Cond.privateMethod ({ cls := "FountainParkModel", name := "fails", desc := "(I)I" } : Jvm.MethodName)) ∈ lw_tbl := lw_at lw_m9 177 rfl
theorem q2190 : (Jvm.Cond.instanceMethod ({ cls := "FountainParkModel", name := "fails", desc := "(I)I" } : Jvm.MethodName)) ∈ lw_all := lw_g (lw_at lw_m9 178 rfl) rfl
theorem q2191 : (Jvm.Cond.code ({ cls := "FountainParkModel", name := "fails", desc := "(I)I" } : Jvm.MethodName) prog_8_method_4_code (2 : Nat) (Option.some Jvm.ClassFile.FieldType.int)) ∈ lw_all := lw_g (lw_at lw_m9 179 rfl) rfl
theorem q2192 : (Jvm.Cond.methodLink "FountainParkModel" (46 : Nat) ({ cls := "FountainParkModel", name := "of", desc := "(II)I" } : Jvm.MethodName)) ∈ lw_all := lw_g (lw_at lw_m9 180 rfl) rfl
theorem q2193 : (Jvm.Cond.privateMethod ({ cls := "FountainParkModel", name := "of", desc := "(II)I" } : Jvm.MethodName)) ∈ lw_tbl := lw_at lw_m9 181 rfl
theorem q2194 : (Jvm.Cond.instanceMethod ({ cls := "FountainParkModel", name := "of", desc := "(II)I" } : Jvm.MethodName)) ∈ lw_all := lw_g (lw_at lw_m9 182 rfl) rfl
theorem q2195 : (Jvm.Cond.code ({ cls := "FountainParkModel", name := "of", desc := "(II)I" } : Jvm.MethodName) prog_8_method_9_code (3 : Nat) (Option.some Jvm.ClassFile.FieldType.int)) ∈ lw_all := lw_g (lw_at lw_m9 183 rfl) rfl
theorem q2196 : (Jvm.Cond.methodLink "FountainParkModel" (127 : Nat) ({ cls := "FountainParkModel", name := "saves", desc := "()V" } : Jvm.MethodName)) ∈ lw_all := lw_g (lw_at lw_m9 184 rfl) rfl
theorem q2197 : (Jvm.Cond.privateMethod ({ cls := "FountainParkModel", name := "saves", desc := "()V" } : Jvm.MethodName)) ∈ lw_tbl := lw_at lw_m9 185 rfl
theorem q2198 : (Jvm.Cond.instanceMethod ({ cls := "FountainParkModel", name := "saves", desc := "()V" } : Jvm.MethodName)) ∈ lw_all := lw_g (lw_at lw_m9 186 rfl) rfl
theorem q2199 : (Jvm.Cond.code ({ cls := "FountainParkModel", name := "saves", desc := "()V" } : Jvm.MethodName) prog_8_method_6_code (2 : Nat) (Option.none : Option Jvm.ClassFile.FieldType)) ∈ lw_all := lw_g (lw_at lw_m9 187 rfl) rfl
theorem q2200 : (Jvm.Cond.methodLink "FountainParkModel" (65 : Nat) ({ cls := "FountainParkModel", name := "lay", desc := "(III)V" } : Jvm.MethodName)) ∈ lw_all := lw_g (lw_at lw_m9 188 rfl) rfl
theorem q2201 : (Jvm.Cond.privateMethod ({ cls := "FountainParkModel", name := "lay", desc := "(III)V" } : Jvm.MethodName)) ∈ lw_tbl := lw_at lw_m9 189 rfl
theorem q2202 : (Jvm.Cond.instanceMethod ({ cls := "FountainParkModel", name := "lay", desc := "(III)V" } : Jvm.MethodName)) ∈ lw_all := lw_g (lw_at lw_m9 190 rfl) rfl
theorem q2203 : (Jvm.Cond.code ({ cls := "FountainParkModel", name := "lay", desc := "(III)V" } : Jvm.MethodName) prog_8_method_10_code (4 : Nat) (Option.none : Option Jvm.ClassFile.FieldType)) ∈ lw_all := lw_g (lw_at lw_m9 191 rfl) rfl
theorem q2204 : (Jvm.Cond.methodLink "FountainParkModel" (130 : Nat) ({ cls := "FountainParkModel", name := "fountains", desc := "()I" } : Jvm.MethodName)) ∈ lw_all := lw_g (lw_at lw_m9 192 rfl) rfl
theorem q2205 : (Jvm.Cond.privateMethod ({ cls := "FountainParkModel", name := "fountains", desc := "()I" } : Jvm.MethodName)) ∈ lw_tbl := lw_at lw_m9 193 rfl
theorem q2206 : (Jvm.Cond.instanceMethod ({ cls := "FountainParkModel", name := "fountains", desc := "()I" } : Jvm.MethodName)) ∈ lw_all := lw_g (lw_at lw_m9 194 rfl) rfl
theorem q2207 : (Jvm.Cond.code ({ cls := "FountainParkModel", name := "fountains", desc := "()I" } : Jvm.MethodName) prog_8_method_34_code (3 : Nat) (Option.some Jvm.ClassFile.FieldType.int)) ∈ lw_all := lw_g (lw_at lw_m9 195 rfl) rfl
theorem q2209 : (Jvm.Cond.instanceMethod ({ cls := "FountainParkModel", name := "remove", desc := "(I)I" } : Jvm.MethodName)) ∈ lw_all := lw_g (lw_at lw_m9 197 rfl) rfl
theorem q2210 : (Jvm.Cond.selects "FountainParkModel" ({ cls := "FountainParkModel", name := "remove", desc := "(I)I" } : Jvm.MethodName) ({ cls := "FountainParkModel", name := "remove", desc := "(I)I" } : Jvm.MethodName)) ∈ lw_all := lw_g (lw_at lw_m9 198 rfl) rfl
theorem q2211 : (Jvm.Cond.code ({ cls := "FountainParkModel", name := "remove", desc := "(I)I" } : Jvm.MethodName) prog_8_method_36_code (4 : Nat) (Option.some Jvm.ClassFile.FieldType.int)) ∈ lw_all := lw_g (lw_at lw_m9 199 rfl) rfl
theorem q2212 : (Jvm.Cond.methodLink "FountainParkModel" (58 : Nat) ({ cls := "FountainParkModel", name := "jobOf", desc := "(II)I" } : Jvm.MethodName)) ∈ lw_all := lw_g (lw_at lw_m9 200 rfl) rfl
theorem q2213 : (Jvm.Cond.privateMethod ({ cls := "FountainParkModel", name := "jobOf", desc := "(II)I" } : Jvm.MethodName)) ∈ lw_tbl := lw_at lw_m9 201 rfl
theorem q2214 : (Jvm.Cond.instanceMethod ({ cls := "FountainParkModel", name := "jobOf", desc := "(II)I" } : Jvm.MethodName)) ∈ lw_all := lw_g (lw_at lw_m9 202 rfl) rfl
theorem q2215 : (Jvm.Cond.code ({ cls := "FountainParkModel", name := "jobOf", desc := "(II)I" } : Jvm.MethodName) prog_8_method_11_code (3 : Nat) (Option.some Jvm.ClassFile.FieldType.int)) ∈ lw_all := lw_g (lw_at lw_m9 203 rfl) rfl
theorem q2216 : (Jvm.Cond.methodLink "FountainParkModel" (73 : Nat) ({ cls := "FountainParkModel", name := "ends", desc := "(I)V" } : Jvm.MethodName)) ∈ lw_all := lw_g (lw_at lw_m9 204 rfl) rfl
theorem q2217 : (Jvm.Cond.privateMethod ({ cls := "FountainParkModel", name := "ends", desc := "(I)V" } : Jvm.MethodName)) ∈ lw_tbl := lw_at lw_m9 205 rfl
theorem q2218 : (Jvm.Cond.instanceMethod ({ cls := "FountainParkModel", name := "ends", desc := "(I)V" } : Jvm.MethodName)) ∈ lw_all := lw_g (lw_at lw_m9 206 rfl) rfl
theorem q2219 : (Jvm.Cond.code ({ cls := "FountainParkModel", name := "ends", desc := "(I)V" } : Jvm.MethodName) prog_8_method_17_code (3 : Nat) (Option.none : Option Jvm.ClassFile.FieldType)) ∈ lw_all := lw_g (lw_at lw_m9 207 rfl) rfl
theorem q2221 : (Jvm.Cond.instanceMethod ({ cls := "FountainParkModel", name := "drain", desc := "(IZ)I" } : Jvm.MethodName)) ∈ lw_all := lw_g (lw_at lw_m9 209 rfl) rfl
theorem q2222 : (Jvm.Cond.selects "FountainParkModel" ({ cls := "FountainParkModel", name := "drain", desc := "(IZ)I" } : Jvm.MethodName) ({ cls := "FountainParkModel", name := "drain", desc := "(IZ)I" } : Jvm.MethodName)) ∈ lw_all := lw_g (lw_at lw_m9 210 rfl) rfl
theorem q2223 : (Jvm.Cond.code ({ cls := "FountainParkModel", name := "drain", desc := "(IZ)I" } : Jvm.MethodName) prog_8_method_38_code (3 : Nat) (Option.some Jvm.ClassFile.FieldType.int)) ∈ lw_all := lw_g (lw_at lw_m9 211 rfl) rfl
theorem q2224 : (Jvm.Cond.methodLink "FountainParkModel" (133 : Nat) ({ cls := "FountainParkModel", name := "turns", desc := "(IIZ)I" } : Jvm.MethodName)) ∈ lw_all := lw_g (lw_at lw_m9 212 rfl) rfl
theorem q2225 : (Jvm.Cond.privateMethod ({ cls := "FountainParkModel", name := "turns", desc := "(IIZ)I" } : Jvm.MethodName)) ∈ lw_tbl := lw_at lw_m9 213 rfl
theorem q2226 : (Jvm.Cond.instanceMethod ({ cls := "FountainParkModel", name := "turns", desc := "(IIZ)I" } : Jvm.MethodName)) ∈ lw_all := lw_g (lw_at lw_m9 214 rfl) rfl
theorem q2227 : (Jvm.Cond.code ({ cls := "FountainParkModel", name := "turns", desc := "(IIZ)I" } : Jvm.MethodName) prog_8_method_37_code (5 : Nat) (Option.some Jvm.ClassFile.FieldType.int)) ∈ lw_all := lw_g (lw_at lw_m9 215 rfl) rfl
theorem q2229 : (Jvm.Cond.instanceMethod ({ cls := "FountainParkModel", name := "heat", desc := "(IZ)I" } : Jvm.MethodName)) ∈ lw_all := lw_g (lw_at lw_m9 217 rfl) rfl
theorem q2230 : (Jvm.Cond.selects "FountainParkModel" ({ cls := "FountainParkModel", name := "heat", desc := "(IZ)I" } : Jvm.MethodName) ({ cls := "FountainParkModel", name := "heat", desc := "(IZ)I" } : Jvm.MethodName)) ∈ lw_all := lw_g (lw_at lw_m9 218 rfl) rfl
theorem q2231 : (Jvm.Cond.code ({ cls := "FountainParkModel", name := "heat", desc := "(IZ)I" } : Jvm.MethodName) prog_8_method_39_code (3 : Nat) (Option.some Jvm.ClassFile.FieldType.int)) ∈ lw_all := lw_g (lw_at lw_m9 219 rfl) rfl
theorem q2233 : (Jvm.Cond.instanceMethod ({ cls := "FountainParkModel", name := "frost", desc := "(II)I" } : Jvm.MethodName)) ∈ lw_all := lw_g (lw_at lw_m9 221 rfl) rfl
theorem q2234 : (Jvm.Cond.selects "FountainParkModel" ({ cls := "FountainParkModel", name := "frost", desc := "(II)I" } : Jvm.MethodName) ({ cls := "FountainParkModel", name := "frost", desc := "(II)I" } : Jvm.MethodName)) ∈ lw_all := lw_g (lw_at lw_m9 222 rfl) rfl
theorem q2235 : (Jvm.Cond.code ({ cls := "FountainParkModel", name := "frost", desc := "(II)I" } : Jvm.MethodName) prog_8_method_40_code (6 : Nat) (Option.some Jvm.ClassFile.FieldType.int)) ∈ lw_all := lw_g (lw_at lw_m9 223 rfl) rfl
theorem q2237 : (Jvm.Cond.instanceMethod ({ cls := "FountainParkModel", name := "thaw", desc := "(I)I" } : Jvm.MethodName)) ∈ lw_all := lw_g (lw_at lw_m9 225 rfl) rfl
theorem q2238 : (Jvm.Cond.selects "FountainParkModel" ({ cls := "FountainParkModel", name := "thaw", desc := "(I)I" } : Jvm.MethodName) ({ cls := "FountainParkModel", name := "thaw", desc := "(I)I" } : Jvm.MethodName)) ∈ lw_all := lw_g (lw_at lw_m9 226 rfl) rfl
theorem q2239 : (Jvm.Cond.code ({ cls := "FountainParkModel", name := "thaw", desc := "(I)I" } : Jvm.MethodName) prog_8_method_41_code (5 : Nat) (Option.some Jvm.ClassFile.FieldType.int)) ∈ lw_all := lw_g (lw_at lw_m9 227 rfl) rfl
theorem q2241 : (Jvm.Cond.instanceMethod ({ cls := "FountainParkModel", name := "plan", desc := "(III)I" } : Jvm.MethodName)) ∈ lw_all := lw_g (lw_at lw_m9 229 rfl) rfl
theorem q2242 : (Jvm.Cond.selects "FountainParkModel" ({ cls := "FountainParkModel", name := "plan", desc := "(III)I" } : Jvm.MethodName) ({ cls := "FountainParkModel", name := "plan", desc := "(III)I" } : Jvm.MethodName)) ∈ lw_all := lw_g (lw_at lw_m9 230 rfl) rfl
theorem q2243 : (Jvm.Cond.code ({ cls := "FountainParkModel", name := "plan", desc := "(III)I" } : Jvm.MethodName) prog_8_method_43_code (4 : Nat) (Option.some Jvm.ClassFile.FieldType.int)) ∈ lw_all := lw_g (lw_at lw_m9 231 rfl) rfl
theorem q2244 : (Jvm.Cond.methodLink "FountainParkModel" (137 : Nat) ({ cls := "FountainParkModel", name := "plans", desc := "(III)V" } : Jvm.MethodName)) ∈ lw_all := lw_g (lw_at lw_m9 232 rfl) rfl
theorem q2245 : (Jvm.Cond.privateMethod ({ cls := "FountainParkModel", name := "plans", desc := "(III)V" } : Jvm.MethodName)) ∈ lw_tbl := lw_at lw_m9 233 rfl
theorem q2246 : (Jvm.Cond.instanceMethod ({ cls := "FountainParkModel", name := "plans", desc := "(III)V" } : Jvm.MethodName)) ∈ lw_all := lw_g (lw_at lw_m9 234 rfl) rfl
theorem q2247 : (Jvm.Cond.code ({ cls := "FountainParkModel", name := "plans", desc := "(III)V" } : Jvm.MethodName) prog_8_method_42_code (5 : Nat) (Option.none : Option Jvm.ClassFile.FieldType)) ∈ lw_all := lw_g (lw_at lw_m9 235 rfl) rfl
theorem q2249 : (Jvm.Cond.instanceMethod ({ cls := "FountainParkModel", name := "callOff", desc := "(I)I" } : Jvm.MethodName)) ∈ lw_all := lw_g (lw_at lw_m9 237 rfl) rfl
theorem q2250 : (Jvm.Cond.selects "FountainParkModel" ({ cls := "FountainParkModel", name := "callOff", desc := "(I)I" } : Jvm.MethodName) ({ cls := "FountainParkModel", name := "callOff", desc := "(I)I" } : Jvm.MethodName)) ∈ lw_all := lw_g (lw_at lw_m9 238 rfl) rfl
theorem q2251 : (Jvm.Cond.code ({ cls := "FountainParkModel", name := "callOff", desc := "(I)I" } : Jvm.MethodName) prog_8_method_44_code (2 : Nat) (Option.some Jvm.ClassFile.FieldType.int)) ∈ lw_all := lw_g (lw_at lw_m9 239 rfl) rfl
theorem q2252 : (Jvm.Cond.methodLink "FountainParkModel" (115 : Nat) ({ cls := "FountainParkModel", name := "drops", desc := "(I)I" } : Jvm.MethodName)) ∈ lw_all := lw_g (lw_at lw_m10 0 rfl) rfl
theorem q2253 : (Jvm.Cond.privateMethod ({ cls := "FountainParkModel", name := "drops", desc := "(I)I" } : Jvm.MethodName)) ∈ lw_tbl := lw_at lw_m10 1 rfl
theorem q2254 : (Jvm.Cond.instanceMethod ({ cls := "FountainParkModel", name := "drops", desc := "(I)I" } : Jvm.MethodName)) ∈ lw_all := lw_g (lw_at lw_m10 2 rfl) rfl
theorem q2255 : (Jvm.Cond.code ({ cls := "FountainParkModel", name := "drops", desc := "(I)I" } : Jvm.MethodName) prog_8_method_31_code (7 : Nat) (Option.some Jvm.ClassFile.FieldType.int)) ∈ lw_all := lw_g (lw_at lw_m10 3 rfl) rfl
theorem q2256 : (Jvm.Cond.methodLink "FountainParkModel" (98 : Nat) ({ cls := "FountainParkModel", name := "outingOf", desc := "(II)I" } : Jvm.MethodName)) ∈ lw_all := lw_g (lw_at lw_m10 4 rfl) rfl
theorem q2257 : (Jvm.Cond.privateMethod ({ cls := "FountainParkModel", name := "outingOf", desc := "(II)I" } : Jvm.MethodName)) ∈ lw_tbl := lw_at lw_m10 5 rfl
theorem q2258 : (Jvm.Cond.instanceMethod ({ cls := "FountainParkModel", name := "outingOf", desc := "(II)I" } : Jvm.MethodName)) ∈ lw_all := lw_g (lw_at lw_m10 6 rfl) rfl
theorem q2259 : (Jvm.Cond.code ({ cls := "FountainParkModel", name := "outingOf", desc := "(II)I" } : Jvm.MethodName) prog_8_method_12_code (3 : Nat) (Option.some Jvm.ClassFile.FieldType.int)) ∈ lw_all := lw_g (lw_at lw_m10 7 rfl) rfl
theorem q2261 : (Jvm.Cond.instanceMethod ({ cls := "FountainParkModel", name := "set", desc := "(II)I" } : Jvm.MethodName)) ∈ lw_all := lw_g (lw_at lw_m10 9 rfl) rfl
theorem q2262 : (Jvm.Cond.selects "FountainParkModel" ({ cls := "FountainParkModel", name := "set", desc := "(II)I" } : Jvm.MethodName) ({ cls := "FountainParkModel", name := "set", desc := "(II)I" } : Jvm.MethodName)) ∈ lw_all := lw_g (lw_at lw_m10 10 rfl) rfl
theorem q2263 : (Jvm.Cond.code ({ cls := "FountainParkModel", name := "set", desc := "(II)I" } : Jvm.MethodName) prog_8_method_46_code (4 : Nat) (Option.some Jvm.ClassFile.FieldType.int)) ∈ lw_all := lw_g (lw_at lw_m10 11 rfl) rfl
theorem q2264 : (Jvm.Cond.methodLink "FountainParkModel" (140 : Nat) ({ cls := "FountainParkModel", name := "isSetting", desc := "(II)Z" } : Jvm.MethodName)) ∈ lw_all := lw_g (lw_at lw_m10 12 rfl) rfl
theorem q2265 : (Jvm.Cond.static ({ cls := "FountainParkModel", name := "isSetting", desc := "(II)Z" } : Jvm.MethodName)) ∈ lw_all := lw_g (lw_at lw_m10 13 rfl) rfl
theorem q2266 : (Jvm.Cond.code ({ cls := "FountainParkModel", name := "isSetting", desc := "(II)Z" } : Jvm.MethodName) prog_8_method_45_code (2 : Nat) (Option.some Jvm.ClassFile.FieldType.boolean)) ∈ lw_all := lw_g (lw_at lw_m10 14 rfl) rfl
theorem q2268 : (Jvm.Cond.instanceMethod ({ cls := "FountainParkModel", name := "pass", desc := "(I)I" } : Jvm.MethodName)) ∈ lw_all := lw_g (lw_at lw_m10 16 rfl) rfl
theorem q2269 : (Jvm.Cond.selects "FountainParkModel" ({ cls := "FountainParkModel", name := "pass", desc := "(I)I" } : Jvm.MethodName) ({ cls := "FountainParkModel", name := "pass", desc := "(I)I" } : Jvm.MethodName)) ∈ lw_all := lw_g (lw_at lw_m10 17 rfl) rfl
theorem q2270 : (Jvm.Cond.code ({ cls := "FountainParkModel", name := "pass", desc := "(I)I" } : Jvm.MethodName) prog_8_method_47_code (2 : Nat) (Option.some Jvm.ClassFile.FieldType.int)) ∈ lw_all := lw_g (lw_at lw_m10 18 rfl) rfl
theorem q2271 : (Jvm.Cond.methodLink "FountainParkModel" (143 : Nat) ({ cls := "FountainParkModel", name := "days", desc := "(I)I" } : Jvm.MethodName)) ∈ lw_all := lw_g (lw_at lw_m10 19 rfl) rfl
theorem q2272 : (Jvm.Cond.privateMethod ({ cls := "FountainParkModel", name := "days", desc := "(I)I" } : Jvm.MethodName)) ∈ lw_tbl := lw_at lw_m10 20 rfl
theorem q2273 : (Jvm.Cond.instanceMethod ({ cls := "FountainParkModel", name := "days", desc := "(I)I" } : Jvm.MethodName)) ∈ lw_all := lw_g (lw_at lw_m10 21 rfl) rfl
theorem q2274 : (Jvm.Cond.code ({ cls := "FountainParkModel", name := "days", desc := "(I)I" } : Jvm.MethodName) prog_8_method_33_code (4 : Nat) (Option.some Jvm.ClassFile.FieldType.int)) ∈ lw_all := lw_g (lw_at lw_m10 22 rfl) rfl
theorem q2275 : (Jvm.Cond.methodLink "FountainParkModel" (118 : Nat) ({ cls := "FountainParkModel", name := "day", desc := "()V" } : Jvm.MethodName)) ∈ lw_all := lw_g (lw_at lw_m10 23 rfl) rfl
theorem q2276 : (Jvm.Cond.privateMethod ({ cls := "FountainParkModel", name := "day", desc := "()V" } : Jvm.MethodName)) ∈ lw_tbl := lw_at lw_m10 24 rfl
theorem q2277 : (Jvm.Cond.instanceMethod ({ cls := "FountainParkModel", name := "day", desc := "()V" } : Jvm.MethodName)) ∈ lw_all := lw_g (lw_at lw_m10 25 rfl) rfl
theorem q2278 : (Jvm.Cond.code ({ cls := "FountainParkModel", name := "day", desc := "()V" } : Jvm.MethodName) prog_8_method_32_code (4 : Nat) (Option.none : Option Jvm.ClassFile.FieldType)) ∈ lw_all := lw_g (lw_at lw_m10 26 rfl) rfl
theorem q2279 : (Jvm.Cond.methodLink "FountainParkModel" (50 : Nat) ({ cls := "FountainParkModel", name := "isFrosty", desc := "(I)Z" } : Jvm.MethodName)) ∈ lw_all := lw_g (lw_at lw_m10 27 rfl) rfl
theorem q2280 : (Jvm.Cond.privateMethod ({ cls := "FountainParkModel", name := "isFrosty", desc := "(I)Z" } : Jvm.MethodName)) ∈ lw_tbl := lw_at lw_m10 28 rfl
theorem q2281 : (Jvm.Cond.instanceMethod ({ cls := "FountainParkModel", name := "isFrosty", desc := "(I)Z" } : Jvm.MethodName)) ∈ lw_all := lw_g (lw_at lw_m10 29 rfl) rfl
theorem q2282 : (Jvm.Cond.code ({ cls := "FountainParkModel", name := "isFrosty", desc := "(I)Z" } : Jvm.MethodName) prog_8_method_13_code (4 : Nat) (Option.some Jvm.ClassFile.FieldType.boolean)) ∈ lw_all := lw_g (lw_at lw_m10 30 rfl) rfl
theorem q2283 : (Jvm.Cond.methodLink "FountainParkModel" (101 : Nat) ({ cls := "FountainParkModel", name := "freezes", desc := "()V" } : Jvm.MethodName)) ∈ lw_all := lw_g (lw_at lw_m10 31 rfl) rfl
theorem q2284 : (Jvm.Cond.privateMethod ({ cls := "FountainParkModel", name := "freezes", desc := "()V" } : Jvm.MethodName)) ∈ lw_tbl := lw_at lw_m10 32 rfl
theorem q2285 : (Jvm.Cond.instanceMethod ({ cls := "FountainParkModel", name := "freezes", desc := "()V" } : Jvm.MethodName)) ∈ lw_all := lw_g (lw_at lw_m10 33 rfl) rfl
theorem q2286 : (Jvm.Cond.code ({ cls := "FountainParkModel", name := "freezes", desc := "()V" } : Jvm.MethodName) prog_8_method_23_code (2 : Nat) (Option.none : Option Jvm.ClassFile.FieldType)) ∈ lw_all := lw_g (lw_at lw_m10 34 rfl) rfl
theorem q2287 : (Jvm.Cond.methodLink "FountainParkModel" (69 : Nat) ({ cls := "FountainParkModel", name := "reports", desc := "(I)V" } : Jvm.MethodName)) ∈ lw_all := lw_g (lw_at lw_m10 35 rfl) rfl
theorem q2288 : (Jvm.Cond.privateMethod ({ cls := "FountainParkModel", name := "reports", desc := "(I)V" } : Jvm.MethodName)) ∈ lw_tbl := lw_at lw_m10 36 rfl
theorem q2289 : (Jvm.Cond.instanceMethod ({ cls := "FountainParkModel", name := "reports", desc := "(I)V" } : Jvm.MethodName)) ∈ lw_all := lw_g (lw_at lw_m10 37 rfl) rfl
theorem q2290 : (Jvm.Cond.code ({ cls := "FountainParkModel", name := "reports", desc := "(I)V" } : Jvm.MethodName) prog_8_method_16_code (2 : Nat) (Option.none : Option Jvm.ClassFile.FieldType)) ∈ lw_all := lw_g (lw_at lw_m10 38 rfl) rfl
theorem q2291 : (Jvm.Cond.methodLink "FountainParkModel" (104 : Nat) ({ cls := "FountainParkModel", name := "works", desc := "(Z)V" } : Jvm.MethodName)) ∈ lw_all := lw_g (lw_at lw_m10 39 rfl) rfl
theorem q2292 : (Jvm.Cond.privateMethod ({ cls := "FountainParkModel", name := "works", desc := "(Z)V" } : Jvm.MethodName)) ∈ lw_tbl := lw_at lw_m10 40 rfl
theorem q2293 : (Jvm.Cond.instanceMethod ({ cls := "FountainParkModel", name := "works", desc := "(Z)V" } : Jvm.MethodName)) ∈ lw_all := lw_g (lw_at lw_m10 41 rfl) rfl
theorem q2294 : (Jvm.Cond.code ({ cls := "FountainParkModel", name := "works", desc := "(Z)V" } : Jvm.MethodName) prog_8_method_25_code (6 : Nat) (Option.none : Option Jvm.ClassFile.FieldType)) ∈ lw_all := lw_g (lw_at lw_m10 42 rfl) rfl
theorem q2295 : (Jvm.Cond.methodLink "FountainParkModel" (76 : Nat) ({ cls := "FountainParkModel", name := "opensRound", desc := "()V" } : Jvm.MethodName)) ∈ lw_all := lw_g (lw_at lw_m10 43 rfl) rfl
theorem q2296 : (Jvm.Cond.privateMethod ({ cls := "FountainParkModel", name := "opensRound", desc := "()V" } : Jvm.MethodName)) ∈ lw_tbl := lw_at lw_m10 44 rfl
theorem q2297 : (Jvm.Cond.instanceMethod ({ cls := "FountainParkModel", name := "opensRound", desc := "()V" } : Jvm.MethodName)) ∈ lw_all := lw_g (lw_at lw_m10 45 rfl) rfl
theorem q2298 : (Jvm.Cond.code ({ cls := "FountainParkModel", name := "opensRound", desc := "()V" } : Jvm.MethodName) prog_8_method_22_code (2 : Nat) (Option.none : Option Jvm.ClassFile.FieldType)) ∈ lw_all := lw_g (lw_at lw_m10 46 rfl) rfl
theorem q2299 : (Jvm.Cond.methodLink "FountainParkModel" (79 : Nat) ({ cls := "FountainParkModel", name := "nextJob", desc := "()I" } : Jvm.MethodName)) ∈ lw_all := lw_g (lw_at lw_m10 47 rfl) rfl
theorem q2300 : (Jvm.Cond.privateMethod ({ cls := "FountainParkModel", name := "nextJob", desc := "()I" } : Jvm.MethodName)) ∈ lw_tbl := lw_at lw_m10 48 rfl
theorem q2301 : (Jvm.Cond.instanceMethod ({ cls := "FountainParkModel", name := "nextJob", desc := "()I" } : Jvm.MethodName)) ∈ lw_all := lw_g (lw_at lw_m10 49 rfl) rfl
theorem q2302 : (Jvm.Cond.code ({ cls := "FountainParkModel", name := "nextJob", desc := "()I" } : Jvm.MethodName) prog_8_method_21_code (3 : Nat) (Option.some Jvm.ClassFile.FieldType.int)) ∈ lw_all := lw_g (lw_at lw_m10 50 rfl) rfl
theorem q2303 : (Jvm.Cond.methodLink "FountainParkModel" (61 : Nat) ({ cls := "FountainParkModel", name := "isAhead", desc := "(II)Z" } : Jvm.MethodName)) ∈ lw_all := lw_g (lw_at lw_m10 51 rfl) rfl
theorem q2304 : (Jvm.Cond.privateMethod ({ cls := "FountainParkModel", name := "isAhead", desc := "(II)Z" } : Jvm.MethodName)) ∈ lw_tbl := lw_at lw_m10 52 rfl
theorem q2305 : (Jvm.Cond.instanceMethod ({ cls := "FountainParkModel", name := "isAhead", desc := "(II)Z" } : Jvm.MethodName)) ∈ lw_all := lw_g (lw_at lw_m10 53 rfl) rfl
theorem q2306 : (Jvm.Cond.code ({ cls := "FountainParkModel", name := "isAhead", desc := "(II)Z" } : Jvm.MethodName) prog_8_method_20_code (4 : Nat) (Option.some Jvm.ClassFile.FieldType.boolean)) ∈ lw_all := lw_g (lw_at lw_m10 54 rfl) rfl
theorem q2307 : (Jvm.Cond.methodLink "FountainParkModel" (83 : Nat) ({ cls := "FountainParkModel", name := "needs", desc := "(I)I" } : Jvm.MethodName)) ∈ lw_all := lw_g (lw_at lw_m10 55 rfl) rfl
theorem q2308 : (Jvm.Cond.privateMethod ({ cls := "FountainParkModel", name := "needs", desc := "(I)I" } : Jvm.MethodName)) ∈ lw_tbl := lw_at lw_m10 56 rfl
theorem q2309 : (Jvm.Cond.instanceMethod ({ cls := "FountainParkModel", name := "needs", desc := "(I)I" } : Jvm.MethodName)) ∈ lw_all := lw_g (lw_at lw_m10 57 rfl) rfl
theorem q2310 : (Jvm.Cond.code ({ cls := "FountainParkModel", name := "needs", desc := "(I)I" } : Jvm.MethodName) prog_8_method_18_code (2 : Nat) (Option.some Jvm.ClassFile.FieldType.int)) ∈ lw_all := lw_g (lw_at lw_m10 58 rfl) rfl
theorem q2311 : (Jvm.Cond.methodLink "FountainParkModel" (86 : Nat) ({ cls := "FountainParkModel", name := "finishes", desc := "(I)V" } : Jvm.MethodName)) ∈ lw_all := lw_g (lw_at lw_m10 59 rfl) rfl
theorem q2312 : (Jvm.Cond.privateMethod ({ cls := "FountainParkModel", name := "finishes", desc := "(I)V" } : Jvm.MethodName)) ∈ lw_tbl := lw_at lw_m10 60 rfl
theorem q2313 : (Jvm.Cond.instanceMethod ({ cls := "FountainParkModel", name := "finishes", desc := "(I)V" } : Jvm.MethodName)) ∈ lw_all := lw_g (lw_at lw_m10 61 rfl) rfl
theorem q2314 : (Jvm.Cond.code ({ cls := "FountainParkModel", name := "finishes", desc := "(I)V" } : Jvm.MethodName) prog_8_method_24_code (3 : Nat) (Option.none : Option Jvm.ClassFile.FieldType)) ∈ lw_all := lw_g (lw_at lw_m10 62 rfl) rfl
theorem q2315 : (Jvm.Cond.methodLink "FountainParkModel" (108 : Nat) ({ cls := "FountainParkModel", name := "nextOuting", desc := "(I)I" } : Jvm.MethodName)) ∈ lw_all := lw_g (lw_at lw_m10 63 rfl) rfl
theorem q2316 : (Jvm.Cond.privateMethod ({ cls := "FountainParkModel", name := "nextOuting", desc := "(I)I" } : Jvm.MethodName)) ∈ lw_tbl := lw_at lw_m10 64 rfl
theorem q2317 : (Jvm.Cond.instanceMethod ({ cls := "FountainParkModel", name := "nextOuting", desc := "(I)I" } : Jvm.MethodName)) ∈ lw_all := lw_g (lw_at lw_m10 65 rfl) rfl
theorem q2318 : (Jvm.Cond.code ({ cls := "FountainParkModel", name := "nextOuting", desc := "(I)I" } : Jvm.MethodName) prog_8_method_30_code (5 : Nat) (Option.some Jvm.ClassFile.FieldType.int)) ∈ lw_all := lw_g (lw_at lw_m10 66 rfl) rfl
theorem q2319 : (Jvm.Cond.methodLink "FountainParkModel" (111 : Nat) ({ cls := "FountainParkModel", name := "drinks", desc := "(II)V" } : Jvm.MethodName)) ∈ lw_all := lw_g (lw_at lw_m10 67 rfl) rfl
theorem q2320 : (Jvm.Cond.privateMethod ({ cls := "FountainParkModel", name := "drinks", desc := "(II)V" } : Jvm.MethodName)) ∈ lw_tbl := lw_at lw_m10 68 rfl
theorem q2321 : (Jvm.Cond.instanceMethod ({ cls := "FountainParkModel", name := "drinks", desc := "(II)V" } : Jvm.MethodName)) ∈ lw_all := lw_g (lw_at lw_m10 69 rfl) rfl
theorem q2322 : (Jvm.Cond.code ({ cls := "FountainParkModel", name := "drinks", desc := "(II)V" } : Jvm.MethodName) prog_8_method_29_code (6 : Nat) (Option.none : Option Jvm.ClassFile.FieldType)) ∈ lw_all := lw_g (lw_at lw_m10 70 rfl) rfl
theorem q2323 : (Jvm.Cond.methodLink "FountainParkModel" (92 : Nat) ({ cls := "FountainParkModel", name := "nearest", desc := "(I)I" } : Jvm.MethodName)) ∈ lw_all := lw_g (lw_at lw_m10 71 rfl) rfl
theorem q2324 : (Jvm.Cond.privateMethod ({ cls := "FountainParkModel", name := "nearest", desc := "(I)I" } : Jvm.MethodName)) ∈ lw_tbl := lw_at lw_m10 72 rfl
theorem q2325 : (Jvm.Cond.instanceMethod ({ cls := "FountainParkModel", name := "nearest", desc := "(I)I" } : Jvm.MethodName)) ∈ lw_all := lw_g (lw_at lw_m10 73 rfl) rfl
theorem q2326 : (Jvm.Cond.code ({ cls := "FountainParkModel", name := "nearest", desc := "(I)I" } : Jvm.MethodName) prog_8_method_28_code (4 : Nat) (Option.some Jvm.ClassFile.FieldType.int)) ∈ lw_all := lw_g (lw_at lw_m10 74 rfl) rfl
theorem q2327 : (Jvm.Cond.methodLink "FountainParkModel" (89 : Nat) ({ cls := "FountainParkModel", name := "apart", desc := "(II)I" } : Jvm.MethodName)) ∈ lw_all := lw_g (lw_at lw_m10 75 rfl) rfl
theorem q2328 : (Jvm.Cond.static ({ cls := "FountainParkModel", name := "apart", desc := "(II)I" } : Jvm.MethodName)) ∈ lw_all := lw_g (lw_at lw_m10 76 rfl) rfl
theorem q2329 : (Jvm.Cond.code ({ cls := "FountainParkModel", name := "apart", desc := "(II)I" } : Jvm.MethodName) prog_8_method_27_code (2 : Nat) (Option.some Jvm.ClassFile.FieldType.int)) ∈ lw_all := lw_g (lw_at lw_m10 77 rfl) rfl
theorem q2330 : (Jvm.Cond.methodLink "FountainParkModel" (54 : Nat) ({ cls := "FountainParkModel", name := "closed", desc := "(I)I" } : Jvm.MethodName)) ∈ lw_all := lw_g (lw_at lw_m10 78 rfl) rfl
theorem q2331 : (Jvm.Cond.privateMethod ({ cls := "FountainParkModel", name := "closed", desc := "(I)I" } : Jvm.MethodName)) ∈ lw_tbl := lw_at lw_m10 79 rfl
theorem q2332 : (Jvm.Cond.instanceMethod ({ cls := "FountainParkModel", name := "closed", desc := "(I)I" } : Jvm.MethodName)) ∈ lw_all := lw_g (lw_at lw_m10 80 rfl) rfl
theorem q2333 : (Jvm.Cond.code ({ cls := "FountainParkModel", name := "closed", desc := "(I)I" } : Jvm.MethodName) prog_8_method_14_code (2 : Nat) (Option.some Jvm.ClassFile.FieldType.int)) ∈ lw_all := lw_g (lw_at lw_m10 81 rfl) rfl
theorem q2334 : (Jvm.Cond.methodLink "FountainParkModel" (95 : Nat) ({ cls := "FountainParkModel", name := "gives", desc := "(II)I" } : Jvm.MethodName)) ∈ lw_all := lw_g (lw_at lw_m10 82 rfl) rfl
theorem q2335 : (Jvm.Cond.privateMethod ({ cls := "FountainParkModel", name := "gives", desc := "(II)I" } : Jvm.MethodName)) ∈ lw_tbl := lw_at lw_m10 83 rfl
theorem q2336 : (Jvm.Cond.instanceMethod ({ cls := "FountainParkModel", name := "gives", desc := "(II)I" } : Jvm.MethodName)) ∈ lw_all := lw_g (lw_at lw_m10 84 rfl) rfl
theorem q2337 : (Jvm.Cond.code ({ cls := "FountainParkModel", name := "gives", desc := "(II)I" } : Jvm.MethodName) prog_8_method_26_code (5 : Nat) (Option.some Jvm.ClassFile.FieldType.int)) ∈ lw_all := lw_g (lw_at lw_m10 85 rfl) rfl
theorem q2339 : (Jvm.Cond.instanceMethod ({ cls := "FountainParkModel", name := "append", desc := "(I)I" } : Jvm.MethodName)) ∈ lw_all := lw_g (lw_at lw_m10 87 rfl) rfl
theorem q2340 : (Jvm.Cond.selects "FountainParkModel" ({ cls := "FountainParkModel", name := "append", desc := "(I)I" } : Jvm.MethodName) ({ cls := "FountainParkModel", name := "append", desc := "(I)I" } : Jvm.MethodName)) ∈ lw_all := lw_g (lw_at lw_m10 88 rfl) rfl
theorem q2341 : (Jvm.Cond.code ({ cls := "FountainParkModel", name := "append", desc := "(I)I" } : Jvm.MethodName) prog_8_method_48_code (2 : Nat) (Option.some Jvm.ClassFile.FieldType.int)) ∈ lw_all := lw_g (lw_at lw_m10 89 rfl) rfl
theorem q2343 : (Jvm.Cond.instanceMethod ({ cls := "FountainParkModel", name := "clearBuffer", desc := "()I" } : Jvm.MethodName)) ∈ lw_all := lw_g (lw_at lw_m10 91 rfl) rfl
theorem q2344 : (Jvm.Cond.selects "FountainParkModel" ({ cls := "FountainParkModel", name := "clearBuffer", desc := "()I" } : Jvm.MethodName) ({ cls := "FountainParkModel", name := "clearBuffer", desc := "()I" } : Jvm.MethodName)) ∈ lw_all := lw_g (lw_at lw_m10 92 rfl) rfl
theorem q2345 : (Jvm.Cond.code ({ cls := "FountainParkModel", name := "clearBuffer", desc := "()I" } : Jvm.MethodName) prog_8_method_49_code (2 : Nat) (Option.some Jvm.ClassFile.FieldType.int)) ∈ lw_all := lw_g (lw_at lw_m10 93 rfl) rfl
theorem q2347 : (Jvm.Cond.instanceMethod ({ cls := "FountainParkModel", name := "firstError", desc := "()I" } : Jvm.MethodName)) ∈ lw_all := lw_g (lw_at lw_m10 95 rfl) rfl
theorem q2348 : (Jvm.Cond.selects "FountainParkModel" ({ cls := "FountainParkModel", name := "firstError", desc := "()I" } : Jvm.MethodName) ({ cls := "FountainParkModel", name := "firstError", desc := "()I" } : Jvm.MethodName)) ∈ lw_all := lw_g (lw_at lw_m10 96 rfl) rfl
theorem q2349 : (Jvm.Cond.code ({ cls := "FountainParkModel", name := "firstError", desc := "()I" } : Jvm.MethodName) prog_8_method_57_code (1 : Nat) (Option.some Jvm.ClassFile.FieldType.int)) ∈ lw_all := lw_g (lw_at lw_m10 97 rfl) rfl
theorem q2350 : (Jvm.Cond.methodLink "FountainParkModel" (177 : Nat) ({ cls := "FountainParkModel", name := "readsAll", desc := "()V" } : Jvm.MethodName)) ∈ lw_all := lw_g (lw_at lw_m10 98 rfl) rfl
theorem q2351 : (Jvm.Cond.privateMethod ({ cls := "FountainParkModel", name := "readsAll", desc := "()V" } : Jvm.MethodName)) ∈ lw_tbl := lw_at lw_m10 99 rfl
theorem q2352 : (Jvm.Cond.instanceMethod ({ cls := "FountainParkModel", name := "readsAll", desc := "()V" } : Jvm.MethodName)) ∈ lw_all := lw_g (lw_at lw_m10 100 rfl) rfl
theorem q2353 : (Jvm.Cond.code ({ cls := "FountainParkModel", name := "readsAll", desc := "()V" } : Jvm.MethodName) prog_8_method_56_code (1 : Nat) (Option.none : Option Jvm.ClassFile.FieldType)) ∈ lw_all := lw_g (lw_at lw_m10 101 rfl) rfl
theorem q2354 : (Jvm.Cond.methodLink "FountainParkModel" (174 : Nat) ({ cls := "FountainParkModel", name := "readsPart", desc := "()V" } : Jvm.MethodName)) ∈ lw_all := lw_g (lw_at lw_m10 102 rfl) rfl
theorem q2355 : (Jvm.Cond.privateMethod ({ cls := "FountainParkModel", name := "readsPart", desc := "()V" } : Jvm.MethodName)) ∈ lw_tbl := lw_at lw_m10 103 rfl
theorem q2356 : (Jvm.Cond.instanceMethod ({ cls := "FountainParkModel", name := "readsPart", desc := "()V" } : Jvm.MethodName)) ∈ lw_all := lw_g (lw_at lw_m10 104 rfl) rfl
theorem q2357 : (Jvm.Cond.code ({ cls := "FountainParkModel", name := "readsPart", desc := "()V" } : Jvm.MethodName) prog_8_method_55_code (2 : Nat) (Option.none : Option Jvm.ClassFile.FieldType)) ∈ lw_all := lw_g (lw_at lw_m10 105 rfl) rfl
theorem q2358 : (Jvm.Cond.methodLink "FountainParkModel" (162 : Nat) ({ cls := "FountainParkModel", name := "number", desc := "(II)I" } : Jvm.MethodName)) ∈ lw_all := lw_g (lw_at lw_m10 106 rfl) rfl
theorem q2359 : (Jvm.Cond.privateMethod ({ cls := "FountainParkModel", name := "number", desc := "(II)I" } : Jvm.MethodName)) ∈ lw_tbl := lw_at lw_m10 107 rfl
theorem q2360 : (Jvm.Cond.instanceMethod ({ cls := "FountainParkModel", name := "number", desc := "(II)I" } : Jvm.MethodName)) ∈ lw_all := lw_g (lw_at lw_m10 108 rfl) rfl
theorem q2361 : (Jvm.Cond.code ({ cls := "FountainParkModel", name := "number", desc := "(II)I" } : Jvm.MethodName) prog_8_method_53_code (4 : Nat) (Option.some Jvm.ClassFile.FieldType.int)) ∈ lw_all := lw_g (lw_at lw_m10 109 rfl) rfl
theorem q2362 : (Jvm.Cond.methodLink "FountainParkModel" (156 : Nat) ({ cls := "FountainParkModel", name := "sign", desc := "()I" } : Jvm.MethodName)) ∈ lw_all := lw_g (lw_at lw_m10 110 rfl) rfl
theorem q2363 : (Jvm.Cond.privateMethod ({ cls := "FountainParkModel", name := "sign", desc := "()I" } : Jvm.MethodName)) ∈ lw_tbl := lw_at lw_m10 111 rfl
theorem q2364 : (Jvm.Cond.instanceMethod ({ cls := "FountainParkModel", name := "sign", desc := "()I" } : Jvm.MethodName)) ∈ lw_all := lw_g (lw_at lw_m10 112 rfl) rfl
theorem q2365 : (Jvm.Cond.code ({ cls := "FountainParkModel", name := "sign", desc := "()I" } : Jvm.MethodName) prog_8_method_50_code (1 : Nat) (Option.some Jvm.ClassFile.FieldType.int)) ∈ lw_all := lw_g (lw_at lw_m10 113 rfl) rfl
theorem q2366 : (Jvm.Cond.methodLink "FountainParkModel" (165 : Nat) ({ cls := "FountainParkModel", name := "wants", desc := "(I)V" } : Jvm.MethodName)) ∈ lw_all := lw_g (lw_at lw_m10 114 rfl) rfl
theorem q2367 : (Jvm.Cond.privateMethod ({ cls := "FountainParkModel", name := "wants", desc := "(I)V" } : Jvm.MethodName)) ∈ lw_tbl := lw_at lw_m10 115 rfl
theorem q2368 : (Jvm.Cond.instanceMethod ({ cls := "FountainParkModel", name := "wants", desc := "(I)V" } : Jvm.MethodName)) ∈ lw_all := lw_g (lw_at lw_m10 116 rfl) rfl
theorem q2369 : (Jvm.Cond.code ({ cls := "FountainParkModel", name := "wants", desc := "(I)V" } : Jvm.MethodName) prog_8_method_52_code (2 : Nat) (Option.none : Option Jvm.ClassFile.FieldType)) ∈ lw_all := lw_g (lw_at lw_m10 117 rfl) rfl
theorem q2370 : (Jvm.Cond.methodLink "FountainParkModel" (159 : Nat) ({ cls := "FountainParkModel", name := "takes", desc := "(I)Z" } : Jvm.MethodName)) ∈ lw_all := lw_g (lw_at lw_m10 118 rfl) rfl
theorem q2371 : (Jvm.Cond.privateMethod ({ cls := "FountainParkModel", name := "takes", desc := "(I)Z" } : Jvm.MethodName)) ∈ lw_tbl := lw_at lw_m10 119 rfl
theorem q2372 : (Jvm.Cond.instanceMethod ({ cls := "FountainParkModel", name := "takes", desc := "(I)Z" } : Jvm.MethodName)) ∈ lw_all := lw_g (lw_at lw_m10 120 rfl) rfl
theorem q2373 : (Jvm.Cond.code ({ cls := "FountainParkModel", name := "takes", desc := "(I)Z" } : Jvm.MethodName) prog_8_method_51_code (3 : Nat) (Option.some Jvm.ClassFile.FieldType.boolean)) ∈ lw_all := lw_g (lw_at lw_m10 121 rfl) rfl
theorem q2374 : (Jvm.Cond.methodLink "FountainParkModel" (171 : Nat) ({ cls := "FountainParkModel", name := "readsGroup", desc := "(I)V" } : Jvm.MethodName)) ∈ lw_all := lw_g (lw_at lw_m10 122 rfl) rfl
theorem q2375 : (Jvm.Cond.privateMethod ({ cls := "FountainParkModel", name := "readsGroup", desc := "(I)V" } : Jvm.MethodName)) ∈ lw_tbl := lw_at lw_m10 123 rfl
theorem q2376 : (Jvm.Cond.instanceMethod ({ cls := "FountainParkModel", name := "readsGroup", desc := "(I)V" } : Jvm.MethodName)) ∈ lw_all := lw_g (lw_at lw_m10 124 rfl) rfl
theorem q2377 : (Jvm.Cond.code ({ cls := "FountainParkModel", name := "readsGroup", desc := "(I)V" } : Jvm.MethodName) prog_8_method_54_code (4 : Nat) (Option.none : Option Jvm.ClassFile.FieldType)) ∈ lw_all := lw_g (lw_at lw_m10 125 rfl) rfl
theorem q2379 : (Jvm.Cond.instanceMethod ({ cls := "FountainParkModel", name := "planAll", desc := "()I" } : Jvm.MethodName)) ∈ lw_all := lw_g (lw_at lw_m10 127 rfl) rfl
theorem q2380 : (Jvm.Cond.selects "FountainParkModel" ({ cls := "FountainParkModel", name := "planAll", desc := "()I" } : Jvm.MethodName) ({ cls := "FountainParkModel", name := "planAll", desc := "()I" } : Jvm.MethodName)) ∈ lw_all := lw_g (lw_at lw_m10 128 rfl) rfl
theorem q2381 : (Jvm.Cond.code ({ cls := "FountainParkModel", name := "planAll", desc := "()I" } : Jvm.MethodName) prog_8_method_58_code (3 : Nat) (Option.some Jvm.ClassFile.FieldType.int)) ∈ lw_all := lw_g (lw_at lw_m10 129 rfl) rfl
theorem q2383 : (Jvm.Cond.instanceMethod ({ cls := "FountainParkModel", name := "undo", desc := "()I" } : Jvm.MethodName)) ∈ lw_all := lw_g (lw_at lw_m10 131 rfl) rfl
theorem q2384 : (Jvm.Cond.selects "FountainParkModel" ({ cls := "FountainParkModel", name := "undo", desc := "()I" } : Jvm.MethodName) ({ cls := "FountainParkModel", name := "undo", desc := "()I" } : Jvm.MethodName)) ∈ lw_all := lw_g (lw_at lw_m10 132 rfl) rfl
theorem q2385 : (Jvm.Cond.code ({ cls := "FountainParkModel", name := "undo", desc := "()I" } : Jvm.MethodName) prog_8_method_59_code (2 : Nat) (Option.some Jvm.ClassFile.FieldType.int)) ∈ lw_all := lw_g (lw_at lw_m10 133 rfl) rfl
theorem q2387 : (Jvm.Cond.instanceMethod ({ cls := "FountainParkModel", name := "fountain", desc := "(II)I" } : Jvm.MethodName)) ∈ lw_all := lw_g (lw_at lw_m10 135 rfl) rfl
theorem q2388 : (Jvm.Cond.selects "FountainParkModel" ({ cls := "FountainParkModel", name := "fountain", desc := "(II)I" } : Jvm.MethodName) ({ cls := "FountainParkModel", name := "fountain", desc := "(II)I" } : Jvm.MethodName)) ∈ lw_all := lw_g (lw_at lw_m10 136 rfl) rfl
theorem q2389 : (Jvm.Cond.code ({ cls := "FountainParkModel", name := "fountain", desc := "(II)I" } : Jvm.MethodName) prog_8_method_61_code (3 : Nat) (Option.some Jvm.ClassFile.FieldType.int)) ∈ lw_all := lw_g (lw_at lw_m10 137 rfl) rfl
theorem q2390 : (Jvm.Cond.methodLink "FountainParkModel" (180 : Nat) ({ cls := "FountainParkModel", name := "tellsPlace", desc := "(II)I" } : Jvm.MethodName)) ∈ lw_all := lw_g (lw_at lw_m10 138 rfl) rfl
theorem q2391 : (Jvm.Cond.privateMethod ({ cls := "FountainParkModel", name := "tellsPlace", desc := "(II)I" } : Jvm.MethodName)) ∈ lw_tbl := lw_at lw_m10 139 rfl
theorem q2392 : (Jvm.Cond.instanceMethod ({ cls := "FountainParkModel", name := "tellsPlace", desc := "(II)I" } : Jvm.MethodName)) ∈ lw_all := lw_g (lw_at lw_m10 140 rfl) rfl
theorem q2393 : (Jvm.Cond.code ({ cls := "FountainParkModel", name := "tellsPlace", desc := "(II)I" } : Jvm.MethodName) prog_8_method_60_code (3 : Nat) (Option.some Jvm.ClassFile.FieldType.int)) ∈ lw_all := lw_g (lw_at lw_m10 141 rfl) rfl
theorem q2395 : (Jvm.Cond.instanceMethod ({ cls := "FountainParkModel", name := "job", desc := "(II)I" } : Jvm.MethodName)) ∈ lw_all := lw_g (lw_at lw_m10 143 rfl) rfl
theorem q2396 : (Jvm.Cond.selects "FountainParkModel" ({ cls := "FountainParkModel", name := "job", desc := "(II)I" } : Jvm.MethodName) ({ cls := "FountainParkModel", name := "job", desc := "(II)I" } : Jvm.MethodName)) ∈ lw_all := lw_g (lw_at lw_m10 144 rfl) rfl
theorem q2397 : (Jvm.Cond.code ({ cls := "FountainParkModel", name := "job", desc := "(II)I" } : Jvm.MethodName) prog_8_method_64_code (3 : Nat) (Option.some Jvm.ClassFile.FieldType.int)) ∈ lw_all := lw_g (lw_at lw_m10 145 rfl) rfl
theorem q2398 : (Jvm.Cond.methodLink "FountainParkModel" (186 : Nat) ({ cls := "FountainParkModel", name := "tellsJob", desc := "(II)I" } : Jvm.MethodName)) ∈ lw_all := lw_g (lw_at lw_m10 146 rfl) rfl
theorem q2399 : (Jvm.Cond.privateMethod ({ cls := "FountainParkModel", name := "tellsJob", desc := "(II)I" } : Jvm.MethodName)) ∈ lw_tbl := lw_at lw_m10 147 rfl
theorem q2400 : (Jvm.Cond.instanceMethod ({ cls := "FountainParkModel", name := "tellsJob", desc := "(II)I" } : Jvm.MethodName)) ∈ lw_all := lw_g (lw_at lw_m10 148 rfl) rfl
theorem q2401 : (Jvm.Cond.code ({ cls := "FountainParkModel", name := "tellsJob", desc := "(II)I" } : Jvm.MethodName) prog_8_method_63_code (4 : Nat) (Option.some Jvm.ClassFile.FieldType.int)) ∈ lw_all := lw_g (lw_at lw_m10 149 rfl) rfl
theorem q2402 : (Jvm.Cond.methodLink "FountainParkModel" (183 : Nat) ({ cls := "FountainParkModel", name := "rankOf", desc := "(I)I" } : Jvm.MethodName)) ∈ lw_all := lw_g (lw_at lw_m10 150 rfl) rfl
theorem q2403 : (Jvm.Cond.privateMethod ({ cls := "FountainParkModel", name := "rankOf", desc := "(I)I" } : Jvm.MethodName)) ∈ lw_tbl := lw_at lw_m10 151 rfl
theorem q2404 : (Jvm.Cond.instanceMethod ({ cls := "FountainParkModel", name := "rankOf", desc := "(I)I" } : Jvm.MethodName)) ∈ lw_all := lw_g (lw_at lw_m10 152 rfl) rfl
theorem q2405 : (Jvm.Cond.code ({ cls := "FountainParkModel", name := "rankOf", desc := "(I)I" } : Jvm.MethodName) prog_8_method_62_code (4 : Nat) (Option.some Jvm.ClassFile.FieldType.int)) ∈ lw_all := lw_g (lw_at lw_m10 153 rfl) rfl
theorem q2407 : (Jvm.Cond.instanceMethod ({ cls := "FountainParkModel", name := "frostOf", desc := "(II)I" } : Jvm.MethodName)) ∈ lw_all := lw_g (lw_at lw_m10 155 rfl) rfl
theorem q2408 : (Jvm.Cond.selects "FountainParkModel" ({ cls := "FountainParkModel", name := "frostOf", desc := "(II)I" } : Jvm.MethodName) ({ cls := "FountainParkModel", name := "frostOf", desc := "(II)I" } : Jvm.MethodName)) ∈ lw_all := lw_g (lw_at lw_m10 156 rfl) rfl
theorem q2409 : (Jvm.Cond.code ({ cls := "FountainParkModel", name := "frostOf", desc := "(II)I" } : Jvm.MethodName) prog_8_method_65_code (3 : Nat) (Option.some Jvm.ClassFile.FieldType.int)) ∈ lw_all := lw_g (lw_at lw_m10 157 rfl) rfl
theorem q2411 : (Jvm.Cond.instanceMethod ({ cls := "FountainParkModel", name := "outing", desc := "(II)I" } : Jvm.MethodName)) ∈ lw_all := lw_g (lw_at lw_m10 159 rfl) rfl
theorem q2412 : (Jvm.Cond.selects "FountainParkModel" ({ cls := "FountainParkModel", name := "outing", desc := "(II)I" } : Jvm.MethodName) ({ cls := "FountainParkModel", name := "outing", desc := "(II)I" } : Jvm.MethodName)) ∈ lw_all := lw_g (lw_at lw_m10 160 rfl) rfl
theorem q2413 : (Jvm.Cond.code ({ cls := "FountainParkModel", name := "outing", desc := "(II)I" } : Jvm.MethodName) prog_8_method_67_code (3 : Nat) (Option.some Jvm.ClassFile.FieldType.int)) ∈ lw_all := lw_g (lw_at lw_m10 161 rfl) rfl
theorem q2414 : (Jvm.Cond.methodLink "FountainParkModel" (189 : Nat) ({ cls := "FountainParkModel", name := "tellsOuting", desc := "(II)I" } : Jvm.MethodName)) ∈ lw_all := lw_g (lw_at lw_m10 162 rfl) rfl
theorem q2415 : (Jvm.Cond.privateMethod ({ cls := "FountainParkModel", name := "tellsOuting", desc := "(II)I" } : Jvm.MethodName)) ∈ lw_tbl := lw_at lw_m10 163 rfl
theorem q2416 : (Jvm.Cond.instanceMethod ({ cls := "FountainParkModel", name := "tellsOuting", desc := "(II)I" } : Jvm.MethodName)) ∈ lw_all := lw_g (lw_at lw_m10 164 rfl) rfl
theorem q2417 : (Jvm.Cond.code ({ cls := "FountainParkModel", name := "tellsOuting", desc := "(II)I" } : Jvm.MethodName) prog_8_method_66_code (8 : Nat) (Option.some Jvm.ClassFile.FieldType.int)) ∈ lw_all := lw_g (lw_at lw_m10 165 rfl) rfl
theorem q2419 : (Jvm.Cond.instanceMethod ({ cls := "FountainParkModel", name := "count", desc := "(I)I" } : Jvm.MethodName)) ∈ lw_all := lw_g (lw_at lw_m10 167 rfl) rfl
theorem q2420 : (Jvm.Cond.selects "FountainParkModel" ({ cls := "FountainParkModel", name := "count", desc := "(I)I" } : Jvm.MethodName) ({ cls := "FountainParkModel", name := "count", desc := "(I)I" } : Jvm.MethodName)) ∈ lw_all := lw_g (lw_at lw_m10 168 rfl) rfl
theorem q2421 : (Jvm.Cond.code ({ cls := "FountainParkModel", name := "count", desc := "(I)I" } : Jvm.MethodName) prog_8_method_69_code (2 : Nat) (Option.some Jvm.ClassFile.FieldType.int)) ∈ lw_all := lw_g (lw_at lw_m10 169 rfl) rfl
theorem q2422 : (Jvm.Cond.methodLink "FountainParkModel" (198 : Nat) ({ cls := "FountainParkModel", name := "counts", desc := "(I)I" } : Jvm.MethodName)) ∈ lw_all := lw_g (lw_at lw_m10 170 rfl) rfl
theorem q2423 : (Jvm.Cond.privateMethod ({ cls := "FountainParkModel", name := "counts", desc := "(I)I" } : Jvm.MethodName)) ∈ lw_tbl := lw_at lw_m10 171 rfl
theorem q2424 : (Jvm.Cond.instanceMethod ({ cls := "FountainParkModel", name := "counts", desc := "(I)I" } : Jvm.MethodName)) ∈ lw_all := lw_g (lw_at lw_m10 172 rfl) rfl
theorem q2425 : (Jvm.Cond.code ({ cls := "FountainParkModel", name := "counts", desc := "(I)I" } : Jvm.MethodName) prog_8_method_68_code (2 : Nat) (Option.some Jvm.ClassFile.FieldType.int)) ∈ lw_all := lw_g (lw_at lw_m10 173 rfl) rfl
theorem q2426 : (Jvm.Cond.methodLink "FountainParkModel" (192 : Nat) ({ cls := "FountainParkModel", name := "open", desc := "()I" } : Jvm.MethodName)) ∈ lw_all := lw_g (lw_at lw_m10 174 rfl) rfl
theorem q2427 : (Jvm.Cond.privateMethod ({ cls := "FountainParkModel", name := "open", desc := "()I" } : Jvm.MethodName)) ∈ lw_tbl := lw_at lw_m10 175 rfl
theorem q2428 : (Jvm.Cond.instanceMethod ({ cls := "FountainParkModel", name := "open", desc := "()I" } : Jvm.MethodName)) ∈ lw_all := lw_g (lw_at lw_m10 176 rfl) rfl
theorem q2429 : (Jvm.Cond.code ({ cls := "FountainParkModel", name := "open", desc := "()I" } : Jvm.MethodName) prog_8_method_15_code (3 : Nat) (Option.some Jvm.ClassFile.FieldType.int)) ∈ lw_all := lw_g (lw_at lw_m10 177 rfl) rfl
theorem q2430 : (Jvm.Cond.methodLink "FountainParkModel" (195 : Nat) ({ cls := "FountainParkModel", name := "jobs", desc := "()I" } : Jvm.MethodName)) ∈ lw_all := lw_g (lw_at lw_m10 178 rfl) rfl
theorem q2431 : (Jvm.Cond.privateMethod ({ cls := "FountainParkModel", name := "jobs", desc := "()I" } : Jvm.MethodName)) ∈ lw_tbl := lw_at lw_m10 179 rfl
theorem q2432 : (Jvm.Cond.instanceMethod ({ cls := "FountainParkModel", name := "jobs", desc := "()I" } : Jvm.MethodName)) ∈ lw_all := lw_g (lw_at lw_m10 180 rfl) rfl
theorem q2433 : (Jvm.Cond.code ({ cls := "FountainParkModel", name := "jobs", desc := "()I" } : Jvm.MethodName) prog_8_method_19_code (3 : Nat) (Option.some Jvm.ClassFile.FieldType.int)) ∈ lw_all := lw_g (lw_at lw_m10 181 rfl) rfl
theorem q2435 : (Jvm.Cond.instanceMethod ({ cls := "FountainParkModel", name := "setting", desc := "(I)I" } : Jvm.MethodName)) ∈ lw_all := lw_g (lw_at lw_m10 183 rfl) rfl
theorem q2436 : (Jvm.Cond.selects "FountainParkModel" ({ cls := "FountainParkModel", name := "setting", desc := "(I)I" } : Jvm.MethodName) ({ cls := "FountainParkModel", name := "setting", desc := "(I)I" } : Jvm.MethodName)) ∈ lw_all := lw_g (lw_at lw_m10 184 rfl) rfl
theorem q2437 : (Jvm.Cond.code ({ cls := "FountainParkModel", name := "setting", desc := "(I)I" } : Jvm.MethodName) prog_8_method_70_code (2 : Nat) (Option.some Jvm.ClassFile.FieldType.int)) ∈ lw_all := lw_g (lw_at lw_m10 185 rfl) rfl
theorem q2439 : (Jvm.Cond.instanceMethod ({ cls := "FountainParkModel", name := "ifPassed", desc := "(II)I" } : Jvm.MethodName)) ∈ lw_all := lw_g (lw_at lw_m10 187 rfl) rfl
theorem q2440 : (Jvm.Cond.selects "FountainParkModel" ({ cls := "FountainParkModel", name := "ifPassed", desc := "(II)I" } : Jvm.MethodName) ({ cls := "FountainParkModel", name := "ifPassed", desc := "(II)I" } : Jvm.MethodName)) ∈ lw_all := lw_g (lw_at lw_m10 188 rfl) rfl
theorem q2441 : (Jvm.Cond.code ({ cls := "FountainParkModel", name := "ifPassed", desc := "(II)I" } : Jvm.MethodName) prog_8_method_72_code (3 : Nat) (Option.some Jvm.ClassFile.FieldType.int)) ∈ lw_all := lw_g (lw_at lw_m10 189 rfl) rfl
theorem q2442 : (Jvm.Cond.methodLink "FountainParkModel" (207 : Nat) ({ cls := "FountainParkModel", name := "passed", desc := "(II)I" } : Jvm.MethodName)) ∈ lw_all := lw_g (lw_at lw_m10 190 rfl) rfl
theorem q2443 : (Jvm.Cond.privateMethod ({ cls := "FountainParkModel", name := "passed", desc := "(II)I" } : Jvm.MethodName)) ∈ lw_tbl := lw_at lw_m10 191 rfl
theorem q2444 : (Jvm.Cond.instanceMethod ({ cls := "FountainParkModel", name := "passed", desc := "(II)I" } : Jvm.MethodName)) ∈ lw_all := lw_g (lw_at lw_m10 192 rfl) rfl
theorem q2445 : (Jvm.Cond.code ({ cls := "FountainParkModel", name := "passed", desc := "(II)I" } : Jvm.MethodName) prog_8_method_71_code (6 : Nat) (Option.some Jvm.ClassFile.FieldType.int)) ∈ lw_all := lw_g (lw_at lw_m10 193 rfl) rfl
theorem q2446 : (Jvm.Cond.methodLink "FountainParkModel" (201 : Nat) ({ cls := "FountainParkModel", name := "putAside", desc := "()V" } : Jvm.MethodName)) ∈ lw_all := lw_g (lw_at lw_m10 194 rfl) rfl
theorem q2447 : (Jvm.Cond.privateMethod ({ cls := "FountainParkModel", name := "putAside", desc := "()V" } : Jvm.MethodName)) ∈ lw_tbl := lw_at lw_m10 195 rfl
theorem q2448 : (Jvm.Cond.instanceMethod ({ cls := "FountainParkModel", name := "putAside", desc := "()V" } : Jvm.MethodName)) ∈ lw_all := lw_g (lw_at lw_m10 196 rfl) rfl
theorem q2449 : (Jvm.Cond.code ({ cls := "FountainParkModel", name := "putAside", desc := "()V" } : Jvm.MethodName) prog_8_method_7_code (2 : Nat) (Option.none : Option Jvm.ClassFile.FieldType)) ∈ lw_all := lw_g (lw_at lw_m10 197 rfl) rfl
theorem q2450 : (Jvm.Cond.methodLink "FountainParkModel" (204 : Nat) ({ cls := "FountainParkModel", name := "takeBack", desc := "()V" } : Jvm.MethodName)) ∈ lw_all := lw_g (lw_at lw_m10 198 rfl) rfl
theorem q2451 : (Jvm.Cond.privateMethod ({ cls := "FountainParkModel", name := "takeBack", desc := "()V" } : Jvm.MethodName)) ∈ lw_tbl := lw_at lw_m10 199 rfl
theorem q2452 : (Jvm.Cond.instanceMethod ({ cls := "FountainParkModel", name := "takeBack", desc := "()V" } : Jvm.MethodName)) ∈ lw_all := lw_g (lw_at lw_m10 200 rfl) rfl
theorem q2453 : (Jvm.Cond.code ({ cls := "FountainParkModel", name := "takeBack", desc := "()V" } : Jvm.MethodName) prog_8_method_8_code (2 : Nat) (Option.none : Option Jvm.ClassFile.FieldType)) ∈ lw_all := lw_g (lw_at lw_m10 201 rfl) rfl
theorem q2455 : (Jvm.Cond.instanceMethod ({ cls := "FountainParkModel", name := "ifOuting", desc := "(II)I" } : Jvm.MethodName)) ∈ lw_all := lw_g (lw_at lw_m10 203 rfl) rfl
theorem q2456 : (Jvm.Cond.selects "FountainParkModel" ({ cls := "FountainParkModel", name := "ifOuting", desc := "(II)I" } : Jvm.MethodName) ({ cls := "FountainParkModel", name := "ifOuting", desc := "(II)I" } : Jvm.MethodName)) ∈ lw_all := lw_g (lw_at lw_m10 204 rfl) rfl
theorem q2457 : (Jvm.Cond.code ({ cls := "FountainParkModel", name := "ifOuting", desc := "(II)I" } : Jvm.MethodName) prog_8_method_74_code (3 : Nat) (Option.some Jvm.ClassFile.FieldType.int)) ∈ lw_all := lw_g (lw_at lw_m10 205 rfl) rfl
theorem q2458 : (Jvm.Cond.methodLink "FountainParkModel" (210 : Nat) ({ cls := "FountainParkModel", name := "moreThirst", desc := "(II)I" } : Jvm.MethodName)) ∈ lw_all := lw_g (lw_at lw_m10 206 rfl) rfl
theorem q2459 : (Jvm.Cond.privateMethod ({ cls := "FountainParkModel", name := "moreThirst", desc := "(II)I" } : Jvm.MethodName)) ∈ lw_tbl := lw_at lw_m10 207 rfl
theorem q2460 : (Jvm.Cond.instanceMethod ({ cls := "FountainParkModel", name := "moreThirst", desc := "(II)I" } : Jvm.MethodName)) ∈ lw_all := lw_g (lw_at lw_m10 208 rfl) rfl
theorem q2461 : (Jvm.Cond.code ({ cls := "FountainParkModel", name := "moreThirst", desc := "(II)I" } : Jvm.MethodName) prog_8_method_73_code (5 : Nat) (Option.some Jvm.ClassFile.FieldType.int)) ∈ lw_all := lw_g (lw_at lw_m10 209 rfl) rfl
theorem q2463 : (Jvm.Cond.instanceMethod ({ cls := "FountainParkModel", name := "bestGate", desc := "(I)I" } : Jvm.MethodName)) ∈ lw_all := lw_g (lw_at lw_m10 211 rfl) rfl
theorem q2464 : (Jvm.Cond.selects "FountainParkModel" ({ cls := "FountainParkModel", name := "bestGate", desc := "(I)I" } : Jvm.MethodName) ({ cls := "FountainParkModel", name := "bestGate", desc := "(I)I" } : Jvm.MethodName)) ∈ lw_all := lw_g (lw_at lw_m10 212 rfl) rfl
theorem q2465 : (Jvm.Cond.code ({ cls := "FountainParkModel", name := "bestGate", desc := "(I)I" } : Jvm.MethodName) prog_8_method_76_code (2 : Nat) (Option.some Jvm.ClassFile.FieldType.int)) ∈ lw_all := lw_g (lw_at lw_m10 213 rfl) rfl
theorem q2466 : (Jvm.Cond.methodLink "FountainParkModel" (213 : Nat) ({ cls := "FountainParkModel", name := "gateFor", desc := "(I)I" } : Jvm.MethodName)) ∈ lw_all := lw_g (lw_at lw_m10 214 rfl) rfl
theorem q2467 : (Jvm.Cond.privateMethod ({ cls := "FountainParkModel", name := "gateFor", desc := "(I)I" } : Jvm.MethodName)) ∈ lw_tbl := lw_at lw_m10 215 rfl
theorem q2468 : (Jvm.Cond.instanceMethod ({ cls := "FountainParkModel", name := "gateFor", desc := "(I)I" } : Jvm.MethodName)) ∈ lw_all := lw_g (lw_at lw_m10 216 rfl) rfl
theorem q2469 : (Jvm.Cond.code ({ cls := "FountainParkModel", name := "gateFor", desc := "(I)I" } : Jvm.MethodName) prog_8_method_75_code (6 : Nat) (Option.some Jvm.ClassFile.FieldType.int)) ∈ lw_all := lw_g (lw_at lw_m10 217 rfl) rfl
theorem q2471 : (Jvm.Cond.instanceMethod ({ cls := "FountainParkModel", name := "daysToFilter", desc := "(I)I" } : Jvm.MethodName)) ∈ lw_all := lw_g (lw_at lw_m10 219 rfl) rfl
theorem q2472 : (Jvm.Cond.selects "FountainParkModel" ({ cls := "FountainParkModel", name := "daysToFilter", desc := "(I)I" } : Jvm.MethodName) ({ cls := "FountainParkModel", name := "daysToFilter", desc := "(I)I" } : Jvm.MethodName)) ∈ lw_all := lw_g (lw_at lw_m10 220 rfl) rfl
theorem q2473 : (Jvm.Cond.code ({ cls := "FountainParkModel", name := "daysToFilter", desc := "(I)I" } : Jvm.MethodName) prog_8_method_79_code (2 : Nat) (Option.some Jvm.ClassFile.FieldType.int)) ∈ lw_all := lw_g (lw_at lw_m10 221 rfl) rfl
theorem q2474 : (Jvm.Cond.methodLink "FountainParkModel" (219 : Nat) ({ cls := "FountainParkModel", name := "untilUsed", desc := "(I)I" } : Jvm.MethodName)) ∈ lw_all := lw_g (lw_at lw_m10 222 rfl) rfl
theorem q2475 : (Jvm.Cond.privateMethod ({ cls := "FountainParkModel", name := "untilUsed", desc := "(I)I" } : Jvm.MethodName)) ∈ lw_tbl := lw_at lw_m10 223 rfl
theorem q2476 : (Jvm.Cond.instanceMethod ({ cls := "FountainParkModel", name := "untilUsed", desc := "(I)I" } : Jvm.MethodName)) ∈ lw_all := lw_g (lw_at lw_m10 224 rfl) rfl
theorem q2477 : (Jvm.Cond.code ({ cls := "FountainParkModel", name := "untilUsed", desc := "(I)I" } : Jvm.MethodName) prog_8_method_78_code (4 : Nat) (Option.some Jvm.ClassFile.FieldType.int)) ∈ lw_all := lw_g (lw_at lw_m10 225 rfl) rfl
theorem q2478 : (Jvm.Cond.methodLink "FountainParkModel" (216 : Nat) ({ cls := "FountainParkModel", name := "isUsedUp", desc := "(I)Z" } : Jvm.MethodName)) ∈ lw_all := lw_g (lw_at lw_m10 226 rfl) rfl
theorem q2479 : (Jvm.Cond.privateMethod ({ cls := "FountainParkModel", name := "isUsedUp", desc := "(I)Z" } : Jvm.MethodName)) ∈ lw_tbl := lw_at lw_m10 227 rfl
theorem q2480 : (Jvm.Cond.instanceMethod ({ cls := "FountainParkModel", name := "isUsedUp", desc := "(I)Z" } : Jvm.MethodName)) ∈ lw_all := lw_g (lw_at lw_m10 228 rfl) rfl
theorem q2481 : (Jvm.Cond.code ({ cls := "FountainParkModel", name := "isUsedUp", desc := "(I)Z" } : Jvm.MethodName) prog_8_method_77_code (2 : Nat) (Option.some Jvm.ClassFile.FieldType.boolean)) ∈ lw_all := lw_g (lw_at lw_m10 229 rfl) rfl
theorem q2483 : (Jvm.Cond.instanceMethod ({ cls := "FountainParkModel", name := "bestOrder", desc := "(I)I" } : Jvm.MethodName)) ∈ lw_all := lw_g (lw_at lw_m10 231 rfl) rfl
theorem q2484 : (Jvm.Cond.selects "FountainParkModel" ({ cls := "FountainParkModel", name := "bestOrder", desc := "(I)I" } : Jvm.MethodName) ({ cls := "FountainParkModel", name := "bestOrder", desc := "(I)I" } : Jvm.MethodName)) ∈ lw_all := lw_g (lw_at lw_m10 232 rfl) rfl
theorem q2485 : (Jvm.Cond.code ({ cls := "FountainParkModel", name := "bestOrder", desc := "(I)I" } : Jvm.MethodName) prog_8_method_81_code (2 : Nat) (Option.some Jvm.ClassFile.FieldType.int)) ∈ lw_all := lw_g (lw_at lw_m10 233 rfl) rfl
theorem q2486 : (Jvm.Cond.methodLink "FountainParkModel" (222 : Nat) ({ cls := "FountainParkModel", name := "orderFor", desc := "(I)I" } : Jvm.MethodName)) ∈ lw_all := lw_g (lw_at lw_m10 234 rfl) rfl
theorem q2487 : (Jvm.Cond.privateMethod ({ cls := "FountainParkModel", name := "orderFor", desc := "(I)I" } : Jvm.MethodName)) ∈ lw_tbl := lw_at lw_m10 235 rfl
theorem q2488 : (Jvm.Cond.instanceMethod ({ cls := "FountainParkModel", name := "orderFor", desc := "(I)I" } : Jvm.MethodName)) ∈ lw_all := lw_g (lw_at lw_m10 236 rfl) rfl
theorem q2489 : (Jvm.Cond.code ({ cls := "FountainParkModel", name := "orderFor", desc := "(I)I" } : Jvm.MethodName) prog_8_method_80_code (9 : Nat) (Option.some Jvm.ClassFile.FieldType.int)) ∈ lw_all := lw_g (lw_at lw_m10 237 rfl) rfl
theorem q2491 : (Jvm.Cond.instanceMethod ({ cls := "FountainParkModel", name := "fed", desc := "()D" } : Jvm.MethodName)) ∈ lw_all := lw_g (lw_at lw_m10 239 rfl) rfl
theorem q2492 : (Jvm.Cond.selects "FountainParkModel" ({ cls := "FountainParkModel", name := "fed", desc := "()D" } : Jvm.MethodName) ({ cls := "FountainParkModel", name := "fed", desc := "()D" } : Jvm.MethodName)) ∈ lw_all := lw_g (lw_at lw_m11 0 rfl) rfl
theorem q2493 : (Jvm.Cond.code ({ cls := "FountainParkModel", name := "fed", desc := "()D" } : Jvm.MethodName) prog_8_method_82_code (1 : Nat) (Option.some Jvm.ClassFile.FieldType.double)) ∈ lw_all := lw_g (lw_at lw_m11 1 rfl) rfl
theorem q2495 : (Jvm.Cond.instanceMethod ({ cls := "FountainParkModel", name := "digest", desc := "()J" } : Jvm.MethodName)) ∈ lw_all := lw_g (lw_at lw_m11 3 rfl) rfl
theorem q2496 : (Jvm.Cond.selects "FountainParkModel" ({ cls := "FountainParkModel", name := "digest", desc := "()J" } : Jvm.MethodName) ({ cls := "FountainParkModel", name := "digest", desc := "()J" } : Jvm.MethodName)) ∈ lw_all := lw_g (lw_at lw_m11 4 rfl) rfl
theorem q2497 : (Jvm.Cond.code ({ cls := "FountainParkModel", name := "digest", desc := "()J" } : Jvm.MethodName) prog_8_method_85_code (3 : Nat) (Option.some Jvm.ClassFile.FieldType.long)) ∈ lw_all := lw_g (lw_at lw_m11 5 rfl) rfl
theorem q2498 : (Jvm.Cond.constantLong "FountainParkModel" (235 : Nat) (2851 : Int64)) ∈ lw_all := lw_g (lw_at lw_m11 6 rfl) rfl
theorem q2499 : (Jvm.Cond.methodLink "FountainParkModel" (231 : Nat) ({ cls := "FountainParkModel", name := "hashes", desc := "(J)V" } : Jvm.MethodName)) ∈ lw_all := lw_g (lw_at lw_m11 7 rfl) rfl
theorem q2500 : (Jvm.Cond.privateMethod ({ cls := "FountainParkModel", name := "hashes", desc := "(J)V" } : Jvm.MethodName)) ∈ lw_tbl := lw_at lw_m11 8 rfl
theorem q2501 : (Jvm.Cond.instanceMethod ({ cls := "FountainParkModel", name := "hashes", desc := "(J)V" } : Jvm.MethodName)) ∈ lw_all := lw_g (lw_at lw_m11 9 rfl) rfl
theorem q2502 : (Jvm.Cond.code ({ cls := "FountainParkModel", name := "hashes", desc := "(J)V" } : Jvm.MethodName) prog_8_method_83_code (3 : Nat) (Option.none : Option Jvm.ClassFile.FieldType)) ∈ lw_all := lw_g (lw_at lw_m11 10 rfl) rfl
theorem q2503 : (Jvm.Cond.constantLong "FountainParkModel" (225 : Nat) (31 : Int64)) ∈ lw_all := lw_g (lw_at lw_m11 11 rfl) rfl
theorem q2504 : (Jvm.Cond.methodLink "FountainParkModel" (237 : Nat) ({ cls := "FountainParkModel", name := "hashesPlaces", desc := "()V" } : Jvm.MethodName)) ∈ lw_all := lw_g (lw_at lw_m11 12 rfl) rfl
theorem q2505 : (Jvm.Cond.privateMethod ({ cls := "FountainParkModel", name := "hashesPlaces", desc := "()V" } : Jvm.MethodName)) ∈ lw_tbl := lw_at lw_m11 13 rfl
theorem q2506 : (Jvm.Cond.instanceMethod ({ cls := "FountainParkModel", name := "hashesPlaces", desc := "()V" } : Jvm.MethodName)) ∈ lw_all := lw_g (lw_at lw_m11 14 rfl) rfl
theorem q2507 : (Jvm.Cond.code ({ cls := "FountainParkModel", name := "hashesPlaces", desc := "()V" } : Jvm.MethodName) prog_8_method_84_code (3 : Nat) (Option.none : Option Jvm.ClassFile.FieldType)) ∈ lw_all := lw_g (lw_at lw_m11 15 rfl) rfl
theorem q2508 : (Jvm.Cond.methodLink "FountainParkModel" (240 : Nat) ({ cls := "FountainParkModel", name := "fed", desc := "()D" } : Jvm.MethodName)) ∈ lw_all := lw_g (lw_at lw_m11 16 rfl) rfl
theorem q2509 : (Jvm.Cond.methodLink "FountainParkModel" (244 : Nat) ({ cls := "java/lang/Double", name := "doubleToLongBits", desc := "(D)J" } : Jvm.MethodName)) ∈ lw_all := lw_g (lw_at lw_m11 17 rfl) rfl
theorem q2542 : (Jvm.Cond.castable "FountainParkModel" "java/lang/Object") ∈ lw_tbl := lw_at lw_m11 50 rfl
theorem in_X5 : ∀ w ∈ wsX50, w ∈ lw_all := lw_in wsX50 [2142, 2144, 2146, 2148, 2150, 2152, 2154, 2156, 2158, 2160, 2162, 2164, 2166, 2168, 2170] (by decide +kernel) (by decide +kernel)
