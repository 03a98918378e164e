/-! FountainPark -/
set_option maxRecDepth 100000
def RX1 : String := "FountainPark"
def TX1 : u_T := fun k => match k with
  | 0 => ("FountainPark", "now", "LFountainPark$Park;", true)
  | 1 => ("FountainPark", "tried", "LFountainPark$Park;", true)
  | 2 => ("FountainPark", "saved", "Ljava/util/ArrayList;", true)
  | 3 => ("FountainPark", "text", "Ljava/lang/StringBuilder;", true)
  | _ => ("FountainPark", "hash", "J", false)
def tyX1 : Nat → FieldType := fun k => match k with
  | 0 => .object "FountainPark$Park"
  | 1 => .object "FountainPark$Park"
  | 2 => .object "java/util/ArrayList"
  | 3 => .object "java/lang/StringBuilder"
  | _ => .long
abbrev wsX10 : List Cond := u_ws RX1 TX1 5
theorem nmX1 : ∀ a, a < 5 → ∀ b, b < 5 → a ≠ b → (TX1 a).2.1 ≠ (TX1 b).2.1 := by decide +kernel
theorem tyX1_ok : ∀ k, k < 5 → parseFieldDescriptor (TX1 k).2.2.1 = some (tyX1 k) := by decide +kernel
abbrev cX1_init : ByteArray := prog_1_method_2_code
def yX1_init : MethodName := ⟨RX1, "<init>", "()V"⟩
def dkwX1_init_2 : List UInt8 := [181, 0, 31, 177]
abbrev dktX1_init_2 : List UInt8 := dkwX1_init_2 ++ []
def dkwX1_init_1 : List UInt8 := [181, 0, 16, 42, 187, 0, 19, 89, 183, 0, 21, 181, 0, 22, 42, 187, 0, 26, 89, 16, 60, 183, 0, 28]
abbrev dktX1_init_1 : List UInt8 := dkwX1_init_1 ++ dktX1_init_2
def dkwX1_init_0 : List UInt8 := [42, 183, 0, 1, 42, 187, 0, 7, 89, 183, 0, 9, 181, 0, 10, 42, 187, 0, 7, 89, 183, 0, 9]
abbrev dktX1_init_0 : List UInt8 := dkwX1_init_0 ++ dktX1_init_1
theorem dksX1_init_0 : cX1_init.data.toList.drop 0 = dktX1_init_0 := by decide +kernel
theorem dksX1_init_1 : cX1_init.data.toList.drop 23 = dktX1_init_1 := dk_seg dksX1_init_0 23 rfl rfl
theorem dksX1_init_2 : cX1_init.data.toList.drop 47 = dktX1_init_2 := dk_seg dksX1_init_1 24 rfl rfl
theorem dX1_init_0 : decode cX1_init 0 = .ok (.aload_n 0, 1) := dk_42 (dk_at dksX1_init_0 0 rfl rfl)
theorem dX1_init_1 : decode cX1_init 1 = .ok (.invokespecial 1, 3) := dk_183 0 1 (dk_at dksX1_init_0 1 rfl rfl)
theorem dX1_init_4 : decode cX1_init 4 = .ok (.aload_n 0, 1) := dk_42 (dk_at dksX1_init_0 4 rfl rfl)
theorem dX1_init_5 : decode cX1_init 5 = .ok (.new 7, 3) := dk_187 0 7 (dk_at dksX1_init_0 5 rfl rfl)
theorem dX1_init_8 : decode cX1_init 8 = .ok (.dup, 1) := dk_89 (dk_at dksX1_init_0 8 rfl rfl)
theorem dX1_init_9 : decode cX1_init 9 = .ok (.invokespecial 9, 3) := dk_183 0 9 (dk_at dksX1_init_0 9 rfl rfl)
theorem dX1_init_12 : decode cX1_init 12 = .ok (.putfield 10, 3) := dk_181 0 10 (dk_at dksX1_init_0 12 rfl rfl)
theorem dX1_init_15 : decode cX1_init 15 = .ok (.aload_n 0, 1) := dk_42 (dk_at dksX1_init_0 15 rfl rfl)
theorem dX1_init_16 : decode cX1_init 16 = .ok (.new 7, 3) := dk_187 0 7 (dk_at dksX1_init_0 16 rfl rfl)
theorem dX1_init_19 : decode cX1_init 19 = .ok (.dup, 1) := dk_89 (dk_at dksX1_init_0 19 rfl rfl)
theorem dX1_init_20 : decode cX1_init 20 = .ok (.invokespecial 9, 3) := dk_183 0 9 (dk_at dksX1_init_0 20 rfl rfl)
theorem dX1_init_23 : decode cX1_init 23 = .ok (.putfield 16, 3) := dk_181 0 16 (dk_at dksX1_init_1 0 rfl rfl)
theorem dX1_init_26 : decode cX1_init 26 = .ok (.aload_n 0, 1) := dk_42 (dk_at dksX1_init_1 3 rfl rfl)
theorem dX1_init_27 : decode cX1_init 27 = .ok (.new 19, 3) := dk_187 0 19 (dk_at dksX1_init_1 4 rfl rfl)
theorem dX1_init_30 : decode cX1_init 30 = .ok (.dup, 1) := dk_89 (dk_at dksX1_init_1 7 rfl rfl)
theorem dX1_init_31 : decode cX1_init 31 = .ok (.invokespecial 21, 3) := dk_183 0 21 (dk_at dksX1_init_1 8 rfl rfl)
theorem dX1_init_34 : decode cX1_init 34 = .ok (.putfield 22, 3) := dk_181 0 22 (dk_at dksX1_init_1 11 rfl rfl)
theorem dX1_init_37 : decode cX1_init 37 = .ok (.aload_n 0, 1) := dk_42 (dk_at dksX1_init_1 14 rfl rfl)
theorem dX1_init_38 : decode cX1_init 38 = .ok (.new 26, 3) := dk_187 0 26 (dk_at dksX1_init_1 15 rfl rfl)
theorem dX1_init_41 : decode cX1_init 41 = .ok (.dup, 1) := dk_89 (dk_at dksX1_init_1 18 rfl rfl)
theorem dX1_init_42 : decode cX1_init 42 = .ok (.bipush 60, 2) := dk_16 60 (dk_at dksX1_init_1 19 rfl rfl)
theorem dX1_init_44 : decode cX1_init 44 = .ok (.invokespecial 28, 3) := dk_183 0 28 (dk_at dksX1_init_1 21 rfl rfl)
theorem dX1_init_47 : decode cX1_init 47 = .ok (.putfield 31, 3) := dk_181 0 31 (dk_at dksX1_init_2 0 rfl rfl)
theorem dX1_init_50 : decode cX1_init 50 = .ok (.return_, 1) := dk_177 (dk_at dksX1_init_2 3 rfl rfl)
abbrev cX1_clearBuffer : ByteArray := prog_1_method_22_code
def yX1_clearBuffer : MethodName := ⟨RX1, "clearBuffer", "()I"⟩
def dkwX1_clearBuffer_0 : List UInt8 := [42, 180, 0, 31, 182, 0, 209, 60, 42, 180, 0, 31, 3, 182, 0, 216, 27, 172]
abbrev dktX1_clearBuffer_0 : List UInt8 := dkwX1_clearBuffer_0 ++ []
theorem dksX1_clearBuffer_0 : cX1_clearBuffer.data.toList.drop 0 = dktX1_clearBuffer_0 := by decide +kernel
theorem dX1_clearBuffer_0 : decode cX1_clearBuffer 0 = .ok (.aload_n 0, 1) := dk_42 (dk_at dksX1_clearBuffer_0 0 rfl rfl)
theorem dX1_clearBuffer_1 : decode cX1_clearBuffer 1 = .ok (.getfield 31, 3) := dk_180 0 31 (dk_at dksX1_clearBuffer_0 1 rfl rfl)
theorem dX1_clearBuffer_4 : decode cX1_clearBuffer 4 = .ok (.invokevirtual 209, 3) := dk_182 0 209 (dk_at dksX1_clearBuffer_0 4 rfl rfl)
theorem dX1_clearBuffer_7 : decode cX1_clearBuffer 7 = .ok (.istore_n 1, 1) := dk_60 (dk_at dksX1_clearBuffer_0 7 rfl rfl)
theorem dX1_clearBuffer_8 : decode cX1_clearBuffer 8 = .ok (.aload_n 0, 1) := dk_42 (dk_at dksX1_clearBuffer_0 8 rfl rfl)
theorem dX1_clearBuffer_9 : decode cX1_clearBuffer 9 = .ok (.getfield 31, 3) := dk_180 0 31 (dk_at dksX1_clearBuffer_0 9 rfl rfl)
theorem dX1_clearBuffer_12 : decode cX1_clearBuffer 12 = .ok (.iconst 0, 1) := dk_3 (dk_at dksX1_clearBuffer_0 12 rfl rfl)
theorem dX1_clearBuffer_13 : decode cX1_clearBuffer 13 = .ok (.invokevirtual 216, 3) := dk_182 0 216 (dk_at dksX1_clearBuffer_0 13 rfl rfl)
theorem dX1_clearBuffer_16 : decode cX1_clearBuffer 16 = .ok (.iload_n 1, 1) := dk_27 (dk_at dksX1_clearBuffer_0 16 rfl rfl)
theorem dX1_clearBuffer_17 : decode cX1_clearBuffer 17 = .ok (.ireturn, 1) := dk_172 (dk_at dksX1_clearBuffer_0 17 rfl rfl)
abbrev cX1_firstError : ByteArray := prog_1_method_23_code
def yX1_firstError : MethodName := ⟨RX1, "firstError", "()I"⟩
def dkwX1_firstError_1 : List UInt8 := [167, 0, 7, 43, 180, 0, 227, 172]
abbrev dktX1_firstError_1 : List UInt8 := dkwX1_firstError_1 ++ []
def dkwX1_firstError_0 : List UInt8 := [187, 0, 219, 89, 42, 183, 0, 221, 76, 43, 182, 0, 224, 153, 0, 13, 42, 180, 0, 31, 182, 0, 209]
abbrev dktX1_firstError_0 : List UInt8 := dkwX1_firstError_0 ++ dktX1_firstError_1
theorem dksX1_firstError_0 : cX1_firstError.data.toList.drop 0 = dktX1_firstError_0 := by decide +kernel
theorem dksX1_firstError_1 : cX1_firstError.data.toList.drop 23 = dktX1_firstError_1 := dk_seg dksX1_firstError_0 23 rfl rfl
theorem dX1_firstError_0 : decode cX1_firstError 0 = .ok (.new 219, 3) := dk_187 0 219 (dk_at dksX1_firstError_0 0 rfl rfl)
theorem dX1_firstError_3 : decode cX1_firstError 3 = .ok (.dup, 1) := dk_89 (dk_at dksX1_firstError_0 3 rfl rfl)
theorem dX1_firstError_4 : decode cX1_firstError 4 = .ok (.aload_n 0, 1) := dk_42 (dk_at dksX1_firstError_0 4 rfl rfl)
theorem dX1_firstError_5 : decode cX1_firstError 5 = .ok (.invokespecial 221, 3) := dk_183 0 221 (dk_at dksX1_firstError_0 5 rfl rfl)
theorem dX1_firstError_8 : decode cX1_firstError 8 = .ok (.astore_n 1, 1) := dk_76 (dk_at dksX1_firstError_0 8 rfl rfl)
theorem dX1_firstError_9 : decode cX1_firstError 9 = .ok (.aload_n 1, 1) := dk_43 (dk_at dksX1_firstError_0 9 rfl rfl)
theorem dX1_firstError_10 : decode cX1_firstError 10 = .ok (.invokevirtual 224, 3) := dk_182 0 224 (dk_at dksX1_firstError_0 10 rfl rfl)
theorem dX1_firstError_13 : decode cX1_firstError 13 = .ok (.ifCond .eq 13, 3) := dk_153 0 13 (dk_at dksX1_firstError_0 13 rfl rfl)
theorem dX1_firstError_16 : decode cX1_firstError 16 = .ok (.aload_n 0, 1) := dk_42 (dk_at dksX1_firstError_0 16 rfl rfl)
theorem dX1_firstError_17 : decode cX1_firstError 17 = .ok (.getfield 31, 3) := dk_180 0 31 (dk_at dksX1_firstError_0 17 rfl rfl)
theorem dX1_firstError_20 : decode cX1_firstError 20 = .ok (.invokevirtual 209, 3) := dk_182 0 209 (dk_at dksX1_firstError_0 20 rfl rfl)
theorem dX1_firstError_23 : decode cX1_firstError 23 = .ok (.goto 7, 3) := dk_167 0 7 (dk_at dksX1_firstError_1 0 rfl rfl)
theorem dX1_firstError_26 : decode cX1_firstError 26 = .ok (.aload_n 1, 1) := dk_43 (dk_at dksX1_firstError_1 3 rfl rfl)
theorem dX1_firstError_27 : decode cX1_firstError 27 = .ok (.getfield 227, 3) := dk_180 0 227 (dk_at dksX1_firstError_1 4 rfl rfl)
theorem dX1_firstError_30 : decode cX1_firstError 30 = .ok (.ireturn, 1) := dk_172 (dk_at dksX1_firstError_1 7 rfl rfl)
abbrev cX1_in : ByteArray := prog_1_method_1_code
def yX1_in : MethodName := ⟨RX1, "in", "(III)Z"⟩
def dkwX1_in_0 : List UInt8 := [26, 27, 161, 0, 12, 26, 28, 163, 0, 7, 4, 167, 0, 4, 3, 172]
abbrev dktX1_in_0 : List UInt8 := dkwX1_in_0 ++ []
theorem dksX1_in_0 : cX1_in.data.toList.drop 0 = dktX1_in_0 := by decide +kernel
theorem dX1_in_0 : decode cX1_in 0 = .ok (.iload_n 0, 1) := dk_26 (dk_at dksX1_in_0 0 rfl rfl)
theorem dX1_in_1 : decode cX1_in 1 = .ok (.iload_n 1, 1) := dk_27 (dk_at dksX1_in_0 1 rfl rfl)
theorem dX1_in_2 : decode cX1_in 2 = .ok (.if_icmp .lt 12, 3) := dk_161 0 12 (dk_at dksX1_in_0 2 rfl rfl)
theorem dX1_in_5 : decode cX1_in 5 = .ok (.iload_n 0, 1) := dk_26 (dk_at dksX1_in_0 5 rfl rfl)
theorem dX1_in_6 : decode cX1_in 6 = .ok (.iload_n 2, 1) := dk_28 (dk_at dksX1_in_0 6 rfl rfl)
theorem dX1_in_7 : decode cX1_in 7 = .ok (.if_icmp .gt 7, 3) := dk_163 0 7 (dk_at dksX1_in_0 7 rfl rfl)
theorem dX1_in_10 : decode cX1_in 10 = .ok (.iconst 1, 1) := dk_4 (dk_at dksX1_in_0 10 rfl rfl)
theorem dX1_in_11 : decode cX1_in 11 = .ok (.goto 4, 3) := dk_167 0 4 (dk_at dksX1_in_0 11 rfl rfl)
theorem dX1_in_14 : decode cX1_in 14 = .ok (.iconst 0, 1) := dk_3 (dk_at dksX1_in_0 14 rfl rfl)
theorem dX1_in_15 : decode cX1_in 15 = .ok (.ireturn, 1) := dk_172 (dk_at dksX1_in_0 15 rfl rfl)
abbrev cX1_isPlace : ByteArray := prog_1_method_7_code
def yX1_isPlace : MethodName := ⟨RX1, "isPlace", "(I)Z"⟩
def dkwX1_isPlace_0 : List UInt8 := [26, 3, 16, 7, 184, 0, 60, 172]
abbrev dktX1_isPlace_0 : List UInt8 := dkwX1_isPlace_0 ++ []
theorem dksX1_isPlace_0 : cX1_isPlace.data.toList.drop 0 = dktX1_isPlace_0 := by decide +kernel
theorem dX1_isPlace_0 : decode cX1_isPlace 0 = .ok (.iload_n 0, 1) := dk_26 (dk_at dksX1_isPlace_0 0 rfl rfl)
theorem dX1_isPlace_1 : decode cX1_isPlace 1 = .ok (.iconst 0, 1) := dk_3 (dk_at dksX1_isPlace_0 1 rfl rfl)
theorem dX1_isPlace_2 : decode cX1_isPlace 2 = .ok (.bipush 7, 2) := dk_16 7 (dk_at dksX1_isPlace_0 2 rfl rfl)
theorem dX1_isPlace_4 : decode cX1_isPlace 4 = .ok (.invokestatic 60, 3) := dk_184 0 60 (dk_at dksX1_isPlace_0 4 rfl rfl)
theorem dX1_isPlace_7 : decode cX1_isPlace 7 = .ok (.ireturn, 1) := dk_172 (dk_at dksX1_isPlace_0 7 rfl rfl)
abbrev cX1_fed : ByteArray := prog_1_method_48_code
def yX1_fed : MethodName := ⟨RX1, "fed", "()D"⟩
theorem dX1_fed_0 : decode cX1_fed 0 = .ok (.aload_n 0, 1) := by decide +kernel
theorem dX1_fed_1 : decode cX1_fed 1 = .ok (.invokevirtual 349, 3) := by decide +kernel
theorem dX1_fed_4 : decode cX1_fed 4 = .ok (.dreturn, 1) := by decide +kernel
abbrev cX1_fedTold : ByteArray := prog_1_method_47_code
def yX1_fedTold : MethodName := ⟨RX1, "fedTold", "()D"⟩
def dkwX1_fedTold_1 : List UInt8 := [180, 0, 10, 180, 1, 57, 100, 135, 42, 180, 0, 10, 180, 1, 60, 135, 111, 175]
abbrev dktX1_fedTold_1 : List UInt8 := dkwX1_fedTold_1 ++ []
def dkwX1_fedTold_0 : List UInt8 := [42, 180, 0, 10, 180, 1, 60, 154, 0, 7, 15, 167, 0, 28, 42, 180, 0, 10, 180, 1, 60, 42]
abbrev dktX1_fedTold_0 : List UInt8 := dkwX1_fedTold_0 ++ dktX1_fedTold_1
theorem dksX1_fedTold_0 : cX1_fedTold.data.toList.drop 0 = dktX1_fedTold_0 := by decide +kernel
theorem dksX1_fedTold_1 : cX1_fedTold.data.toList.drop 22 = dktX1_fedTold_1 := dk_seg dksX1_fedTold_0 22 rfl rfl
theorem dX1_fedTold_0 : decode cX1_fedTold 0 = .ok (.aload_n 0, 1) := dk_42 (dk_at dksX1_fedTold_0 0 rfl rfl)
theorem dX1_fedTold_1 : decode cX1_fedTold 1 = .ok (.getfield 10, 3) := dk_180 0 10 (dk_at dksX1_fedTold_0 1 rfl rfl)
theorem dX1_fedTold_4 : decode cX1_fedTold 4 = .ok (.getfield 316, 3) := dk_180 1 60 (dk_at dksX1_fedTold_0 4 rfl rfl)
theorem dX1_fedTold_7 : decode cX1_fedTold 7 = .ok (.ifCond .ne 7, 3) := dk_154 0 7 (dk_at dksX1_fedTold_0 7 rfl rfl)
theorem dX1_fedTold_10 : decode cX1_fedTold 10 = .ok (.dconst 1, 1) := dk_15 (dk_at dksX1_fedTold_0 10 rfl rfl)
theorem dX1_fedTold_11 : decode cX1_fedTold 11 = .ok (.goto 28, 3) := dk_167 0 28 (dk_at dksX1_fedTold_0 11 rfl rfl)
theorem dX1_fedTold_14 : decode cX1_fedTold 14 = .ok (.aload_n 0, 1) := dk_42 (dk_at dksX1_fedTold_0 14 rfl rfl)
theorem dX1_fedTold_15 : decode cX1_fedTold 15 = .ok (.getfield 10, 3) := dk_180 0 10 (dk_at dksX1_fedTold_0 15 rfl rfl)
theorem dX1_fedTold_18 : decode cX1_fedTold 18 = .ok (.getfield 316, 3) := dk_180 1 60 (dk_at dksX1_fedTold_0 18 rfl rfl)
theorem dX1_fedTold_21 : decode cX1_fedTold 21 = .ok (.aload_n 0, 1) := dk_42 (dk_at dksX1_fedTold_0 21 rfl rfl)
theorem dX1_fedTold_22 : decode cX1_fedTold 22 = .ok (.getfield 10, 3) := dk_180 0 10 (dk_at dksX1_fedTold_1 0 rfl rfl)
theorem dX1_fedTold_25 : decode cX1_fedTold 25 = .ok (.getfield 313, 3) := dk_180 1 57 (dk_at dksX1_fedTold_1 3 rfl rfl)
theorem dX1_fedTold_28 : decode cX1_fedTold 28 = .ok (.isub, 1) := dk_100 (dk_at dksX1_fedTold_1 6 rfl rfl)
theorem dX1_fedTold_29 : decode cX1_fedTold 29 = .ok (.i2d, 1) := dk_135 (dk_at dksX1_fedTold_1 7 rfl rfl)
theorem dX1_fedTold_30 : decode cX1_fedTold 30 = .ok (.aload_n 0, 1) := dk_42 (dk_at dksX1_fedTold_1 8 rfl rfl)
theorem dX1_fedTold_31 : decode cX1_fedTold 31 = .ok (.getfield 10, 3) := dk_180 0 10 (dk_at dksX1_fedTold_1 9 rfl rfl)
theorem dX1_fedTold_34 : decode cX1_fedTold 34 = .ok (.getfield 316, 3) := dk_180 1 60 (dk_at dksX1_fedTold_1 12 rfl rfl)
theorem dX1_fedTold_37 : decode cX1_fedTold 37 = .ok (.i2d, 1) := dk_135 (dk_at dksX1_fedTold_1 15 rfl rfl)
theorem dX1_fedTold_38 : decode cX1_fedTold 38 = .ok (.ddiv, 1) := dk_111 (dk_at dksX1_fedTold_1 16 rfl rfl)
theorem dX1_fedTold_39 : decode cX1_fedTold 39 = .ok (.dreturn, 1) := dk_175 (dk_at dksX1_fedTold_1 17 rfl rfl)
abbrev cX1_digest : ByteArray := prog_1_method_52_code
def yX1_digest : MethodName := ⟨RX1, "digest", "()J"⟩
def dkwX1_digest_7 : List UInt8 := [132, 1, 1, 167, 255, 229, 42, 180, 1, 99, 173]
abbrev dktX1_digest_7 : List UInt8 := dkwX1_digest_7 ++ []
def dkwX1_digest_6 : List UInt8 := [42, 180, 0, 31, 182, 0, 209, 162, 0, 22, 42, 42, 180, 0, 31, 27, 182, 1, 121, 133, 182, 1, 103]
abbrev dktX1_digest_6 : List UInt8 := dkwX1_digest_6 ++ dktX1_digest_7
def dkwX1_digest_5 : List UInt8 := [182, 1, 93, 184, 1, 115, 182, 1, 103, 42, 42, 180, 0, 31, 182, 0, 209, 133, 182, 1, 103, 3, 60, 27]
abbrev dktX1_digest_5 : List UInt8 := dkwX1_digest_5 ++ dktX1_digest_6
def dkwX1_digest_4 : List UInt8 := [27, 182, 1, 87, 133, 182, 1, 103, 132, 1, 1, 167, 255, 212, 42, 182, 1, 109, 42, 182, 1, 112, 42, 42]
abbrev dktX1_digest_4 : List UInt8 := dkwX1_digest_4 ++ dktX1_digest_5
def dkwX1_digest_3 : List UInt8 := [16, 10, 162, 0, 20, 42, 42, 27, 28, 182, 1, 6, 133, 182, 1, 103, 132, 2, 1, 167, 255, 236, 42, 42]
abbrev dktX1_digest_3 : List UInt8 := dkwX1_digest_3 ++ dktX1_digest_4
def dkwX1_digest_2 : List UInt8 := [27, 46, 133, 182, 1, 103, 132, 1, 1, 167, 255, 234, 3, 60, 27, 16, 8, 162, 0, 44, 3, 61, 28]
abbrev dktX1_digest_2 : List UInt8 := dkwX1_digest_2 ++ dktX1_digest_3
def dkwX1_digest_1 : List UInt8 := [182, 1, 103, 132, 1, 1, 167, 255, 237, 3, 60, 27, 8, 162, 0, 23, 42, 42, 180, 0, 10, 180, 0, 202]
abbrev dktX1_digest_1 : List UInt8 := dkwX1_digest_1 ++ dktX1_digest_2
def dkwX1_digest_0 : List UInt8 := [42, 20, 1, 107, 181, 1, 99, 3, 60, 27, 16, 12, 162, 0, 19, 42, 42, 27, 182, 1, 70, 133]
abbrev dktX1_digest_0 : List UInt8 := dkwX1_digest_0 ++ dktX1_digest_1
theorem dksX1_digest_0 : cX1_digest.data.toList.drop 0 = dktX1_digest_0 := by decide +kernel
theorem dksX1_digest_1 : cX1_digest.data.toList.drop 22 = dktX1_digest_1 := dk_seg dksX1_digest_0 22 rfl rfl
theorem dksX1_digest_2 : cX1_digest.data.toList.drop 46 = dktX1_digest_2 := dk_seg dksX1_digest_1 24 rfl rfl
theorem dksX1_digest_3 : cX1_digest.data.toList.drop 69 = dktX1_digest_3 := dk_seg dksX1_digest_2 23 rfl rfl
theorem dksX1_digest_4 : cX1_digest.data.toList.drop 93 = dktX1_digest_4 := dk_seg dksX1_digest_3 24 rfl rfl
theorem dksX1_digest_5 : cX1_digest.data.toList.drop 117 = dktX1_digest_5 := dk_seg dksX1_digest_4 24 rfl rfl
theorem dksX1_digest_6 : cX1_digest.data.toList.drop 141 = dktX1_digest_6 := dk_seg dksX1_digest_5 24 rfl rfl
theorem dksX1_digest_7 : cX1_digest.data.toList.drop 164 = dktX1_digest_7 := dk_seg dksX1_digest_6 23 rfl rfl
theorem dX1_digest_0 : decode cX1_digest 0 = .ok (.aload_n 0, 1) := dk_42 (dk_at dksX1_digest_0 0 rfl rfl)
theorem dX1_digest_1 : decode cX1_digest 1 = .ok (.ldc2_w 363, 3) := dk_20 1 107 (dk_at dksX1_digest_0 1 rfl rfl)
theorem dX1_digest_4 : decode cX1_digest 4 = .ok (.putfield 355, 3) := dk_181 1 99 (dk_at dksX1_digest_0 4 rfl rfl)
theorem dX1_digest_7 : decode cX1_digest 7 = .ok (.iconst 0, 1) := dk_3 (dk_at dksX1_digest_0 7 rfl rfl)
theorem dX1_digest_8 : decode cX1_digest 8 = .ok (.istore_n 1, 1) := dk_60 (dk_at dksX1_digest_0 8 rfl rfl)
theorem dX1_digest_9 : decode cX1_digest 9 = .ok (.iload_n 1, 1) := dk_27 (dk_at dksX1_digest_0 9 rfl rfl)
theorem dX1_digest_10 : decode cX1_digest 10 = .ok (.bipush 12, 2) := dk_16 12 (dk_at dksX1_digest_0 10 rfl rfl)
theorem dX1_digest_12 : decode cX1_digest 12 = .ok (.if_icmp .ge 19, 3) := dk_162 0 19 (dk_at dksX1_digest_0 12 rfl rfl)
theorem dX1_digest_15 : decode cX1_digest 15 = .ok (.aload_n 0, 1) := dk_42 (dk_at dksX1_digest_0 15 rfl rfl)
theorem dX1_digest_16 : decode cX1_digest 16 = .ok (.aload_n 0, 1) := dk_42 (dk_at dksX1_digest_0 16 rfl rfl)
theorem dX1_digest_17 : decode cX1_digest 17 = .ok (.iload_n 1, 1) := dk_27 (dk_at dksX1_digest_0 17 rfl rfl)
theorem dX1_digest_18 : decode cX1_digest 18 = .ok (.invokevirtual 326, 3) := dk_182 1 70 (dk_at dksX1_digest_0 18 rfl rfl)
theorem dX1_digest_21 : decode cX1_digest 21 = .ok (.i2l, 1) := dk_133 (dk_at dksX1_digest_0 21 rfl rfl)
theorem dX1_digest_22 : decode cX1_digest 22 = .ok (.invokevirtual 359, 3) := dk_182 1 103 (dk_at dksX1_digest_1 0 rfl rfl)
theorem dX1_digest_25 : decode cX1_digest 25 = .ok (.iinc 1 1, 3) := dk_132 1 1 (dk_at dksX1_digest_1 3 rfl rfl)
theorem dX1_digest_28 : decode cX1_digest 28 = .ok (.goto (-19), 3) := dk_167 255 237 (dk_at dksX1_digest_1 6 rfl rfl)
theorem dX1_digest_31 : decode cX1_digest 31 = .ok (.iconst 0, 1) := dk_3 (dk_at dksX1_digest_1 9 rfl rfl)
theorem dX1_digest_32 : decode cX1_digest 32 = .ok (.istore_n 1, 1) := dk_60 (dk_at dksX1_digest_1 10 rfl rfl)
theorem dX1_digest_33 : decode cX1_digest 33 = .ok (.iload_n 1, 1) := dk_27 (dk_at dksX1_digest_1 11 rfl rfl)
theorem dX1_digest_34 : decode cX1_digest 34 = .ok (.iconst 5, 1) := dk_8 (dk_at dksX1_digest_1 12 rfl rfl)
theorem dX1_digest_35 : decode cX1_digest 35 = .ok (.if_icmp .ge 23, 3) := dk_162 0 23 (dk_at dksX1_digest_1 13 rfl rfl)
theorem dX1_digest_38 : decode cX1_digest 38 = .ok (.aload_n 0, 1) := dk_42 (dk_at dksX1_digest_1 16 rfl rfl)
theorem dX1_digest_39 : decode cX1_digest 39 = .ok (.aload_n 0, 1) := dk_42 (dk_at dksX1_digest_1 17 rfl rfl)
theorem dX1_digest_40 : decode cX1_digest 40 = .ok (.getfield 10, 3) := dk_180 0 10 (dk_at dksX1_digest_1 18 rfl rfl)
theorem dX1_digest_43 : decode cX1_digest 43 = .ok (.getfield 202, 3) := dk_180 0 202 (dk_at dksX1_digest_1 21 rfl rfl)
theorem dX1_digest_46 : decode cX1_digest 46 = .ok (.iload_n 1, 1) := dk_27 (dk_at dksX1_digest_2 0 rfl rfl)
theorem dX1_digest_47 : decode cX1_digest 47 = .ok (.iaload, 1) := dk_46 (dk_at dksX1_digest_2 1 rfl rfl)
theorem dX1_digest_48 : decode cX1_digest 48 = .ok (.i2l, 1) := dk_133 (dk_at dksX1_digest_2 2 rfl rfl)
theorem dX1_digest_49 : decode cX1_digest 49 = .ok (.invokevirtual 359, 3) := dk_182 1 103 (dk_at dksX1_digest_2 3 rfl rfl)
theorem dX1_digest_52 : decode cX1_digest 52 = .ok (.iinc 1 1, 3) := dk_132 1 1 (dk_at dksX1_digest_2 6 rfl rfl)
theorem dX1_digest_55 : decode cX1_digest 55 = .ok (.goto (-22), 3) := dk_167 255 234 (dk_at dksX1_digest_2 9 rfl rfl)
theorem dX1_digest_58 : decode cX1_digest 58 = .ok (.iconst 0, 1) := dk_3 (dk_at dksX1_digest_2 12 rfl rfl)
theorem dX1_digest_59 : decode cX1_digest 59 = .ok (.istore_n 1, 1) := dk_60 (dk_at dksX1_digest_2 13 rfl rfl)
theorem dX1_digest_60 : decode cX1_digest 60 = .ok (.iload_n 1, 1) := dk_27 (dk_at dksX1_digest_2 14 rfl rfl)
theorem dX1_digest_61 : decode cX1_digest 61 = .ok (.bipush 8, 2) := dk_16 8 (dk_at dksX1_digest_2 15 rfl rfl)
theorem dX1_digest_63 : decode cX1_digest 63 = .ok (.if_icmp .ge 44, 3) := dk_162 0 44 (dk_at dksX1_digest_2 17 rfl rfl)
theorem dX1_digest_66 : decode cX1_digest 66 = .ok (.iconst 0, 1) := dk_3 (dk_at dksX1_digest_2 20 rfl rfl)
theorem dX1_digest_67 : decode cX1_digest 67 = .ok (.istore_n 2, 1) := dk_61 (dk_at dksX1_digest_2 21 rfl rfl)
theorem dX1_digest_68 : decode cX1_digest 68 = .ok (.iload_n 2, 1) := dk_28 (dk_at dksX1_digest_2 22 rfl rfl)
theorem dX1_digest_69 : decode cX1_digest 69 = .ok (.bipush 10, 2) := dk_16 10 (dk_at dksX1_digest_3 0 rfl rfl)
theorem dX1_digest_71 : decode cX1_digest 71 = .ok (.if_icmp .ge 20, 3) := dk_162 0 20 (dk_at dksX1_digest_3 2 rfl rfl)
theorem dX1_digest_74 : decode cX1_digest 74 = .ok (.aload_n 0, 1) := dk_42 (dk_at dksX1_digest_3 5 rfl rfl)
theorem dX1_digest_75 : decode cX1_digest 75 = .ok (.aload_n 0, 1) := dk_42 (dk_at dksX1_digest_3 6 rfl rfl)
theorem dX1_digest_76 : decode cX1_digest 76 = .ok (.iload_n 1, 1) := dk_27 (dk_at dksX1_digest_3 7 rfl rfl)
theorem dX1_digest_77 : decode cX1_digest 77 = .ok (.iload_n 2, 1) := dk_28 (dk_at dksX1_digest_3 8 rfl rfl)
theorem dX1_digest_78 : decode cX1_digest 78 = .ok (.invokevirtual 262, 3) := dk_182 1 6 (dk_at dksX1_digest_3 9 rfl rfl)
theorem dX1_digest_81 : decode cX1_digest 81 = .ok (.i2l, 1) := dk_133 (dk_at dksX1_digest_3 12 rfl rfl)
theorem dX1_digest_82 : decode cX1_digest 82 = .ok (.invokevirtual 359, 3) := dk_182 1 103 (dk_at dksX1_digest_3 13 rfl rfl)
theorem dX1_digest_85 : decode cX1_digest 85 = .ok (.iinc 2 1, 3) := dk_132 2 1 (dk_at dksX1_digest_3 16 rfl rfl)
theorem dX1_digest_88 : decode cX1_digest 88 = .ok (.goto (-20), 3) := dk_167 255 236 (dk_at dksX1_digest_3 19 rfl rfl)
theorem dX1_digest_91 : decode cX1_digest 91 = .ok (.aload_n 0, 1) := dk_42 (dk_at dksX1_digest_3 22 rfl rfl)
theorem dX1_digest_92 : decode cX1_digest 92 = .ok (.aload_n 0, 1) := dk_42 (dk_at dksX1_digest_3 23 rfl rfl)
theorem dX1_digest_93 : decode cX1_digest 93 = .ok (.iload_n 1, 1) := dk_27 (dk_at dksX1_digest_4 0 rfl rfl)
theorem dX1_digest_94 : decode cX1_digest 94 = .ok (.invokevirtual 343, 3) := dk_182 1 87 (dk_at dksX1_digest_4 1 rfl rfl)
theorem dX1_digest_97 : decode cX1_digest 97 = .ok (.i2l, 1) := dk_133 (dk_at dksX1_digest_4 4 rfl rfl)
theorem dX1_digest_98 : decode cX1_digest 98 = .ok (.invokevirtual 359, 3) := dk_182 1 103 (dk_at dksX1_digest_4 5 rfl rfl)
theorem dX1_digest_101 : decode cX1_digest 101 = .ok (.iinc 1 1, 3) := dk_132 1 1 (dk_at dksX1_digest_4 8 rfl rfl)
theorem dX1_digest_104 : decode cX1_digest 104 = .ok (.goto (-44), 3) := dk_167 255 212 (dk_at dksX1_digest_4 11 rfl rfl)
theorem dX1_digest_107 : decode cX1_digest 107 = .ok (.aload_n 0, 1) := dk_42 (dk_at dksX1_digest_4 14 rfl rfl)
theorem dX1_digest_108 : decode cX1_digest 108 = .ok (.invokevirtual 365, 3) := dk_182 1 109 (dk_at dksX1_digest_4 15 rfl rfl)
theorem dX1_digest_111 : decode cX1_digest 111 = .ok (.aload_n 0, 1) := dk_42 (dk_at dksX1_digest_4 18 rfl rfl)
theorem dX1_digest_112 : decode cX1_digest 112 = .ok (.invokevirtual 368, 3) := dk_182 1 112 (dk_at dksX1_digest_4 19 rfl rfl)
theorem dX1_digest_115 : decode cX1_digest 115 = .ok (.aload_n 0, 1) := dk_42 (dk_at dksX1_digest_4 22 rfl rfl)
theorem dX1_digest_116 : decode cX1_digest 116 = .ok (.aload_n 0, 1) := dk_42 (dk_at dksX1_digest_4 23 rfl rfl)
theorem dX1_digest_117 : decode cX1_digest 117 = .ok (.invokevirtual 349, 3) := dk_182 1 93 (dk_at dksX1_digest_5 0 rfl rfl)
theorem dX1_digest_120 : decode cX1_digest 120 = .ok (.invokestatic 371, 3) := dk_184 1 115 (dk_at dksX1_digest_5 3 rfl rfl)
theorem dX1_digest_123 : decode cX1_digest 123 = .ok (.invokevirtual 359, 3) := dk_182 1 103 (dk_at dksX1_digest_5 6 rfl rfl)
theorem dX1_digest_126 : decode cX1_digest 126 = .ok (.aload_n 0, 1) := dk_42 (dk_at dksX1_digest_5 9 rfl rfl)
theorem dX1_digest_127 : decode cX1_digest 127 = .ok (.aload_n 0, 1) := dk_42 (dk_at dksX1_digest_5 10 rfl rfl)
theorem dX1_digest_128 : decode cX1_digest 128 = .ok (.getfield 31, 3) := dk_180 0 31 (dk_at dksX1_digest_5 11 rfl rfl)
theorem dX1_digest_131 : decode cX1_digest 131 = .ok (.invokevirtual 209, 3) := dk_182 0 209 (dk_at dksX1_digest_5 14 rfl rfl)
theorem dX1_digest_134 : decode cX1_digest 134 = .ok (.i2l, 1) := dk_133 (dk_at dksX1_digest_5 17 rfl rfl)
theorem dX1_digest_135 : decode cX1_digest 135 = .ok (.invokevirtual 359, 3) := dk_182 1 103 (dk_at dksX1_digest_5 18 rfl rfl)
theorem dX1_digest_138 : decode cX1_digest 138 = .ok (.iconst 0, 1) := dk_3 (dk_at dksX1_digest_5 21 rfl rfl)
theorem dX1_digest_139 : decode cX1_digest 139 = .ok (.istore_n 1, 1) := dk_60 (dk_at dksX1_digest_5 22 rfl rfl)
theorem dX1_digest_140 : decode cX1_digest 140 = .ok (.iload_n 1, 1) := dk_27 (dk_at dksX1_digest_5 23 rfl rfl)
theorem dX1_digest_141 : decode cX1_digest 141 = .ok (.aload_n 0, 1) := dk_42 (dk_at dksX1_digest_6 0 rfl rfl)
theorem dX1_digest_142 : decode cX1_digest 142 = .ok (.getfield 31, 3) := dk_180 0 31 (dk_at dksX1_digest_6 1 rfl rfl)
theorem dX1_digest_145 : decode cX1_digest 145 = .ok (.invokevirtual 209, 3) := dk_182 0 209 (dk_at dksX1_digest_6 4 rfl rfl)
theorem dX1_digest_148 : decode cX1_digest 148 = .ok (.if_icmp .ge 22, 3) := dk_162 0 22 (dk_at dksX1_digest_6 7 rfl rfl)
theorem dX1_digest_151 : decode cX1_digest 151 = .ok (.aload_n 0, 1) := dk_42 (dk_at dksX1_digest_6 10 rfl rfl)
theorem dX1_digest_152 : decode cX1_digest 152 = .ok (.aload_n 0, 1) := dk_42 (dk_at dksX1_digest_6 11 rfl rfl)
theorem dX1_digest_153 : decode cX1_digest 153 = .ok (.getfield 31, 3) := dk_180 0 31 (dk_at dksX1_digest_6 12 rfl rfl)
theorem dX1_digest_156 : decode cX1_digest 156 = .ok (.iload_n 1, 1) := dk_27 (dk_at dksX1_digest_6 15 rfl rfl)
theorem dX1_digest_157 : decode cX1_digest 157 = .ok (.invokevirtual 377, 3) := dk_182 1 121 (dk_at dksX1_digest_6 16 rfl rfl)
theorem dX1_digest_160 : decode cX1_digest 160 = .ok (.i2l, 1) := dk_133 (dk_at dksX1_digest_6 19 rfl rfl)
theorem dX1_digest_161 : decode cX1_digest 161 = .ok (.invokevirtual 359, 3) := dk_182 1 103 (dk_at dksX1_digest_6 20 rfl rfl)
theorem dX1_digest_164 : decode cX1_digest 164 = .ok (.iinc 1 1, 3) := dk_132 1 1 (dk_at dksX1_digest_7 0 rfl rfl)
theorem dX1_digest_167 : decode cX1_digest 167 = .ok (.goto (-27), 3) := dk_167 255 229 (dk_at dksX1_digest_7 3 rfl rfl)
theorem dX1_digest_170 : decode cX1_digest 170 = .ok (.aload_n 0, 1) := dk_42 (dk_at dksX1_digest_7 6 rfl rfl)
theorem dX1_digest_171 : decode cX1_digest 171 = .ok (.getfield 355, 3) := dk_180 1 99 (dk_at dksX1_digest_7 7 rfl rfl)
theorem dX1_digest_174 : decode cX1_digest 174 = .ok (.lreturn, 1) := dk_173 (dk_at dksX1_digest_7 10 rfl rfl)
abbrev cX1_countTold : ByteArray := prog_1_method_34_code
def yX1_countTold : MethodName := ⟨RX1, "countTold", "(I)I"⟩
def dkwX1_countTold_6 : List UInt8 := [153, 0, 7, 4, 167, 0, 4, 3, 172, 42, 180, 0, 22, 182, 0, 35, 172]
abbrev dktX1_countTold_6 : List UInt8 := dkwX1_countTold_6 ++ []
def dkwX1_countTold_5 : List UInt8 := [180, 0, 10, 180, 1, 64, 172, 42, 180, 0, 10, 180, 1, 66, 172, 42, 180, 0, 10, 180, 1, 67]
abbrev dktX1_countTold_5 : List UInt8 := dkwX1_countTold_5 ++ dktX1_countTold_6
def dkwX1_countTold_4 : List UInt8 := [180, 0, 10, 180, 1, 57, 172, 42, 180, 0, 10, 180, 1, 60, 172, 42, 180, 0, 10, 180, 1, 61, 172, 42]
abbrev dktX1_countTold_4 : List UInt8 := dkwX1_countTold_4 ++ dktX1_countTold_5
def dkwX1_countTold_3 : List UInt8 := [182, 0, 95, 172, 42, 180, 0, 10, 182, 1, 10, 172, 42, 180, 0, 10, 180, 0, 156, 182, 0, 160, 172, 42]
abbrev dktX1_countTold_3 : List UInt8 := dkwX1_countTold_3 ++ dktX1_countTold_4
def dkwX1_countTold_2 : List UInt8 := [42, 180, 0, 10, 180, 0, 116, 172, 42, 180, 0, 10, 27, 5, 160, 0, 7, 4, 167, 0, 4, 3]
abbrev dktX1_countTold_2 : List UInt8 := dkwX1_countTold_2 ++ dktX1_countTold_3
def dkwX1_countTold_1 : List UInt8 := [170, 0, 0, 0, 0, 0, 160, 0, 0, 0, 0, 0, 0, 0, 10, 0, 0, 0, 59, 0, 0, 0, 67, 0, 0, 0, 67, 0, 0, 0, 85, 0, 0, 0, 93, 0, 0, 0, 104, 0, 0, 0, 112, 0, 0, 0, 120, 0, 0, 0, 128, 0, 0, 0, 136, 0, 0, 0, 144]
abbrev dktX1_countTold_1 : List UInt8 := dkwX1_countTold_1 ++ dktX1_countTold_2
def dkwX1_countTold_0 : List UInt8 := [27]
abbrev dktX1_countTold_0 : List UInt8 := dkwX1_countTold_0 ++ dktX1_countTold_1
theorem dksX1_countTold_0 : cX1_countTold.data.toList.drop 0 = dktX1_countTold_0 := by decide +kernel
theorem dksX1_countTold_1 : cX1_countTold.data.toList.drop 1 = dktX1_countTold_1 := dk_seg dksX1_countTold_0 1 rfl rfl
theorem dksX1_countTold_2 : cX1_countTold.data.toList.drop 60 = dktX1_countTold_2 := dk_seg dksX1_countTold_1 59 rfl rfl
theorem dksX1_countTold_3 : cX1_countTold.data.toList.drop 82 = dktX1_countTold_3 := dk_seg dksX1_countTold_2 22 rfl rfl
theorem dksX1_countTold_4 : cX1_countTold.data.toList.drop 106 = dktX1_countTold_4 := dk_seg dksX1_countTold_3 24 rfl rfl
theorem dksX1_countTold_5 : cX1_countTold.data.toList.drop 130 = dktX1_countTold_5 := dk_seg dksX1_countTold_4 24 rfl rfl
theorem dksX1_countTold_6 : cX1_countTold.data.toList.drop 152 = dktX1_countTold_6 := dk_seg dksX1_countTold_5 22 rfl rfl
theorem dX1_countTold_0 : decode cX1_countTold 0 = .ok (.iload_n 1, 1) := dk_27 (dk_at dksX1_countTold_0 0 rfl rfl)
theorem dX1_countTold_1 : decode cX1_countTold 1 = .ok (.tableswitch 160 0 10 #[59, 67, 67, 85, 93, 104, 112, 120, 128, 136, 144], 59) := by decide +kernel
theorem dX1_countTold_60 : decode cX1_countTold 60 = .ok (.aload_n 0, 1) := dk_42 (dk_at dksX1_countTold_2 0 rfl rfl)
theorem dX1_countTold_61 : decode cX1_countTold 61 = .ok (.getfield 10, 3) := dk_180 0 10 (dk_at dksX1_countTold_2 1 rfl rfl)
theorem dX1_countTold_64 : decode cX1_countTold 64 = .ok (.getfield 116, 3) := dk_180 0 116 (dk_at dksX1_countTold_2 4 rfl rfl)
theorem dX1_countTold_67 : decode cX1_countTold 67 = .ok (.ireturn, 1) := dk_172 (dk_at dksX1_countTold_2 7 rfl rfl)
theorem dX1_countTold_68 : decode cX1_countTold 68 = .ok (.aload_n 0, 1) := dk_42 (dk_at dksX1_countTold_2 8 rfl rfl)
theorem dX1_countTold_69 : decode cX1_countTold 69 = .ok (.getfield 10, 3) := dk_180 0 10 (dk_at dksX1_countTold_2 9 rfl rfl)
theorem dX1_countTold_72 : decode cX1_countTold 72 = .ok (.iload_n 1, 1) := dk_27 (dk_at dksX1_countTold_2 12 rfl rfl)
theorem dX1_countTold_73 : decode cX1_countTold 73 = .ok (.iconst 2, 1) := dk_5 (dk_at dksX1_countTold_2 13 rfl rfl)
theorem dX1_countTold_74 : decode cX1_countTold 74 = .ok (.if_icmp .ne 7, 3) := dk_160 0 7 (dk_at dksX1_countTold_2 14 rfl rfl)
theorem dX1_countTold_77 : decode cX1_countTold 77 = .ok (.iconst 1, 1) := dk_4 (dk_at dksX1_countTold_2 17 rfl rfl)
theorem dX1_countTold_78 : decode cX1_countTold 78 = .ok (.goto 4, 3) := dk_167 0 4 (dk_at dksX1_countTold_2 18 rfl rfl)
theorem dX1_countTold_81 : decode cX1_countTold 81 = .ok (.iconst 0, 1) := dk_3 (dk_at dksX1_countTold_2 21 rfl rfl)
theorem dX1_countTold_82 : decode cX1_countTold 82 = .ok (.invokevirtual 95, 3) := dk_182 0 95 (dk_at dksX1_countTold_3 0 rfl rfl)
theorem dX1_countTold_85 : decode cX1_countTold 85 = .ok (.ireturn, 1) := dk_172 (dk_at dksX1_countTold_3 3 rfl rfl)
theorem dX1_countTold_86 : decode cX1_countTold 86 = .ok (.aload_n 0, 1) := dk_42 (dk_at dksX1_countTold_3 4 rfl rfl)
theorem dX1_countTold_87 : decode cX1_countTold 87 = .ok (.getfield 10, 3) := dk_180 0 10 (dk_at dksX1_countTold_3 5 rfl rfl)
theorem dX1_countTold_90 : decode cX1_countTold 90 = .ok (.invokevirtual 266, 3) := dk_182 1 10 (dk_at dksX1_countTold_3 8 rfl rfl)
theorem dX1_countTold_93 : decode cX1_countTold 93 = .ok (.ireturn, 1) := dk_172 (dk_at dksX1_countTold_3 11 rfl rfl)
theorem dX1_countTold_94 : decode cX1_countTold 94 = .ok (.aload_n 0, 1) := dk_42 (dk_at dksX1_countTold_3 12 rfl rfl)
theorem dX1_countTold_95 : decode cX1_countTold 95 = .ok (.getfield 10, 3) := dk_180 0 10 (dk_at dksX1_countTold_3 13 rfl rfl)
theorem dX1_countTold_98 : decode cX1_countTold 98 = .ok (.getfield 156, 3) := dk_180 0 156 (dk_at dksX1_countTold_3 16 rfl rfl)
theorem dX1_countTold_101 : decode cX1_countTold 101 = .ok (.invokevirtual 160, 3) := dk_182 0 160 (dk_at dksX1_countTold_3 19 rfl rfl)
theorem dX1_countTold_104 : decode cX1_countTold 104 = .ok (.ireturn, 1) := dk_172 (dk_at dksX1_countTold_3 22 rfl rfl)
theorem dX1_countTold_105 : decode cX1_countTold 105 = .ok (.aload_n 0, 1) := dk_42 (dk_at dksX1_countTold_3 23 rfl rfl)
theorem dX1_countTold_106 : decode cX1_countTold 106 = .ok (.getfield 10, 3) := dk_180 0 10 (dk_at dksX1_countTold_4 0 rfl rfl)
theorem dX1_countTold_109 : decode cX1_countTold 109 = .ok (.getfield 313, 3) := dk_180 1 57 (dk_at dksX1_countTold_4 3 rfl rfl)
theorem dX1_countTold_112 : decode cX1_countTold 112 = .ok (.ireturn, 1) := dk_172 (dk_at dksX1_countTold_4 6 rfl rfl)
theorem dX1_countTold_113 : decode cX1_countTold 113 = .ok (.aload_n 0, 1) := dk_42 (dk_at dksX1_countTold_4 7 rfl rfl)
theorem dX1_countTold_114 : decode cX1_countTold 114 = .ok (.getfield 10, 3) := dk_180 0 10 (dk_at dksX1_countTold_4 8 rfl rfl)
theorem dX1_countTold_117 : decode cX1_countTold 117 = .ok (.getfield 316, 3) := dk_180 1 60 (dk_at dksX1_countTold_4 11 rfl rfl)
theorem dX1_countTold_120 : decode cX1_countTold 120 = .ok (.ireturn, 1) := dk_172 (dk_at dksX1_countTold_4 14 rfl rfl)
theorem dX1_countTold_121 : decode cX1_countTold 121 = .ok (.aload_n 0, 1) := dk_42 (dk_at dksX1_countTold_4 15 rfl rfl)
theorem dX1_countTold_122 : decode cX1_countTold 122 = .ok (.getfield 10, 3) := dk_180 0 10 (dk_at dksX1_countTold_4 16 rfl rfl)
theorem dX1_countTold_125 : decode cX1_countTold 125 = .ok (.getfield 317, 3) := dk_180 1 61 (dk_at dksX1_countTold_4 19 rfl rfl)
theorem dX1_countTold_128 : decode cX1_countTold 128 = .ok (.ireturn, 1) := dk_172 (dk_at dksX1_countTold_4 22 rfl rfl)
theorem dX1_countTold_129 : decode cX1_countTold 129 = .ok (.aload_n 0, 1) := dk_42 (dk_at dksX1_countTold_4 23 rfl rfl)
theorem dX1_countTold_130 : decode cX1_countTold 130 = .ok (.getfield 10, 3) := dk_180 0 10 (dk_at dksX1_countTold_5 0 rfl rfl)
theorem dX1_countTold_133 : decode cX1_countTold 133 = .ok (.getfield 320, 3) := dk_180 1 64 (dk_at dksX1_countTold_5 3 rfl rfl)
theorem dX1_countTold_136 : decode cX1_countTold 136 = .ok (.ireturn, 1) := dk_172 (dk_at dksX1_countTold_5 6 rfl rfl)
theorem dX1_countTold_137 : decode cX1_countTold 137 = .ok (.aload_n 0, 1) := dk_42 (dk_at dksX1_countTold_5 7 rfl rfl)
theorem dX1_countTold_138 : decode cX1_countTold 138 = .ok (.getfield 10, 3) := dk_180 0 10 (dk_at dksX1_countTold_5 8 rfl rfl)
theorem dX1_countTold_141 : decode cX1_countTold 141 = .ok (.getfield 322, 3) := dk_180 1 66 (dk_at dksX1_countTold_5 11 rfl rfl)
theorem dX1_countTold_144 : decode cX1_countTold 144 = .ok (.ireturn, 1) := dk_172 (dk_at dksX1_countTold_5 14 rfl rfl)
theorem dX1_countTold_145 : decode cX1_countTold 145 = .ok (.aload_n 0, 1) := dk_42 (dk_at dksX1_countTold_5 15 rfl rfl)
theorem dX1_countTold_146 : decode cX1_countTold 146 = .ok (.getfield 10, 3) := dk_180 0 10 (dk_at dksX1_countTold_5 16 rfl rfl)
theorem dX1_countTold_149 : decode cX1_countTold 149 = .ok (.getfield 323, 3) := dk_180 1 67 (dk_at dksX1_countTold_5 19 rfl rfl)
theorem dX1_countTold_152 : decode cX1_countTold 152 = .ok (.ifCond .eq 7, 3) := dk_153 0 7 (dk_at dksX1_countTold_6 0 rfl rfl)
theorem dX1_countTold_155 : decode cX1_countTold 155 = .ok (.iconst 1, 1) := dk_4 (dk_at dksX1_countTold_6 3 rfl rfl)
theorem dX1_countTold_156 : decode cX1_countTold 156 = .ok (.goto 4, 3) := dk_167 0 4 (dk_at dksX1_countTold_6 4 rfl rfl)
theorem dX1_countTold_159 : decode cX1_countTold 159 = .ok (.iconst 0, 1) := dk_3 (dk_at dksX1_countTold_6 7 rfl rfl)
theorem dX1_countTold_160 : decode cX1_countTold 160 = .ok (.ireturn, 1) := dk_172 (dk_at dksX1_countTold_6 8 rfl rfl)
theorem dX1_countTold_161 : decode cX1_countTold 161 = .ok (.aload_n 0, 1) := dk_42 (dk_at dksX1_countTold_6 9 rfl rfl)
theorem dX1_countTold_162 : decode cX1_countTold 162 = .ok (.getfield 22, 3) := dk_180 0 22 (dk_at dksX1_countTold_6 10 rfl rfl)
theorem dX1_countTold_165 : decode cX1_countTold 165 = .ok (.invokevirtual 35, 3) := dk_182 0 35 (dk_at dksX1_countTold_6 13 rfl rfl)
theorem dX1_countTold_168 : decode cX1_countTold 168 = .ok (.ireturn, 1) := dk_172 (dk_at dksX1_countTold_6 16 rfl rfl)
abbrev cX1_mix : ByteArray := prog_1_method_49_code
def yX1_mix : MethodName := ⟨RX1, "mix", "(J)V"⟩
def dkwX1_mix_0 : List UInt8 := [42, 20, 1, 97, 42, 180, 1, 99, 105, 31, 97, 181, 1, 99, 177]
abbrev dktX1_mix_0 : List UInt8 := dkwX1_mix_0 ++ []
theorem dksX1_mix_0 : cX1_mix.data.toList.drop 0 = dktX1_mix_0 := by decide +kernel
theorem dX1_mix_0 : decode cX1_mix 0 = .ok (.aload_n 0, 1) := dk_42 (dk_at dksX1_mix_0 0 rfl rfl)
theorem dX1_mix_1 : decode cX1_mix 1 = .ok (.ldc2_w 353, 3) := dk_20 1 97 (dk_at dksX1_mix_0 1 rfl rfl)
theorem dX1_mix_4 : decode cX1_mix 4 = .ok (.aload_n 0, 1) := dk_42 (dk_at dksX1_mix_0 4 rfl rfl)
theorem dX1_mix_5 : decode cX1_mix 5 = .ok (.getfield 355, 3) := dk_180 1 99 (dk_at dksX1_mix_0 5 rfl rfl)
theorem dX1_mix_8 : decode cX1_mix 8 = .ok (.lmul, 1) := dk_105 (dk_at dksX1_mix_0 8 rfl rfl)
theorem dX1_mix_9 : decode cX1_mix 9 = .ok (.lload_n 1, 1) := dk_31 (dk_at dksX1_mix_0 9 rfl rfl)
theorem dX1_mix_10 : decode cX1_mix 10 = .ok (.ladd, 1) := dk_97 (dk_at dksX1_mix_0 10 rfl rfl)
theorem dX1_mix_11 : decode cX1_mix 11 = .ok (.putfield 355, 3) := dk_181 1 99 (dk_at dksX1_mix_0 11 rfl rfl)
theorem dX1_mix_14 : decode cX1_mix 14 = .ok (.return_, 1) := dk_177 (dk_at dksX1_mix_0 14 rfl rfl)
abbrev cX1_fountainTold : ByteArray := prog_1_method_26_code
def yX1_fountainTold : MethodName := ⟨RX1, "fountainTold", "(II)I"⟩
def dkwX1_fountainTold_5 : List UInt8 := [153, 0, 7, 4, 167, 0, 4, 3, 172, 45, 180, 0, 253, 172, 45, 180, 1, 0, 172, 45, 180, 1, 3, 172]
abbrev dktX1_fountainTold_5 : List UInt8 := dkwX1_fountainTold_5 ++ []
def dkwX1_fountainTold_4 : List UInt8 := [167, 0, 4, 3, 172, 45, 180, 0, 110, 153, 0, 7, 4, 167, 0, 4, 3, 172, 45, 180, 0, 250]
abbrev dktX1_fountainTold_4 : List UInt8 := dkwX1_fountainTold_4 ++ dktX1_fountainTold_5
def dkwX1_fountainTold_3 : List UInt8 := [45, 180, 0, 241, 172, 45, 180, 0, 244, 172, 45, 180, 0, 247, 172, 45, 180, 0, 113, 153, 0, 7, 4]
abbrev dktX1_fountainTold_3 : List UInt8 := dkwX1_fountainTold_3 ++ dktX1_fountainTold_4
def dkwX1_fountainTold_2 : List UInt8 := [170, 0, 0, 0, 113, 0, 0, 0, 0, 0, 0, 0, 8, 0, 0, 0, 49, 0, 0, 0, 54, 0, 0, 0, 59, 0, 0, 0, 64, 0, 0, 0, 77, 0, 0, 0, 90, 0, 0, 0, 113, 0, 0, 0, 103, 0, 0, 0, 108]
abbrev dktX1_fountainTold_2 : List UInt8 := dkwX1_fountainTold_2 ++ dktX1_fountainTold_3
def dkwX1_fountainTold_1 : List UInt8 := [172, 45, 180, 0, 76, 154, 0, 5, 2, 172, 28]
abbrev dktX1_fountainTold_1 : List UInt8 := dkwX1_fountainTold_1 ++ dktX1_fountainTold_2
def dkwX1_fountainTold_0 : List UInt8 := [42, 180, 0, 10, 180, 0, 72, 27, 50, 78, 28, 16, 6, 160, 0, 12, 42, 180, 0, 10, 27, 182, 0, 238]
abbrev dktX1_fountainTold_0 : List UInt8 := dkwX1_fountainTold_0 ++ dktX1_fountainTold_1
theorem dksX1_fountainTold_0 : cX1_fountainTold.data.toList.drop 0 = dktX1_fountainTold_0 := by decide +kernel
theorem dksX1_fountainTold_1 : cX1_fountainTold.data.toList.drop 24 = dktX1_fountainTold_1 := dk_seg dksX1_fountainTold_0 24 rfl rfl
theorem dksX1_fountainTold_2 : cX1_fountainTold.data.toList.drop 35 = dktX1_fountainTold_2 := dk_seg dksX1_fountainTold_1 11 rfl rfl
theorem dksX1_fountainTold_3 : cX1_fountainTold.data.toList.drop 84 = dktX1_fountainTold_3 := dk_seg dksX1_fountainTold_2 49 rfl rfl
theorem dksX1_fountainTold_4 : cX1_fountainTold.data.toList.drop 107 = dktX1_fountainTold_4 := dk_seg dksX1_fountainTold_3 23 rfl rfl
theorem dksX1_fountainTold_5 : cX1_fountainTold.data.toList.drop 129 = dktX1_fountainTold_5 := dk_seg dksX1_fountainTold_4 22 rfl rfl
theorem dX1_fountainTold_0 : decode cX1_fountainTold 0 = .ok (.aload_n 0, 1) := dk_42 (dk_at dksX1_fountainTold_0 0 rfl rfl)
theorem dX1_fountainTold_1 : decode cX1_fountainTold 1 = .ok (.getfield 10, 3) := dk_180 0 10 (dk_at dksX1_fountainTold_0 1 rfl rfl)
theorem dX1_fountainTold_4 : decode cX1_fountainTold 4 = .ok (.getfield 72, 3) := dk_180 0 72 (dk_at dksX1_fountainTold_0 4 rfl rfl)
theorem dX1_fountainTold_7 : decode cX1_fountainTold 7 = .ok (.iload_n 1, 1) := dk_27 (dk_at dksX1_fountainTold_0 7 rfl rfl)
theorem dX1_fountainTold_8 : decode cX1_fountainTold 8 = .ok (.aaload, 1) := dk_50 (dk_at dksX1_fountainTold_0 8 rfl rfl)
theorem dX1_fountainTold_9 : decode cX1_fountainTold 9 = .ok (.astore_n 3, 1) := dk_78 (dk_at dksX1_fountainTold_0 9 rfl rfl)
theorem dX1_fountainTold_10 : decode cX1_fountainTold 10 = .ok (.iload_n 2, 1) := dk_28 (dk_at dksX1_fountainTold_0 10 rfl rfl)
theorem dX1_fountainTold_11 : decode cX1_fountainTold 11 = .ok (.bipush 6, 2) := dk_16 6 (dk_at dksX1_fountainTold_0 11 rfl rfl)
theorem dX1_fountainTold_13 : decode cX1_fountainTold 13 = .ok (.if_icmp .ne 12, 3) := dk_160 0 12 (dk_at dksX1_fountainTold_0 13 rfl rfl)
theorem dX1_fountainTold_16 : decode cX1_fountainTold 16 = .ok (.aload_n 0, 1) := dk_42 (dk_at dksX1_fountainTold_0 16 rfl rfl)
theorem dX1_fountainTold_17 : decode cX1_fountainTold 17 = .ok (.getfield 10, 3) := dk_180 0 10 (dk_at dksX1_fountainTold_0 17 rfl rfl)
theorem dX1_fountainTold_20 : decode cX1_fountainTold 20 = .ok (.iload_n 1, 1) := dk_27 (dk_at dksX1_fountainTold_0 20 rfl rfl)
theorem dX1_fountainTold_21 : decode cX1_fountainTold 21 = .ok (.invokevirtual 238, 3) := dk_182 0 238 (dk_at dksX1_fountainTold_0 21 rfl rfl)
theorem dX1_fountainTold_24 : decode cX1_fountainTold 24 = .ok (.ireturn, 1) := dk_172 (dk_at dksX1_fountainTold_1 0 rfl rfl)
theorem dX1_fountainTold_25 : decode cX1_fountainTold 25 = .ok (.aload_n 3, 1) := dk_45 (dk_at dksX1_fountainTold_1 1 rfl rfl)
theorem dX1_fountainTold_26 : decode cX1_fountainTold 26 = .ok (.getfield 76, 3) := dk_180 0 76 (dk_at dksX1_fountainTold_1 2 rfl rfl)
theorem dX1_fountainTold_29 : decode cX1_fountainTold 29 = .ok (.ifCond .ne 5, 3) := dk_154 0 5 (dk_at dksX1_fountainTold_1 5 rfl rfl)
theorem dX1_fountainTold_32 : decode cX1_fountainTold 32 = .ok (.iconst (-1), 1) := dk_2 (dk_at dksX1_fountainTold_1 8 rfl rfl)
theorem dX1_fountainTold_33 : decode cX1_fountainTold 33 = .ok (.ireturn, 1) := dk_172 (dk_at dksX1_fountainTold_1 9 rfl rfl)
theorem dX1_fountainTold_34 : decode cX1_fountainTold 34 = .ok (.iload_n 2, 1) := dk_28 (dk_at dksX1_fountainTold_1 10 rfl rfl)
theorem dX1_fountainTold_35 : decode cX1_fountainTold 35 = .ok (.tableswitch 113 0 8 #[49, 54, 59, 64, 77, 90, 113, 103, 108], 49) := by decide +kernel
theorem dX1_fountainTold_84 : decode cX1_fountainTold 84 = .ok (.aload_n 3, 1) := dk_45 (dk_at dksX1_fountainTold_3 0 rfl rfl)
theorem dX1_fountainTold_85 : decode cX1_fountainTold 85 = .ok (.getfield 241, 3) := dk_180 0 241 (dk_at dksX1_fountainTold_3 1 rfl rfl)
theorem dX1_fountainTold_88 : decode cX1_fountainTold 88 = .ok (.ireturn, 1) := dk_172 (dk_at dksX1_fountainTold_3 4 rfl rfl)
theorem dX1_fountainTold_89 : decode cX1_fountainTold 89 = .ok (.aload_n 3, 1) := dk_45 (dk_at dksX1_fountainTold_3 5 rfl rfl)
theorem dX1_fountainTold_90 : decode cX1_fountainTold 90 = .ok (.getfield 244, 3) := dk_180 0 244 (dk_at dksX1_fountainTold_3 6 rfl rfl)
theorem dX1_fountainTold_93 : decode cX1_fountainTold 93 = .ok (.ireturn, 1) := dk_172 (dk_at dksX1_fountainTold_3 9 rfl rfl)
theorem dX1_fountainTold_94 : decode cX1_fountainTold 94 = .ok (.aload_n 3, 1) := dk_45 (dk_at dksX1_fountainTold_3 10 rfl rfl)
theorem dX1_fountainTold_95 : decode cX1_fountainTold 95 = .ok (.getfield 247, 3) := dk_180 0 247 (dk_at dksX1_fountainTold_3 11 rfl rfl)
theorem dX1_fountainTold_98 : decode cX1_fountainTold 98 = .ok (.ireturn, 1) := dk_172 (dk_at dksX1_fountainTold_3 14 rfl rfl)
theorem dX1_fountainTold_99 : decode cX1_fountainTold 99 = .ok (.aload_n 3, 1) := dk_45 (dk_at dksX1_fountainTold_3 15 rfl rfl)
theorem dX1_fountainTold_100 : decode cX1_fountainTold 100 = .ok (.getfield 113, 3) := dk_180 0 113 (dk_at dksX1_fountainTold_3 16 rfl rfl)
theorem dX1_fountainTold_103 : decode cX1_fountainTold 103 = .ok (.ifCond .eq 7, 3) := dk_153 0 7 (dk_at dksX1_fountainTold_3 19 rfl rfl)
theorem dX1_fountainTold_106 : decode cX1_fountainTold 106 = .ok (.iconst 1, 1) := dk_4 (dk_at dksX1_fountainTold_3 22 rfl rfl)
theorem dX1_fountainTold_107 : decode cX1_fountainTold 107 = .ok (.goto 4, 3) := dk_167 0 4 (dk_at dksX1_fountainTold_4 0 rfl rfl)
theorem dX1_fountainTold_110 : decode cX1_fountainTold 110 = .ok (.iconst 0, 1) := dk_3 (dk_at dksX1_fountainTold_4 3 rfl rfl)
theorem dX1_fountainTold_111 : decode cX1_fountainTold 111 = .ok (.ireturn, 1) := dk_172 (dk_at dksX1_fountainTold_4 4 rfl rfl)
theorem dX1_fountainTold_112 : decode cX1_fountainTold 112 = .ok (.aload_n 3, 1) := dk_45 (dk_at dksX1_fountainTold_4 5 rfl rfl)
theorem dX1_fountainTold_113 : decode cX1_fountainTold 113 = .ok (.getfield 110, 3) := dk_180 0 110 (dk_at dksX1_fountainTold_4 6 rfl rfl)
theorem dX1_fountainTold_116 : decode cX1_fountainTold 116 = .ok (.ifCond .eq 7, 3) := dk_153 0 7 (dk_at dksX1_fountainTold_4 9 rfl rfl)
theorem dX1_fountainTold_119 : decode cX1_fountainTold 119 = .ok (.iconst 1, 1) := dk_4 (dk_at dksX1_fountainTold_4 12 rfl rfl)
theorem dX1_fountainTold_120 : decode cX1_fountainTold 120 = .ok (.goto 4, 3) := dk_167 0 4 (dk_at dksX1_fountainTold_4 13 rfl rfl)
theorem dX1_fountainTold_123 : decode cX1_fountainTold 123 = .ok (.iconst 0, 1) := dk_3 (dk_at dksX1_fountainTold_4 16 rfl rfl)
theorem dX1_fountainTold_124 : decode cX1_fountainTold 124 = .ok (.ireturn, 1) := dk_172 (dk_at dksX1_fountainTold_4 17 rfl rfl)
theorem dX1_fountainTold_125 : decode cX1_fountainTold 125 = .ok (.aload_n 3, 1) := dk_45 (dk_at dksX1_fountainTold_4 18 rfl rfl)
theorem dX1_fountainTold_126 : decode cX1_fountainTold 126 = .ok (.getfield 250, 3) := dk_180 0 250 (dk_at dksX1_fountainTold_4 19 rfl rfl)
theorem dX1_fountainTold_129 : decode cX1_fountainTold 129 = .ok (.ifCond .eq 7, 3) := dk_153 0 7 (dk_at dksX1_fountainTold_5 0 rfl rfl)
theorem dX1_fountainTold_132 : decode cX1_fountainTold 132 = .ok (.iconst 1, 1) := dk_4 (dk_at dksX1_fountainTold_5 3 rfl rfl)
theorem dX1_fountainTold_133 : decode cX1_fountainTold 133 = .ok (.goto 4, 3) := dk_167 0 4 (dk_at dksX1_fountainTold_5 4 rfl rfl)
theorem dX1_fountainTold_136 : decode cX1_fountainTold 136 = .ok (.iconst 0, 1) := dk_3 (dk_at dksX1_fountainTold_5 7 rfl rfl)
theorem dX1_fountainTold_137 : decode cX1_fountainTold 137 = .ok (.ireturn, 1) := dk_172 (dk_at dksX1_fountainTold_5 8 rfl rfl)
theorem dX1_fountainTold_138 : decode cX1_fountainTold 138 = .ok (.aload_n 3, 1) := dk_45 (dk_at dksX1_fountainTold_5 9 rfl rfl)
theorem dX1_fountainTold_139 : decode cX1_fountainTold 139 = .ok (.getfield 253, 3) := dk_180 0 253 (dk_at dksX1_fountainTold_5 10 rfl rfl)
theorem dX1_fountainTold_142 : decode cX1_fountainTold 142 = .ok (.ireturn, 1) := dk_172 (dk_at dksX1_fountainTold_5 13 rfl rfl)
theorem dX1_fountainTold_143 : decode cX1_fountainTold 143 = .ok (.aload_n 3, 1) := dk_45 (dk_at dksX1_fountainTold_5 14 rfl rfl)
theorem dX1_fountainTold_144 : decode cX1_fountainTold 144 = .ok (.getfield 256, 3) := dk_180 1 0 (dk_at dksX1_fountainTold_5 15 rfl rfl)
theorem dX1_fountainTold_147 : decode cX1_fountainTold 147 = .ok (.ireturn, 1) := dk_172 (dk_at dksX1_fountainTold_5 18 rfl rfl)
theorem dX1_fountainTold_148 : decode cX1_fountainTold 148 = .ok (.aload_n 3, 1) := dk_45 (dk_at dksX1_fountainTold_5 19 rfl rfl)
theorem dX1_fountainTold_149 : decode cX1_fountainTold 149 = .ok (.getfield 259, 3) := dk_180 1 3 (dk_at dksX1_fountainTold_5 20 rfl rfl)
theorem dX1_fountainTold_152 : decode cX1_fountainTold 152 = .ok (.ireturn, 1) := dk_172 (dk_at dksX1_fountainTold_5 23 rfl rfl)
abbrev cX1_daysTold : ByteArray := prog_1_method_43_code
def yX1_daysTold : MethodName := ⟨RX1, "daysTold", "(I)I"⟩
def dkwX1_daysTold_3 : List UInt8 := [163, 0, 7, 28, 167, 0, 4, 2, 172]
abbrev dktX1_daysTold_3 : List UInt8 := dkwX1_daysTold_3 ++ []
def dkwX1_daysTold_2 : List UInt8 := [182, 1, 82, 154, 0, 16, 42, 180, 0, 16, 182, 1, 85, 132, 2, 1, 167, 255, 225, 28, 16, 60]
abbrev dktX1_daysTold_2 : List UInt8 := dkwX1_daysTold_2 ++ dktX1_daysTold_3
def dkwX1_daysTold_1 : List UInt8 := [180, 0, 10, 182, 0, 43, 3, 61, 28, 16, 60, 163, 0, 31, 42, 180, 0, 16, 180, 0, 72, 27, 50]
abbrev dktX1_daysTold_1 : List UInt8 := dkwX1_daysTold_1 ++ dktX1_daysTold_2
def dkwX1_daysTold_0 : List UInt8 := [42, 180, 0, 10, 180, 0, 72, 27, 50, 180, 0, 76, 154, 0, 5, 2, 172, 42, 180, 0, 16, 42]
abbrev dktX1_daysTold_0 : List UInt8 := dkwX1_daysTold_0 ++ dktX1_daysTold_1
theorem dksX1_daysTold_0 : cX1_daysTold.data.toList.drop 0 = dktX1_daysTold_0 := by decide +kernel
theorem dksX1_daysTold_1 : cX1_daysTold.data.toList.drop 22 = dktX1_daysTold_1 := dk_seg dksX1_daysTold_0 22 rfl rfl
theorem dksX1_daysTold_2 : cX1_daysTold.data.toList.drop 45 = dktX1_daysTold_2 := dk_seg dksX1_daysTold_1 23 rfl rfl
theorem dksX1_daysTold_3 : cX1_daysTold.data.toList.drop 67 = dktX1_daysTold_3 := dk_seg dksX1_daysTold_2 22 rfl rfl
theorem dX1_daysTold_0 : decode cX1_daysTold 0 = .ok (.aload_n 0, 1) := dk_42 (dk_at dksX1_daysTold_0 0 rfl rfl)
theorem dX1_daysTold_1 : decode cX1_daysTold 1 = .ok (.getfield 10, 3) := dk_180 0 10 (dk_at dksX1_daysTold_0 1 rfl rfl)
theorem dX1_daysTold_4 : decode cX1_daysTold 4 = .ok (.getfield 72, 3) := dk_180 0 72 (dk_at dksX1_daysTold_0 4 rfl rfl)
theorem dX1_daysTold_7 : decode cX1_daysTold 7 = .ok (.iload_n 1, 1) := dk_27 (dk_at dksX1_daysTold_0 7 rfl rfl)
theorem dX1_daysTold_8 : decode cX1_daysTold 8 = .ok (.aaload, 1) := dk_50 (dk_at dksX1_daysTold_0 8 rfl rfl)
theorem dX1_daysTold_9 : decode cX1_daysTold 9 = .ok (.getfield 76, 3) := dk_180 0 76 (dk_at dksX1_daysTold_0 9 rfl rfl)
theorem dX1_daysTold_12 : decode cX1_daysTold 12 = .ok (.ifCond .ne 5, 3) := dk_154 0 5 (dk_at dksX1_daysTold_0 12 rfl rfl)
theorem dX1_daysTold_15 : decode cX1_daysTold 15 = .ok (.iconst (-1), 1) := dk_2 (dk_at dksX1_daysTold_0 15 rfl rfl)
theorem dX1_daysTold_16 : decode cX1_daysTold 16 = .ok (.ireturn, 1) := dk_172 (dk_at dksX1_daysTold_0 16 rfl rfl)
theorem dX1_daysTold_17 : decode cX1_daysTold 17 = .ok (.aload_n 0, 1) := dk_42 (dk_at dksX1_daysTold_0 17 rfl rfl)
theorem dX1_daysTold_18 : decode cX1_daysTold 18 = .ok (.getfield 16, 3) := dk_180 0 16 (dk_at dksX1_daysTold_0 18 rfl rfl)
theorem dX1_daysTold_21 : decode cX1_daysTold 21 = .ok (.aload_n 0, 1) := dk_42 (dk_at dksX1_daysTold_0 21 rfl rfl)
theorem dX1_daysTold_22 : decode cX1_daysTold 22 = .ok (.getfield 10, 3) := dk_180 0 10 (dk_at dksX1_daysTold_1 0 rfl rfl)
theorem dX1_daysTold_25 : decode cX1_daysTold 25 = .ok (.invokevirtual 43, 3) := dk_182 0 43 (dk_at dksX1_daysTold_1 3 rfl rfl)
theorem dX1_daysTold_28 : decode cX1_daysTold 28 = .ok (.iconst 0, 1) := dk_3 (dk_at dksX1_daysTold_1 6 rfl rfl)
theorem dX1_daysTold_29 : decode cX1_daysTold 29 = .ok (.istore_n 2, 1) := dk_61 (dk_at dksX1_daysTold_1 7 rfl rfl)
theorem dX1_daysTold_30 : decode cX1_daysTold 30 = .ok (.iload_n 2, 1) := dk_28 (dk_at dksX1_daysTold_1 8 rfl rfl)
theorem dX1_daysTold_31 : decode cX1_daysTold 31 = .ok (.bipush 60, 2) := dk_16 60 (dk_at dksX1_daysTold_1 9 rfl rfl)
theorem dX1_daysTold_33 : decode cX1_daysTold 33 = .ok (.if_icmp .gt 31, 3) := dk_163 0 31 (dk_at dksX1_daysTold_1 11 rfl rfl)
theorem dX1_daysTold_36 : decode cX1_daysTold 36 = .ok (.aload_n 0, 1) := dk_42 (dk_at dksX1_daysTold_1 14 rfl rfl)
theorem dX1_daysTold_37 : decode cX1_daysTold 37 = .ok (.getfield 16, 3) := dk_180 0 16 (dk_at dksX1_daysTold_1 15 rfl rfl)
theorem dX1_daysTold_40 : decode cX1_daysTold 40 = .ok (.getfield 72, 3) := dk_180 0 72 (dk_at dksX1_daysTold_1 18 rfl rfl)
theorem dX1_daysTold_43 : decode cX1_daysTold 43 = .ok (.iload_n 1, 1) := dk_27 (dk_at dksX1_daysTold_1 21 rfl rfl)
theorem dX1_daysTold_44 : decode cX1_daysTold 44 = .ok (.aaload, 1) := dk_50 (dk_at dksX1_daysTold_1 22 rfl rfl)
theorem dX1_daysTold_45 : decode cX1_daysTold 45 = .ok (.invokevirtual 338, 3) := dk_182 1 82 (dk_at dksX1_daysTold_2 0 rfl rfl)
theorem dX1_daysTold_48 : decode cX1_daysTold 48 = .ok (.ifCond .ne 16, 3) := dk_154 0 16 (dk_at dksX1_daysTold_2 3 rfl rfl)
theorem dX1_daysTold_51 : decode cX1_daysTold 51 = .ok (.aload_n 0, 1) := dk_42 (dk_at dksX1_daysTold_2 6 rfl rfl)
theorem dX1_daysTold_52 : decode cX1_daysTold 52 = .ok (.getfield 16, 3) := dk_180 0 16 (dk_at dksX1_daysTold_2 7 rfl rfl)
theorem dX1_daysTold_55 : decode cX1_daysTold 55 = .ok (.invokevirtual 341, 3) := dk_182 1 85 (dk_at dksX1_daysTold_2 10 rfl rfl)
theorem dX1_daysTold_58 : decode cX1_daysTold 58 = .ok (.iinc 2 1, 3) := dk_132 2 1 (dk_at dksX1_daysTold_2 13 rfl rfl)
theorem dX1_daysTold_61 : decode cX1_daysTold 61 = .ok (.goto (-31), 3) := dk_167 255 225 (dk_at dksX1_daysTold_2 16 rfl rfl)
theorem dX1_daysTold_64 : decode cX1_daysTold 64 = .ok (.iload_n 2, 1) := dk_28 (dk_at dksX1_daysTold_2 19 rfl rfl)
theorem dX1_daysTold_65 : decode cX1_daysTold 65 = .ok (.bipush 60, 2) := dk_16 60 (dk_at dksX1_daysTold_2 20 rfl rfl)
theorem dX1_daysTold_67 : decode cX1_daysTold 67 = .ok (.if_icmp .gt 7, 3) := dk_163 0 7 (dk_at dksX1_daysTold_3 0 rfl rfl)
theorem dX1_daysTold_70 : decode cX1_daysTold 70 = .ok (.iload_n 2, 1) := dk_28 (dk_at dksX1_daysTold_3 3 rfl rfl)
theorem dX1_daysTold_71 : decode cX1_daysTold 71 = .ok (.goto 4, 3) := dk_167 0 4 (dk_at dksX1_daysTold_3 4 rfl rfl)
theorem dX1_daysTold_74 : decode cX1_daysTold 74 = .ok (.iconst (-1), 1) := dk_2 (dk_at dksX1_daysTold_3 7 rfl rfl)
theorem dX1_daysTold_75 : decode cX1_daysTold 75 = .ok (.ireturn, 1) := dk_172 (dk_at dksX1_daysTold_3 8 rfl rfl)
abbrev cX1_mixRows : ByteArray := prog_1_method_50_code
def yX1_mixRows : MethodName := ⟨RX1, "mixRows", "()V"⟩
def dkwX1_mixRows_4 : List UInt8 := [42, 42, 27, 6, 108, 27, 6, 112, 182, 1, 54, 133, 182, 1, 103, 132, 1, 1, 167, 255, 222, 177]
abbrev dktX1_mixRows_4 : List UInt8 := dkwX1_mixRows_4 ++ []
def dkwX1_mixRows_3 : List UInt8 := [132, 1, 1, 167, 255, 222, 3, 60, 27, 6, 42, 180, 0, 10, 180, 0, 156, 182, 0, 160, 104, 162, 0, 24]
abbrev dktX1_mixRows_3 : List UInt8 := dkwX1_mixRows_3 ++ dktX1_mixRows_4
def dkwX1_mixRows_2 : List UInt8 := [182, 0, 128, 104, 162, 0, 24, 42, 42, 27, 5, 108, 27, 5, 112, 182, 1, 48, 133, 182, 1, 103]
abbrev dktX1_mixRows_2 : List UInt8 := dkwX1_mixRows_2 ++ dktX1_mixRows_3
def dkwX1_mixRows_1 : List UInt8 := [182, 1, 36, 133, 182, 1, 103, 132, 1, 1, 167, 255, 225, 3, 60, 27, 5, 42, 180, 0, 10, 180, 0, 124]
abbrev dktX1_mixRows_1 : List UInt8 := dkwX1_mixRows_1 ++ dktX1_mixRows_2
def dkwX1_mixRows_0 : List UInt8 := [3, 60, 27, 7, 42, 180, 0, 10, 182, 1, 10, 104, 162, 0, 24, 42, 42, 27, 7, 108, 27, 7, 112]
abbrev dktX1_mixRows_0 : List UInt8 := dkwX1_mixRows_0 ++ dktX1_mixRows_1
theorem dksX1_mixRows_0 : cX1_mixRows.data.toList.drop 0 = dktX1_mixRows_0 := by decide +kernel
theorem dksX1_mixRows_1 : cX1_mixRows.data.toList.drop 23 = dktX1_mixRows_1 := dk_seg dksX1_mixRows_0 23 rfl rfl
theorem dksX1_mixRows_2 : cX1_mixRows.data.toList.drop 47 = dktX1_mixRows_2 := dk_seg dksX1_mixRows_1 24 rfl rfl
theorem dksX1_mixRows_3 : cX1_mixRows.data.toList.drop 69 = dktX1_mixRows_3 := dk_seg dksX1_mixRows_2 22 rfl rfl
theorem dksX1_mixRows_4 : cX1_mixRows.data.toList.drop 93 = dktX1_mixRows_4 := dk_seg dksX1_mixRows_3 24 rfl rfl
theorem dX1_mixRows_0 : decode cX1_mixRows 0 = .ok (.iconst 0, 1) := dk_3 (dk_at dksX1_mixRows_0 0 rfl rfl)
theorem dX1_mixRows_1 : decode cX1_mixRows 1 = .ok (.istore_n 1, 1) := dk_60 (dk_at dksX1_mixRows_0 1 rfl rfl)
theorem dX1_mixRows_2 : decode cX1_mixRows 2 = .ok (.iload_n 1, 1) := dk_27 (dk_at dksX1_mixRows_0 2 rfl rfl)
theorem dX1_mixRows_3 : decode cX1_mixRows 3 = .ok (.iconst 4, 1) := dk_7 (dk_at dksX1_mixRows_0 3 rfl rfl)
theorem dX1_mixRows_4 : decode cX1_mixRows 4 = .ok (.aload_n 0, 1) := dk_42 (dk_at dksX1_mixRows_0 4 rfl rfl)
theorem dX1_mixRows_5 : decode cX1_mixRows 5 = .ok (.getfield 10, 3) := dk_180 0 10 (dk_at dksX1_mixRows_0 5 rfl rfl)
theorem dX1_mixRows_8 : decode cX1_mixRows 8 = .ok (.invokevirtual 266, 3) := dk_182 1 10 (dk_at dksX1_mixRows_0 8 rfl rfl)
theorem dX1_mixRows_11 : decode cX1_mixRows 11 = .ok (.imul, 1) := dk_104 (dk_at dksX1_mixRows_0 11 rfl rfl)
theorem dX1_mixRows_12 : decode cX1_mixRows 12 = .ok (.if_icmp .ge 24, 3) := dk_162 0 24 (dk_at dksX1_mixRows_0 12 rfl rfl)
theorem dX1_mixRows_15 : decode cX1_mixRows 15 = .ok (.aload_n 0, 1) := dk_42 (dk_at dksX1_mixRows_0 15 rfl rfl)
theorem dX1_mixRows_16 : decode cX1_mixRows 16 = .ok (.aload_n 0, 1) := dk_42 (dk_at dksX1_mixRows_0 16 rfl rfl)
theorem dX1_mixRows_17 : decode cX1_mixRows 17 = .ok (.iload_n 1, 1) := dk_27 (dk_at dksX1_mixRows_0 17 rfl rfl)
theorem dX1_mixRows_18 : decode cX1_mixRows 18 = .ok (.iconst 4, 1) := dk_7 (dk_at dksX1_mixRows_0 18 rfl rfl)
theorem dX1_mixRows_19 : decode cX1_mixRows 19 = .ok (.idiv, 1) := dk_108 (dk_at dksX1_mixRows_0 19 rfl rfl)
theorem dX1_mixRows_20 : decode cX1_mixRows 20 = .ok (.iload_n 1, 1) := dk_27 (dk_at dksX1_mixRows_0 20 rfl rfl)
theorem dX1_mixRows_21 : decode cX1_mixRows 21 = .ok (.iconst 4, 1) := dk_7 (dk_at dksX1_mixRows_0 21 rfl rfl)
theorem dX1_mixRows_22 : decode cX1_mixRows 22 = .ok (.irem, 1) := dk_112 (dk_at dksX1_mixRows_0 22 rfl rfl)
theorem dX1_mixRows_23 : decode cX1_mixRows 23 = .ok (.invokevirtual 292, 3) := dk_182 1 36 (dk_at dksX1_mixRows_1 0 rfl rfl)
theorem dX1_mixRows_26 : decode cX1_mixRows 26 = .ok (.i2l, 1) := dk_133 (dk_at dksX1_mixRows_1 3 rfl rfl)
theorem dX1_mixRows_27 : decode cX1_mixRows 27 = .ok (.invokevirtual 359, 3) := dk_182 1 103 (dk_at dksX1_mixRows_1 4 rfl rfl)
theorem dX1_mixRows_30 : decode cX1_mixRows 30 = .ok (.iinc 1 1, 3) := dk_132 1 1 (dk_at dksX1_mixRows_1 7 rfl rfl)
theorem dX1_mixRows_33 : decode cX1_mixRows 33 = .ok (.goto (-31), 3) := dk_167 255 225 (dk_at dksX1_mixRows_1 10 rfl rfl)
theorem dX1_mixRows_36 : decode cX1_mixRows 36 = .ok (.iconst 0, 1) := dk_3 (dk_at dksX1_mixRows_1 13 rfl rfl)
theorem dX1_mixRows_37 : decode cX1_mixRows 37 = .ok (.istore_n 1, 1) := dk_60 (dk_at dksX1_mixRows_1 14 rfl rfl)
theorem dX1_mixRows_38 : decode cX1_mixRows 38 = .ok (.iload_n 1, 1) := dk_27 (dk_at dksX1_mixRows_1 15 rfl rfl)
theorem dX1_mixRows_39 : decode cX1_mixRows 39 = .ok (.iconst 2, 1) := dk_5 (dk_at dksX1_mixRows_1 16 rfl rfl)
theorem dX1_mixRows_40 : decode cX1_mixRows 40 = .ok (.aload_n 0, 1) := dk_42 (dk_at dksX1_mixRows_1 17 rfl rfl)
theorem dX1_mixRows_41 : decode cX1_mixRows 41 = .ok (.getfield 10, 3) := dk_180 0 10 (dk_at dksX1_mixRows_1 18 rfl rfl)
theorem dX1_mixRows_44 : decode cX1_mixRows 44 = .ok (.getfield 124, 3) := dk_180 0 124 (dk_at dksX1_mixRows_1 21 rfl rfl)
theorem dX1_mixRows_47 : decode cX1_mixRows 47 = .ok (.invokevirtual 128, 3) := dk_182 0 128 (dk_at dksX1_mixRows_2 0 rfl rfl)
theorem dX1_mixRows_50 : decode cX1_mixRows 50 = .ok (.imul, 1) := dk_104 (dk_at dksX1_mixRows_2 3 rfl rfl)
theorem dX1_mixRows_51 : decode cX1_mixRows 51 = .ok (.if_icmp .ge 24, 3) := dk_162 0 24 (dk_at dksX1_mixRows_2 4 rfl rfl)
theorem dX1_mixRows_54 : decode cX1_mixRows 54 = .ok (.aload_n 0, 1) := dk_42 (dk_at dksX1_mixRows_2 7 rfl rfl)
theorem dX1_mixRows_55 : decode cX1_mixRows 55 = .ok (.aload_n 0, 1) := dk_42 (dk_at dksX1_mixRows_2 8 rfl rfl)
theorem dX1_mixRows_56 : decode cX1_mixRows 56 = .ok (.iload_n 1, 1) := dk_27 (dk_at dksX1_mixRows_2 9 rfl rfl)
theorem dX1_mixRows_57 : decode cX1_mixRows 57 = .ok (.iconst 2, 1) := dk_5 (dk_at dksX1_mixRows_2 10 rfl rfl)
theorem dX1_mixRows_58 : decode cX1_mixRows 58 = .ok (.idiv, 1) := dk_108 (dk_at dksX1_mixRows_2 11 rfl rfl)
theorem dX1_mixRows_59 : decode cX1_mixRows 59 = .ok (.iload_n 1, 1) := dk_27 (dk_at dksX1_mixRows_2 12 rfl rfl)
theorem dX1_mixRows_60 : decode cX1_mixRows 60 = .ok (.iconst 2, 1) := dk_5 (dk_at dksX1_mixRows_2 13 rfl rfl)
theorem dX1_mixRows_61 : decode cX1_mixRows 61 = .ok (.irem, 1) := dk_112 (dk_at dksX1_mixRows_2 14 rfl rfl)
theorem dX1_mixRows_62 : decode cX1_mixRows 62 = .ok (.invokevirtual 304, 3) := dk_182 1 48 (dk_at dksX1_mixRows_2 15 rfl rfl)
theorem dX1_mixRows_65 : decode cX1_mixRows 65 = .ok (.i2l, 1) := dk_133 (dk_at dksX1_mixRows_2 18 rfl rfl)
theorem dX1_mixRows_66 : decode cX1_mixRows 66 = .ok (.invokevirtual 359, 3) := dk_182 1 103 (dk_at dksX1_mixRows_2 19 rfl rfl)
theorem dX1_mixRows_69 : decode cX1_mixRows 69 = .ok (.iinc 1 1, 3) := dk_132 1 1 (dk_at dksX1_mixRows_3 0 rfl rfl)
theorem dX1_mixRows_72 : decode cX1_mixRows 72 = .ok (.goto (-34), 3) := dk_167 255 222 (dk_at dksX1_mixRows_3 3 rfl rfl)
theorem dX1_mixRows_75 : decode cX1_mixRows 75 = .ok (.iconst 0, 1) := dk_3 (dk_at dksX1_mixRows_3 6 rfl rfl)
theorem dX1_mixRows_76 : decode cX1_mixRows 76 = .ok (.istore_n 1, 1) := dk_60 (dk_at dksX1_mixRows_3 7 rfl rfl)
theorem dX1_mixRows_77 : decode cX1_mixRows 77 = .ok (.iload_n 1, 1) := dk_27 (dk_at dksX1_mixRows_3 8 rfl rfl)
theorem dX1_mixRows_78 : decode cX1_mixRows 78 = .ok (.iconst 3, 1) := dk_6 (dk_at dksX1_mixRows_3 9 rfl rfl)
theorem dX1_mixRows_79 : decode cX1_mixRows 79 = .ok (.aload_n 0, 1) := dk_42 (dk_at dksX1_mixRows_3 10 rfl rfl)
theorem dX1_mixRows_80 : decode cX1_mixRows 80 = .ok (.getfield 10, 3) := dk_180 0 10 (dk_at dksX1_mixRows_3 11 rfl rfl)
theorem dX1_mixRows_83 : decode cX1_mixRows 83 = .ok (.getfield 156, 3) := dk_180 0 156 (dk_at dksX1_mixRows_3 14 rfl rfl)
theorem dX1_mixRows_86 : decode cX1_mixRows 86 = .ok (.invokevirtual 160, 3) := dk_182 0 160 (dk_at dksX1_mixRows_3 17 rfl rfl)
theorem dX1_mixRows_89 : decode cX1_mixRows 89 = .ok (.imul, 1) := dk_104 (dk_at dksX1_mixRows_3 20 rfl rfl)
theorem dX1_mixRows_90 : decode cX1_mixRows 90 = .ok (.if_icmp .ge 24, 3) := dk_162 0 24 (dk_at dksX1_mixRows_3 21 rfl rfl)
theorem dX1_mixRows_93 : decode cX1_mixRows 93 = .ok (.aload_n 0, 1) := dk_42 (dk_at dksX1_mixRows_4 0 rfl rfl)
theorem dX1_mixRows_94 : decode cX1_mixRows 94 = .ok (.aload_n 0, 1) := dk_42 (dk_at dksX1_mixRows_4 1 rfl rfl)
theorem dX1_mixRows_95 : decode cX1_mixRows 95 = .ok (.iload_n 1, 1) := dk_27 (dk_at dksX1_mixRows_4 2 rfl rfl)
theorem dX1_mixRows_96 : decode cX1_mixRows 96 = .ok (.iconst 3, 1) := dk_6 (dk_at dksX1_mixRows_4 3 rfl rfl)
theorem dX1_mixRows_97 : decode cX1_mixRows 97 = .ok (.idiv, 1) := dk_108 (dk_at dksX1_mixRows_4 4 rfl rfl)
theorem dX1_mixRows_98 : decode cX1_mixRows 98 = .ok (.iload_n 1, 1) := dk_27 (dk_at dksX1_mixRows_4 5 rfl rfl)
theorem dX1_mixRows_99 : decode cX1_mixRows 99 = .ok (.iconst 3, 1) := dk_6 (dk_at dksX1_mixRows_4 6 rfl rfl)
theorem dX1_mixRows_100 : decode cX1_mixRows 100 = .ok (.irem, 1) := dk_112 (dk_at dksX1_mixRows_4 7 rfl rfl)
theorem dX1_mixRows_101 : decode cX1_mixRows 101 = .ok (.invokevirtual 310, 3) := dk_182 1 54 (dk_at dksX1_mixRows_4 8 rfl rfl)
theorem dX1_mixRows_104 : decode cX1_mixRows 104 = .ok (.i2l, 1) := dk_133 (dk_at dksX1_mixRows_4 11 rfl rfl)
theorem dX1_mixRows_105 : decode cX1_mixRows 105 = .ok (.invokevirtual 359, 3) := dk_182 1 103 (dk_at dksX1_mixRows_4 12 rfl rfl)
theorem dX1_mixRows_108 : decode cX1_mixRows 108 = .ok (.iinc 1 1, 3) := dk_132 1 1 (dk_at dksX1_mixRows_4 15 rfl rfl)
theorem dX1_mixRows_111 : decode cX1_mixRows 111 = .ok (.goto (-34), 3) := dk_167 255 222 (dk_at dksX1_mixRows_4 18 rfl rfl)
theorem dX1_mixRows_114 : decode cX1_mixRows 114 = .ok (.return_, 1) := dk_177 (dk_at dksX1_mixRows_4 21 rfl rfl)
abbrev cX1_jobTold : ByteArray := prog_1_method_28_code
def yX1_jobTold : MethodName := ⟨RX1, "jobTold", "(II)I"⟩
def dkwX1_jobTold_5 : List UInt8 := [180, 0, 10, 180, 0, 72, 45, 180, 1, 25, 50, 180, 1, 33, 45, 180, 1, 26, 46, 100, 172]
abbrev dktX1_jobTold_5 : List UInt8 := dkwX1_jobTold_5 ++ []
def dkwX1_jobTold_4 : List UInt8 := [45, 180, 1, 25, 172, 45, 180, 1, 26, 172, 45, 180, 1, 29, 172, 178, 1, 30, 45, 180, 1, 26, 46, 42]
abbrev dktX1_jobTold_4 : List UInt8 := dkwX1_jobTold_4 ++ dktX1_jobTold_5
def dkwX1_jobTold_3 : List UInt8 := [170, 0, 0, 0, 40, 0, 0, 0, 0, 0, 0, 0, 2, 0, 0, 0, 25, 0, 0, 0, 30, 0, 0, 0, 35]
abbrev dktX1_jobTold_3 : List UInt8 := dkwX1_jobTold_3 ++ dktX1_jobTold_4
def dkwX1_jobTold_2 : List UInt8 := [180, 1, 14, 182, 1, 18, 192, 1, 23, 78, 28]
abbrev dktX1_jobTold_2 : List UInt8 := dkwX1_jobTold_2 ++ dktX1_jobTold_3
def dkwX1_jobTold_1 : List UInt8 := [162, 0, 20, 42, 180, 0, 10, 180, 1, 14, 182, 1, 18, 87, 132, 3, 1, 167, 255, 237, 42, 180, 0, 10]
abbrev dktX1_jobTold_1 : List UInt8 := dkwX1_jobTold_1 ++ dktX1_jobTold_2
def dkwX1_jobTold_0 : List UInt8 := [27, 42, 180, 0, 10, 182, 1, 10, 161, 0, 5, 2, 172, 42, 180, 0, 10, 182, 1, 11, 3, 62, 29, 27]
abbrev dktX1_jobTold_0 : List UInt8 := dkwX1_jobTold_0 ++ dktX1_jobTold_1
theorem dksX1_jobTold_0 : cX1_jobTold.data.toList.drop 0 = dktX1_jobTold_0 := by decide +kernel
theorem dksX1_jobTold_1 : cX1_jobTold.data.toList.drop 24 = dktX1_jobTold_1 := dk_seg dksX1_jobTold_0 24 rfl rfl
theorem dksX1_jobTold_2 : cX1_jobTold.data.toList.drop 48 = dktX1_jobTold_2 := dk_seg dksX1_jobTold_1 24 rfl rfl
theorem dksX1_jobTold_3 : cX1_jobTold.data.toList.drop 59 = dktX1_jobTold_3 := dk_seg dksX1_jobTold_2 11 rfl rfl
theorem dksX1_jobTold_4 : cX1_jobTold.data.toList.drop 84 = dktX1_jobTold_4 := dk_seg dksX1_jobTold_3 25 rfl rfl
theorem dksX1_jobTold_5 : cX1_jobTold.data.toList.drop 108 = dktX1_jobTold_5 := dk_seg dksX1_jobTold_4 24 rfl rfl
theorem dX1_jobTold_0 : decode cX1_jobTold 0 = .ok (.iload_n 1, 1) := dk_27 (dk_at dksX1_jobTold_0 0 rfl rfl)
theorem dX1_jobTold_1 : decode cX1_jobTold 1 = .ok (.aload_n 0, 1) := dk_42 (dk_at dksX1_jobTold_0 1 rfl rfl)
theorem dX1_jobTold_2 : decode cX1_jobTold 2 = .ok (.getfield 10, 3) := dk_180 0 10 (dk_at dksX1_jobTold_0 2 rfl rfl)
theorem dX1_jobTold_5 : decode cX1_jobTold 5 = .ok (.invokevirtual 266, 3) := dk_182 1 10 (dk_at dksX1_jobTold_0 5 rfl rfl)
theorem dX1_jobTold_8 : decode cX1_jobTold 8 = .ok (.if_icmp .lt 5, 3) := dk_161 0 5 (dk_at dksX1_jobTold_0 8 rfl rfl)
theorem dX1_jobTold_11 : decode cX1_jobTold 11 = .ok (.iconst (-1), 1) := dk_2 (dk_at dksX1_jobTold_0 11 rfl rfl)
theorem dX1_jobTold_12 : decode cX1_jobTold 12 = .ok (.ireturn, 1) := dk_172 (dk_at dksX1_jobTold_0 12 rfl rfl)
theorem dX1_jobTold_13 : decode cX1_jobTold 13 = .ok (.aload_n 0, 1) := dk_42 (dk_at dksX1_jobTold_0 13 rfl rfl)
theorem dX1_jobTold_14 : decode cX1_jobTold 14 = .ok (.getfield 10, 3) := dk_180 0 10 (dk_at dksX1_jobTold_0 14 rfl rfl)
theorem dX1_jobTold_17 : decode cX1_jobTold 17 = .ok (.invokevirtual 267, 3) := dk_182 1 11 (dk_at dksX1_jobTold_0 17 rfl rfl)
theorem dX1_jobTold_20 : decode cX1_jobTold 20 = .ok (.iconst 0, 1) := dk_3 (dk_at dksX1_jobTold_0 20 rfl rfl)
theorem dX1_jobTold_21 : decode cX1_jobTold 21 = .ok (.istore_n 3, 1) := dk_62 (dk_at dksX1_jobTold_0 21 rfl rfl)
theorem dX1_jobTold_22 : decode cX1_jobTold 22 = .ok (.iload_n 3, 1) := dk_29 (dk_at dksX1_jobTold_0 22 rfl rfl)
theorem dX1_jobTold_23 : decode cX1_jobTold 23 = .ok (.iload_n 1, 1) := dk_27 (dk_at dksX1_jobTold_0 23 rfl rfl)
theorem dX1_jobTold_24 : decode cX1_jobTold 24 = .ok (.if_icmp .ge 20, 3) := dk_162 0 20 (dk_at dksX1_jobTold_1 0 rfl rfl)
theorem dX1_jobTold_27 : decode cX1_jobTold 27 = .ok (.aload_n 0, 1) := dk_42 (dk_at dksX1_jobTold_1 3 rfl rfl)
theorem dX1_jobTold_28 : decode cX1_jobTold 28 = .ok (.getfield 10, 3) := dk_180 0 10 (dk_at dksX1_jobTold_1 4 rfl rfl)
theorem dX1_jobTold_31 : decode cX1_jobTold 31 = .ok (.getfield 270, 3) := dk_180 1 14 (dk_at dksX1_jobTold_1 7 rfl rfl)
theorem dX1_jobTold_34 : decode cX1_jobTold 34 = .ok (.invokevirtual 274, 3) := dk_182 1 18 (dk_at dksX1_jobTold_1 10 rfl rfl)
theorem dX1_jobTold_37 : decode cX1_jobTold 37 = .ok (.pop, 1) := dk_87 (dk_at dksX1_jobTold_1 13 rfl rfl)
theorem dX1_jobTold_38 : decode cX1_jobTold 38 = .ok (.iinc 3 1, 3) := dk_132 3 1 (dk_at dksX1_jobTold_1 14 rfl rfl)
theorem dX1_jobTold_41 : decode cX1_jobTold 41 = .ok (.goto (-19), 3) := dk_167 255 237 (dk_at dksX1_jobTold_1 17 rfl rfl)
theorem dX1_jobTold_44 : decode cX1_jobTold 44 = .ok (.aload_n 0, 1) := dk_42 (dk_at dksX1_jobTold_1 20 rfl rfl)
theorem dX1_jobTold_45 : decode cX1_jobTold 45 = .ok (.getfield 10, 3) := dk_180 0 10 (dk_at dksX1_jobTold_1 21 rfl rfl)
theorem dX1_jobTold_48 : decode cX1_jobTold 48 = .ok (.getfield 270, 3) := dk_180 1 14 (dk_at dksX1_jobTold_2 0 rfl rfl)
theorem dX1_jobTold_51 : decode cX1_jobTold 51 = .ok (.invokevirtual 274, 3) := dk_182 1 18 (dk_at dksX1_jobTold_2 3 rfl rfl)
theorem dX1_jobTold_54 : decode cX1_jobTold 54 = .ok (.checkcast 279, 3) := dk_192 1 23 (dk_at dksX1_jobTold_2 6 rfl rfl)
theorem dX1_jobTold_57 : decode cX1_jobTold 57 = .ok (.astore_n 3, 1) := dk_78 (dk_at dksX1_jobTold_2 9 rfl rfl)
theorem dX1_jobTold_58 : decode cX1_jobTold 58 = .ok (.iload_n 2, 1) := dk_28 (dk_at dksX1_jobTold_2 10 rfl rfl)
theorem dX1_jobTold_59 : decode cX1_jobTold 59 = .ok (.tableswitch 40 0 2 #[25, 30, 35], 25) := by decide +kernel
theorem dX1_jobTold_84 : decode cX1_jobTold 84 = .ok (.aload_n 3, 1) := dk_45 (dk_at dksX1_jobTold_4 0 rfl rfl)
theorem dX1_jobTold_85 : decode cX1_jobTold 85 = .ok (.getfield 281, 3) := dk_180 1 25 (dk_at dksX1_jobTold_4 1 rfl rfl)
theorem dX1_jobTold_88 : decode cX1_jobTold 88 = .ok (.ireturn, 1) := dk_172 (dk_at dksX1_jobTold_4 4 rfl rfl)
theorem dX1_jobTold_89 : decode cX1_jobTold 89 = .ok (.aload_n 3, 1) := dk_45 (dk_at dksX1_jobTold_4 5 rfl rfl)
theorem dX1_jobTold_90 : decode cX1_jobTold 90 = .ok (.getfield 282, 3) := dk_180 1 26 (dk_at dksX1_jobTold_4 6 rfl rfl)
theorem dX1_jobTold_93 : decode cX1_jobTold 93 = .ok (.ireturn, 1) := dk_172 (dk_at dksX1_jobTold_4 9 rfl rfl)
theorem dX1_jobTold_94 : decode cX1_jobTold 94 = .ok (.aload_n 3, 1) := dk_45 (dk_at dksX1_jobTold_4 10 rfl rfl)
theorem dX1_jobTold_95 : decode cX1_jobTold 95 = .ok (.getfield 285, 3) := dk_180 1 29 (dk_at dksX1_jobTold_4 11 rfl rfl)
theorem dX1_jobTold_98 : decode cX1_jobTold 98 = .ok (.ireturn, 1) := dk_172 (dk_at dksX1_jobTold_4 14 rfl rfl)
theorem dX1_jobTold_99 : decode cX1_jobTold 99 = .ok (.getstatic 286, 3) := dk_178 1 30 (dk_at dksX1_jobTold_4 15 rfl rfl)
theorem dX1_jobTold_102 : decode cX1_jobTold 102 = .ok (.aload_n 3, 1) := dk_45 (dk_at dksX1_jobTold_4 18 rfl rfl)
theorem dX1_jobTold_103 : decode cX1_jobTold 103 = .ok (.getfield 282, 3) := dk_180 1 26 (dk_at dksX1_jobTold_4 19 rfl rfl)
theorem dX1_jobTold_106 : decode cX1_jobTold 106 = .ok (.iaload, 1) := dk_46 (dk_at dksX1_jobTold_4 22 rfl rfl)
theorem dX1_jobTold_107 : decode cX1_jobTold 107 = .ok (.aload_n 0, 1) := dk_42 (dk_at dksX1_jobTold_4 23 rfl rfl)
theorem dX1_jobTold_108 : decode cX1_jobTold 108 = .ok (.getfield 10, 3) := dk_180 0 10 (dk_at dksX1_jobTold_5 0 rfl rfl)
theorem dX1_jobTold_111 : decode cX1_jobTold 111 = .ok (.getfield 72, 3) := dk_180 0 72 (dk_at dksX1_jobTold_5 3 rfl rfl)
theorem dX1_jobTold_114 : decode cX1_jobTold 114 = .ok (.aload_n 3, 1) := dk_45 (dk_at dksX1_jobTold_5 6 rfl rfl)
theorem dX1_jobTold_115 : decode cX1_jobTold 115 = .ok (.getfield 281, 3) := dk_180 1 25 (dk_at dksX1_jobTold_5 7 rfl rfl)
theorem dX1_jobTold_118 : decode cX1_jobTold 118 = .ok (.aaload, 1) := dk_50 (dk_at dksX1_jobTold_5 10 rfl rfl)
theorem dX1_jobTold_119 : decode cX1_jobTold 119 = .ok (.getfield 289, 3) := dk_180 1 33 (dk_at dksX1_jobTold_5 11 rfl rfl)
theorem dX1_jobTold_122 : decode cX1_jobTold 122 = .ok (.aload_n 3, 1) := dk_45 (dk_at dksX1_jobTold_5 14 rfl rfl)
theorem dX1_jobTold_123 : decode cX1_jobTold 123 = .ok (.getfield 282, 3) := dk_180 1 26 (dk_at dksX1_jobTold_5 15 rfl rfl)
theorem dX1_jobTold_126 : decode cX1_jobTold 126 = .ok (.iaload, 1) := dk_46 (dk_at dksX1_jobTold_5 18 rfl rfl)
theorem dX1_jobTold_127 : decode cX1_jobTold 127 = .ok (.isub, 1) := dk_100 (dk_at dksX1_jobTold_5 19 rfl rfl)
theorem dX1_jobTold_128 : decode cX1_jobTold 128 = .ok (.ireturn, 1) := dk_172 (dk_at dksX1_jobTold_5 20 rfl rfl)
abbrev cX1_frostTold : ByteArray := prog_1_method_30_code
def yX1_frostTold : MethodName := ⟨RX1, "frostTold", "(II)I"⟩
def dkwX1_frostTold_3 : List UInt8 := [192, 0, 132, 182, 0, 150, 172, 132, 3, 1, 167, 255, 198, 2, 172]
abbrev dktX1_frostTold_3 : List UInt8 := dkwX1_frostTold_3 ++ []
def dkwX1_frostTold_2 : List UInt8 := [160, 0, 31, 28, 154, 0, 8, 25, 5, 167, 0, 18, 42, 180, 0, 10, 180, 0, 124, 25, 5, 182, 1, 46]
abbrev dktX1_frostTold_2 : List UInt8 := dkwX1_frostTold_2 ++ dktX1_frostTold_3
def dkwX1_frostTold_1 : List UInt8 := [185, 0, 171, 1, 0, 153, 0, 54, 25, 4, 185, 0, 177, 1, 0, 192, 0, 132, 58, 5, 29, 27]
abbrev dktX1_frostTold_1 : List UInt8 := dkwX1_frostTold_1 ++ dktX1_frostTold_2
def dkwX1_frostTold_0 : List UInt8 := [3, 62, 42, 180, 0, 10, 180, 0, 124, 182, 1, 39, 185, 1, 43, 1, 0, 58, 4, 25, 4]
abbrev dktX1_frostTold_0 : List UInt8 := dkwX1_frostTold_0 ++ dktX1_frostTold_1
theorem dksX1_frostTold_0 : cX1_frostTold.data.toList.drop 0 = dktX1_frostTold_0 := by decide +kernel
theorem dksX1_frostTold_1 : cX1_frostTold.data.toList.drop 21 = dktX1_frostTold_1 := dk_seg dksX1_frostTold_0 21 rfl rfl
theorem dksX1_frostTold_2 : cX1_frostTold.data.toList.drop 43 = dktX1_frostTold_2 := dk_seg dksX1_frostTold_1 22 rfl rfl
theorem dksX1_frostTold_3 : cX1_frostTold.data.toList.drop 67 = dktX1_frostTold_3 := dk_seg dksX1_frostTold_2 24 rfl rfl
theorem dX1_frostTold_0 : decode cX1_frostTold 0 = .ok (.iconst 0, 1) := dk_3 (dk_at dksX1_frostTold_0 0 rfl rfl)
theorem dX1_frostTold_1 : decode cX1_frostTold 1 = .ok (.istore_n 3, 1) := dk_62 (dk_at dksX1_frostTold_0 1 rfl rfl)
theorem dX1_frostTold_2 : decode cX1_frostTold 2 = .ok (.aload_n 0, 1) := dk_42 (dk_at dksX1_frostTold_0 2 rfl rfl)
theorem dX1_frostTold_3 : decode cX1_frostTold 3 = .ok (.getfield 10, 3) := dk_180 0 10 (dk_at dksX1_frostTold_0 3 rfl rfl)
theorem dX1_frostTold_6 : decode cX1_frostTold 6 = .ok (.getfield 124, 3) := dk_180 0 124 (dk_at dksX1_frostTold_0 6 rfl rfl)
theorem dX1_frostTold_9 : decode cX1_frostTold 9 = .ok (.invokevirtual 295, 3) := dk_182 1 39 (dk_at dksX1_frostTold_0 9 rfl rfl)
theorem dX1_frostTold_12 : decode cX1_frostTold 12 = .ok (.invokeinterface 299 1, 5) := by decide +kernel
theorem dX1_frostTold_17 : decode cX1_frostTold 17 = .ok (.astore 4, 2) := dk_58 4 (dk_at dksX1_frostTold_0 17 rfl rfl)
theorem dX1_frostTold_19 : decode cX1_frostTold 19 = .ok (.aload 4, 2) := dk_25 4 (dk_at dksX1_frostTold_0 19 rfl rfl)
theorem dX1_frostTold_21 : decode cX1_frostTold 21 = .ok (.invokeinterface 171 1, 5) := by decide +kernel
theorem dX1_frostTold_26 : decode cX1_frostTold 26 = .ok (.ifCond .eq 54, 3) := dk_153 0 54 (dk_at dksX1_frostTold_1 5 rfl rfl)
theorem dX1_frostTold_29 : decode cX1_frostTold 29 = .ok (.aload 4, 2) := dk_25 4 (dk_at dksX1_frostTold_1 8 rfl rfl)
theorem dX1_frostTold_31 : decode cX1_frostTold 31 = .ok (.invokeinterface 177 1, 5) := by decide +kernel
theorem dX1_frostTold_36 : decode cX1_frostTold 36 = .ok (.checkcast 132, 3) := dk_192 0 132 (dk_at dksX1_frostTold_1 15 rfl rfl)
theorem dX1_frostTold_39 : decode cX1_frostTold 39 = .ok (.astore 5, 2) := dk_58 5 (dk_at dksX1_frostTold_1 18 rfl rfl)
theorem dX1_frostTold_41 : decode cX1_frostTold 41 = .ok (.iload_n 3, 1) := dk_29 (dk_at dksX1_frostTold_1 20 rfl rfl)
theorem dX1_frostTold_42 : decode cX1_frostTold 42 = .ok (.iload_n 1, 1) := dk_27 (dk_at dksX1_frostTold_1 21 rfl rfl)
theorem dX1_frostTold_43 : decode cX1_frostTold 43 = .ok (.if_icmp .ne 31, 3) := dk_160 0 31 (dk_at dksX1_frostTold_2 0 rfl rfl)
theorem dX1_frostTold_46 : decode cX1_frostTold 46 = .ok (.iload_n 2, 1) := dk_28 (dk_at dksX1_frostTold_2 3 rfl rfl)
theorem dX1_frostTold_47 : decode cX1_frostTold 47 = .ok (.ifCond .ne 8, 3) := dk_154 0 8 (dk_at dksX1_frostTold_2 4 rfl rfl)
theorem dX1_frostTold_50 : decode cX1_frostTold 50 = .ok (.aload 5, 2) := dk_25 5 (dk_at dksX1_frostTold_2 7 rfl rfl)
theorem dX1_frostTold_52 : decode cX1_frostTold 52 = .ok (.goto 18, 3) := dk_167 0 18 (dk_at dksX1_frostTold_2 9 rfl rfl)
theorem dX1_frostTold_55 : decode cX1_frostTold 55 = .ok (.aload_n 0, 1) := dk_42 (dk_at dksX1_frostTold_2 12 rfl rfl)
theorem dX1_frostTold_56 : decode cX1_frostTold 56 = .ok (.getfield 10, 3) := dk_180 0 10 (dk_at dksX1_frostTold_2 13 rfl rfl)
theorem dX1_frostTold_59 : decode cX1_frostTold 59 = .ok (.getfield 124, 3) := dk_180 0 124 (dk_at dksX1_frostTold_2 16 rfl rfl)
theorem dX1_frostTold_62 : decode cX1_frostTold 62 = .ok (.aload 5, 2) := dk_25 5 (dk_at dksX1_frostTold_2 19 rfl rfl)
theorem dX1_frostTold_64 : decode cX1_frostTold 64 = .ok (.invokevirtual 302, 3) := dk_182 1 46 (dk_at dksX1_frostTold_2 21 rfl rfl)
theorem dX1_frostTold_67 : decode cX1_frostTold 67 = .ok (.checkcast 132, 3) := dk_192 0 132 (dk_at dksX1_frostTold_3 0 rfl rfl)
theorem dX1_frostTold_70 : decode cX1_frostTold 70 = .ok (.invokevirtual 150, 3) := dk_182 0 150 (dk_at dksX1_frostTold_3 3 rfl rfl)
theorem dX1_frostTold_73 : decode cX1_frostTold 73 = .ok (.ireturn, 1) := dk_172 (dk_at dksX1_frostTold_3 6 rfl rfl)
theorem dX1_frostTold_74 : decode cX1_frostTold 74 = .ok (.iinc 3 1, 3) := dk_132 3 1 (dk_at dksX1_frostTold_3 7 rfl rfl)
theorem dX1_frostTold_77 : decode cX1_frostTold 77 = .ok (.goto (-58), 3) := dk_167 255 198 (dk_at dksX1_frostTold_3 10 rfl rfl)
theorem dX1_frostTold_80 : decode cX1_frostTold 80 = .ok (.iconst (-1), 1) := dk_2 (dk_at dksX1_frostTold_3 13 rfl rfl)
theorem dX1_frostTold_81 : decode cX1_frostTold 81 = .ok (.ireturn, 1) := dk_172 (dk_at dksX1_frostTold_3 14 rfl rfl)
abbrev cX1_outingTold : ByteArray := prog_1_method_32_code
def yX1_outingTold : MethodName := ⟨RX1, "outingTold", "(II)I"⟩
def dkwX1_outingTold_3 : List UInt8 := [172, 132, 3, 1, 167, 255, 195, 2, 172]
abbrev dktX1_outingTold_3 : List UInt8 := dkwX1_outingTold_3 ++ []
def dkwX1_outingTold_2 : List UInt8 := [180, 0, 183, 167, 0, 21, 28, 4, 160, 0, 11, 25, 5, 180, 0, 184, 167, 0, 8, 25, 5, 180, 1, 51]
abbrev dktX1_outingTold_2 : List UInt8 := dkwX1_outingTold_2 ++ dktX1_outingTold_3
def dkwX1_outingTold_1 : List UInt8 := [25, 4, 185, 0, 177, 1, 0, 192, 0, 181, 58, 5, 29, 27, 160, 0, 34, 28, 154, 0, 11, 25, 5]
abbrev dktX1_outingTold_1 : List UInt8 := dkwX1_outingTold_1 ++ dktX1_outingTold_2
def dkwX1_outingTold_0 : List UInt8 := [3, 62, 42, 180, 0, 10, 180, 0, 156, 182, 0, 167, 58, 4, 25, 4, 185, 0, 171, 1, 0, 153, 0, 57]
abbrev dktX1_outingTold_0 : List UInt8 := dkwX1_outingTold_0 ++ dktX1_outingTold_1
theorem dksX1_outingTold_0 : cX1_outingTold.data.toList.drop 0 = dktX1_outingTold_0 := by decide +kernel
theorem dksX1_outingTold_1 : cX1_outingTold.data.toList.drop 24 = dktX1_outingTold_1 := dk_seg dksX1_outingTold_0 24 rfl rfl
theorem dksX1_outingTold_2 : cX1_outingTold.data.toList.drop 47 = dktX1_outingTold_2 := dk_seg dksX1_outingTold_1 23 rfl rfl
theorem dksX1_outingTold_3 : cX1_outingTold.data.toList.drop 71 = dktX1_outingTold_3 := dk_seg dksX1_outingTold_2 24 rfl rfl
theorem dX1_outingTold_0 : decode cX1_outingTold 0 = .ok (.iconst 0, 1) := dk_3 (dk_at dksX1_outingTold_0 0 rfl rfl)
theorem dX1_outingTold_1 : decode cX1_outingTold 1 = .ok (.istore_n 3, 1) := dk_62 (dk_at dksX1_outingTold_0 1 rfl rfl)
theorem dX1_outingTold_2 : decode cX1_outingTold 2 = .ok (.aload_n 0, 1) := dk_42 (dk_at dksX1_outingTold_0 2 rfl rfl)
theorem dX1_outingTold_3 : decode cX1_outingTold 3 = .ok (.getfield 10, 3) := dk_180 0 10 (dk_at dksX1_outingTold_0 3 rfl rfl)
theorem dX1_outingTold_6 : decode cX1_outingTold 6 = .ok (.getfield 156, 3) := dk_180 0 156 (dk_at dksX1_outingTold_0 6 rfl rfl)
theorem dX1_outingTold_9 : decode cX1_outingTold 9 = .ok (.invokevirtual 167, 3) := dk_182 0 167 (dk_at dksX1_outingTold_0 9 rfl rfl)
theorem dX1_outingTold_12 : decode cX1_outingTold 12 = .ok (.astore 4, 2) := dk_58 4 (dk_at dksX1_outingTold_0 12 rfl rfl)
theorem dX1_outingTold_14 : decode cX1_outingTold 14 = .ok (.aload 4, 2) := dk_25 4 (dk_at dksX1_outingTold_0 14 rfl rfl)
theorem dX1_outingTold_16 : decode cX1_outingTold 16 = .ok (.invokeinterface 171 1, 5) := by decide +kernel
theorem dX1_outingTold_21 : decode cX1_outingTold 21 = .ok (.ifCond .eq 57, 3) := dk_153 0 57 (dk_at dksX1_outingTold_0 21 rfl rfl)
theorem dX1_outingTold_24 : decode cX1_outingTold 24 = .ok (.aload 4, 2) := dk_25 4 (dk_at dksX1_outingTold_1 0 rfl rfl)
theorem dX1_outingTold_26 : decode cX1_outingTold 26 = .ok (.invokeinterface 177 1, 5) := by decide +kernel
theorem dX1_outingTold_31 : decode cX1_outingTold 31 = .ok (.checkcast 181, 3) := dk_192 0 181 (dk_at dksX1_outingTold_1 7 rfl rfl)
theorem dX1_outingTold_34 : decode cX1_outingTold 34 = .ok (.astore 5, 2) := dk_58 5 (dk_at dksX1_outingTold_1 10 rfl rfl)
theorem dX1_outingTold_36 : decode cX1_outingTold 36 = .ok (.iload_n 3, 1) := dk_29 (dk_at dksX1_outingTold_1 12 rfl rfl)
theorem dX1_outingTold_37 : decode cX1_outingTold 37 = .ok (.iload_n 1, 1) := dk_27 (dk_at dksX1_outingTold_1 13 rfl rfl)
theorem dX1_outingTold_38 : decode cX1_outingTold 38 = .ok (.if_icmp .ne 34, 3) := dk_160 0 34 (dk_at dksX1_outingTold_1 14 rfl rfl)
theorem dX1_outingTold_41 : decode cX1_outingTold 41 = .ok (.iload_n 2, 1) := dk_28 (dk_at dksX1_outingTold_1 17 rfl rfl)
theorem dX1_outingTold_42 : decode cX1_outingTold 42 = .ok (.ifCond .ne 11, 3) := dk_154 0 11 (dk_at dksX1_outingTold_1 18 rfl rfl)
theorem dX1_outingTold_45 : decode cX1_outingTold 45 = .ok (.aload 5, 2) := dk_25 5 (dk_at dksX1_outingTold_1 21 rfl rfl)
theorem dX1_outingTold_47 : decode cX1_outingTold 47 = .ok (.getfield 183, 3) := dk_180 0 183 (dk_at dksX1_outingTold_2 0 rfl rfl)
theorem dX1_outingTold_50 : decode cX1_outingTold 50 = .ok (.goto 21, 3) := dk_167 0 21 (dk_at dksX1_outingTold_2 3 rfl rfl)
theorem dX1_outingTold_53 : decode cX1_outingTold 53 = .ok (.iload_n 2, 1) := dk_28 (dk_at dksX1_outingTold_2 6 rfl rfl)
theorem dX1_outingTold_54 : decode cX1_outingTold 54 = .ok (.iconst 1, 1) := dk_4 (dk_at dksX1_outingTold_2 7 rfl rfl)
theorem dX1_outingTold_55 : decode cX1_outingTold 55 = .ok (.if_icmp .ne 11, 3) := dk_160 0 11 (dk_at dksX1_outingTold_2 8 rfl rfl)
theorem dX1_outingTold_58 : decode cX1_outingTold 58 = .ok (.aload 5, 2) := dk_25 5 (dk_at dksX1_outingTold_2 11 rfl rfl)
theorem dX1_outingTold_60 : decode cX1_outingTold 60 = .ok (.getfield 184, 3) := dk_180 0 184 (dk_at dksX1_outingTold_2 13 rfl rfl)
theorem dX1_outingTold_63 : decode cX1_outingTold 63 = .ok (.goto 8, 3) := dk_167 0 8 (dk_at dksX1_outingTold_2 16 rfl rfl)
theorem dX1_outingTold_66 : decode cX1_outingTold 66 = .ok (.aload 5, 2) := dk_25 5 (dk_at dksX1_outingTold_2 19 rfl rfl)
theorem dX1_outingTold_68 : decode cX1_outingTold 68 = .ok (.getfield 307, 3) := dk_180 1 51 (dk_at dksX1_outingTold_2 21 rfl rfl)
theorem dX1_outingTold_71 : decode cX1_outingTold 71 = .ok (.ireturn, 1) := dk_172 (dk_at dksX1_outingTold_3 0 rfl rfl)
theorem dX1_outingTold_72 : decode cX1_outingTold 72 = .ok (.iinc 3 1, 3) := dk_132 3 1 (dk_at dksX1_outingTold_3 1 rfl rfl)
theorem dX1_outingTold_75 : decode cX1_outingTold 75 = .ok (.goto (-61), 3) := dk_167 255 195 (dk_at dksX1_outingTold_3 4 rfl rfl)
theorem dX1_outingTold_78 : decode cX1_outingTold 78 = .ok (.iconst (-1), 1) := dk_2 (dk_at dksX1_outingTold_3 7 rfl rfl)
theorem dX1_outingTold_79 : decode cX1_outingTold 79 = .ok (.ireturn, 1) := dk_172 (dk_at dksX1_outingTold_3 8 rfl rfl)
abbrev cX1_mixTries : ByteArray := prog_1_method_51_code
def yX1_mixTries : MethodName := ⟨RX1, "mixTries", "()V"⟩
def dkwX1_mixTries_3 : List UInt8 := [133, 182, 1, 103, 177]
abbrev dktX1_mixTries_3 : List UInt8 := dkwX1_mixTries_3 ++ []
def dkwX1_mixTries_2 : List UInt8 := [132, 1, 1, 167, 255, 235, 42, 42, 16, 30, 182, 1, 79, 133, 182, 1, 103, 42, 42, 16, 7, 182, 1, 90]
abbrev dktX1_mixTries_2 : List UInt8 := dkwX1_mixTries_2 ++ dktX1_mixTries_3
def dkwX1_mixTries_1 : List UInt8 := [167, 255, 236, 3, 60, 27, 16, 8, 162, 0, 21, 42, 42, 16, 20, 27, 182, 1, 76, 133, 182, 1, 103]
abbrev dktX1_mixTries_1 : List UInt8 := dkwX1_mixTries_1 ++ dktX1_mixTries_2
def dkwX1_mixTries_0 : List UInt8 := [3, 60, 27, 7, 162, 0, 21, 42, 42, 16, 10, 27, 182, 1, 73, 133, 182, 1, 103, 132, 1, 1]
abbrev dktX1_mixTries_0 : List UInt8 := dkwX1_mixTries_0 ++ dktX1_mixTries_1
theorem dksX1_mixTries_0 : cX1_mixTries.data.toList.drop 0 = dktX1_mixTries_0 := by decide +kernel
theorem dksX1_mixTries_1 : cX1_mixTries.data.toList.drop 22 = dktX1_mixTries_1 := dk_seg dksX1_mixTries_0 22 rfl rfl
theorem dksX1_mixTries_2 : cX1_mixTries.data.toList.drop 45 = dktX1_mixTries_2 := dk_seg dksX1_mixTries_1 23 rfl rfl
theorem dksX1_mixTries_3 : cX1_mixTries.data.toList.drop 69 = dktX1_mixTries_3 := dk_seg dksX1_mixTries_2 24 rfl rfl
theorem dX1_mixTries_0 : decode cX1_mixTries 0 = .ok (.iconst 0, 1) := dk_3 (dk_at dksX1_mixTries_0 0 rfl rfl)
theorem dX1_mixTries_1 : decode cX1_mixTries 1 = .ok (.istore_n 1, 1) := dk_60 (dk_at dksX1_mixTries_0 1 rfl rfl)
theorem dX1_mixTries_2 : decode cX1_mixTries 2 = .ok (.iload_n 1, 1) := dk_27 (dk_at dksX1_mixTries_0 2 rfl rfl)
theorem dX1_mixTries_3 : decode cX1_mixTries 3 = .ok (.iconst 4, 1) := dk_7 (dk_at dksX1_mixTries_0 3 rfl rfl)
theorem dX1_mixTries_4 : decode cX1_mixTries 4 = .ok (.if_icmp .ge 21, 3) := dk_162 0 21 (dk_at dksX1_mixTries_0 4 rfl rfl)
theorem dX1_mixTries_7 : decode cX1_mixTries 7 = .ok (.aload_n 0, 1) := dk_42 (dk_at dksX1_mixTries_0 7 rfl rfl)
theorem dX1_mixTries_8 : decode cX1_mixTries 8 = .ok (.aload_n 0, 1) := dk_42 (dk_at dksX1_mixTries_0 8 rfl rfl)
theorem dX1_mixTries_9 : decode cX1_mixTries 9 = .ok (.bipush 10, 2) := dk_16 10 (dk_at dksX1_mixTries_0 9 rfl rfl)
theorem dX1_mixTries_11 : decode cX1_mixTries 11 = .ok (.iload_n 1, 1) := dk_27 (dk_at dksX1_mixTries_0 11 rfl rfl)
theorem dX1_mixTries_12 : decode cX1_mixTries 12 = .ok (.invokevirtual 329, 3) := dk_182 1 73 (dk_at dksX1_mixTries_0 12 rfl rfl)
theorem dX1_mixTries_15 : decode cX1_mixTries 15 = .ok (.i2l, 1) := dk_133 (dk_at dksX1_mixTries_0 15 rfl rfl)
theorem dX1_mixTries_16 : decode cX1_mixTries 16 = .ok (.invokevirtual 359, 3) := dk_182 1 103 (dk_at dksX1_mixTries_0 16 rfl rfl)
theorem dX1_mixTries_19 : decode cX1_mixTries 19 = .ok (.iinc 1 1, 3) := dk_132 1 1 (dk_at dksX1_mixTries_0 19 rfl rfl)
theorem dX1_mixTries_22 : decode cX1_mixTries 22 = .ok (.goto (-20), 3) := dk_167 255 236 (dk_at dksX1_mixTries_1 0 rfl rfl)
theorem dX1_mixTries_25 : decode cX1_mixTries 25 = .ok (.iconst 0, 1) := dk_3 (dk_at dksX1_mixTries_1 3 rfl rfl)
theorem dX1_mixTries_26 : decode cX1_mixTries 26 = .ok (.istore_n 1, 1) := dk_60 (dk_at dksX1_mixTries_1 4 rfl rfl)
theorem dX1_mixTries_27 : decode cX1_mixTries 27 = .ok (.iload_n 1, 1) := dk_27 (dk_at dksX1_mixTries_1 5 rfl rfl)
theorem dX1_mixTries_28 : decode cX1_mixTries 28 = .ok (.bipush 8, 2) := dk_16 8 (dk_at dksX1_mixTries_1 6 rfl rfl)
theorem dX1_mixTries_30 : decode cX1_mixTries 30 = .ok (.if_icmp .ge 21, 3) := dk_162 0 21 (dk_at dksX1_mixTries_1 8 rfl rfl)
theorem dX1_mixTries_33 : decode cX1_mixTries 33 = .ok (.aload_n 0, 1) := dk_42 (dk_at dksX1_mixTries_1 11 rfl rfl)
theorem dX1_mixTries_34 : decode cX1_mixTries 34 = .ok (.aload_n 0, 1) := dk_42 (dk_at dksX1_mixTries_1 12 rfl rfl)
theorem dX1_mixTries_35 : decode cX1_mixTries 35 = .ok (.bipush 20, 2) := dk_16 20 (dk_at dksX1_mixTries_1 13 rfl rfl)
theorem dX1_mixTries_37 : decode cX1_mixTries 37 = .ok (.iload_n 1, 1) := dk_27 (dk_at dksX1_mixTries_1 15 rfl rfl)
theorem dX1_mixTries_38 : decode cX1_mixTries 38 = .ok (.invokevirtual 332, 3) := dk_182 1 76 (dk_at dksX1_mixTries_1 16 rfl rfl)
theorem dX1_mixTries_41 : decode cX1_mixTries 41 = .ok (.i2l, 1) := dk_133 (dk_at dksX1_mixTries_1 19 rfl rfl)
theorem dX1_mixTries_42 : decode cX1_mixTries 42 = .ok (.invokevirtual 359, 3) := dk_182 1 103 (dk_at dksX1_mixTries_1 20 rfl rfl)
theorem dX1_mixTries_45 : decode cX1_mixTries 45 = .ok (.iinc 1 1, 3) := dk_132 1 1 (dk_at dksX1_mixTries_2 0 rfl rfl)
theorem dX1_mixTries_48 : decode cX1_mixTries 48 = .ok (.goto (-21), 3) := dk_167 255 235 (dk_at dksX1_mixTries_2 3 rfl rfl)
theorem dX1_mixTries_51 : decode cX1_mixTries 51 = .ok (.aload_n 0, 1) := dk_42 (dk_at dksX1_mixTries_2 6 rfl rfl)
theorem dX1_mixTries_52 : decode cX1_mixTries 52 = .ok (.aload_n 0, 1) := dk_42 (dk_at dksX1_mixTries_2 7 rfl rfl)
theorem dX1_mixTries_53 : decode cX1_mixTries 53 = .ok (.bipush 30, 2) := dk_16 30 (dk_at dksX1_mixTries_2 8 rfl rfl)
theorem dX1_mixTries_55 : decode cX1_mixTries 55 = .ok (.invokevirtual 335, 3) := dk_182 1 79 (dk_at dksX1_mixTries_2 10 rfl rfl)
theorem dX1_mixTries_58 : decode cX1_mixTries 58 = .ok (.i2l, 1) := dk_133 (dk_at dksX1_mixTries_2 13 rfl rfl)
theorem dX1_mixTries_59 : decode cX1_mixTries 59 = .ok (.invokevirtual 359, 3) := dk_182 1 103 (dk_at dksX1_mixTries_2 14 rfl rfl)
theorem dX1_mixTries_62 : decode cX1_mixTries 62 = .ok (.aload_n 0, 1) := dk_42 (dk_at dksX1_mixTries_2 17 rfl rfl)
theorem dX1_mixTries_63 : decode cX1_mixTries 63 = .ok (.aload_n 0, 1) := dk_42 (dk_at dksX1_mixTries_2 18 rfl rfl)
theorem dX1_mixTries_64 : decode cX1_mixTries 64 = .ok (.bipush 7, 2) := dk_16 7 (dk_at dksX1_mixTries_2 19 rfl rfl)
theorem dX1_mixTries_66 : decode cX1_mixTries 66 = .ok (.invokevirtual 346, 3) := dk_182 1 90 (dk_at dksX1_mixTries_2 21 rfl rfl)
theorem dX1_mixTries_69 : decode cX1_mixTries 69 = .ok (.i2l, 1) := dk_133 (dk_at dksX1_mixTries_3 0 rfl rfl)
theorem dX1_mixTries_70 : decode cX1_mixTries 70 = .ok (.invokevirtual 359, 3) := dk_182 1 103 (dk_at dksX1_mixTries_3 1 rfl rfl)
theorem dX1_mixTries_73 : decode cX1_mixTries 73 = .ok (.return_, 1) := dk_177 (dk_at dksX1_mixTries_3 4 rfl rfl)
abbrev cX1_passedTold : ByteArray := prog_1_method_37_code
def yX1_passedTold : MethodName := ⟨RX1, "passedTold", "(II)I"⟩
def dkwX1_passedTold_3 : List UInt8 := [182, 1, 10, 172, 42, 180, 0, 16, 4, 182, 0, 95, 172]
abbrev dktX1_passedTold_3 : List UInt8 := dkwX1_passedTold_3 ++ []
def dkwX1_passedTold_2 : List UInt8 := [29, 172, 42, 180, 0, 16, 180, 1, 61, 42, 180, 0, 10, 180, 1, 61, 100, 172, 42, 180, 0, 16]
abbrev dktX1_passedTold_2 : List UInt8 := dkwX1_passedTold_2 ++ dktX1_passedTold_3
def dkwX1_passedTold_1 : List UInt8 := [170, 0, 0, 0, 0, 0, 53, 0, 0, 0, 0, 0, 0, 0, 2, 0, 0, 0, 27, 0, 0, 0, 29, 0, 0, 0, 45]
abbrev dktX1_passedTold_1 : List UInt8 := dkwX1_passedTold_1 ++ dktX1_passedTold_2
def dkwX1_passedTold_0 : List UInt8 := [42, 180, 0, 16, 42, 180, 0, 10, 182, 0, 43, 42, 180, 0, 16, 27, 182, 0, 205, 62, 28]
abbrev dktX1_passedTold_0 : List UInt8 := dkwX1_passedTold_0 ++ dktX1_passedTold_1
theorem dksX1_passedTold_0 : cX1_passedTold.data.toList.drop 0 = dktX1_passedTold_0 := by decide +kernel
theorem dksX1_passedTold_1 : cX1_passedTold.data.toList.drop 21 = dktX1_passedTold_1 := dk_seg dksX1_passedTold_0 21 rfl rfl
theorem dksX1_passedTold_2 : cX1_passedTold.data.toList.drop 48 = dktX1_passedTold_2 := dk_seg dksX1_passedTold_1 27 rfl rfl
theorem dksX1_passedTold_3 : cX1_passedTold.data.toList.drop 70 = dktX1_passedTold_3 := dk_seg dksX1_passedTold_2 22 rfl rfl
theorem dX1_passedTold_0 : decode cX1_passedTold 0 = .ok (.aload_n 0, 1) := dk_42 (dk_at dksX1_passedTold_0 0 rfl rfl)
theorem dX1_passedTold_1 : decode cX1_passedTold 1 = .ok (.getfield 16, 3) := dk_180 0 16 (dk_at dksX1_passedTold_0 1 rfl rfl)
theorem dX1_passedTold_4 : decode cX1_passedTold 4 = .ok (.aload_n 0, 1) := dk_42 (dk_at dksX1_passedTold_0 4 rfl rfl)
theorem dX1_passedTold_5 : decode cX1_passedTold 5 = .ok (.getfield 10, 3) := dk_180 0 10 (dk_at dksX1_passedTold_0 5 rfl rfl)
theorem dX1_passedTold_8 : decode cX1_passedTold 8 = .ok (.invokevirtual 43, 3) := dk_182 0 43 (dk_at dksX1_passedTold_0 8 rfl rfl)
theorem dX1_passedTold_11 : decode cX1_passedTold 11 = .ok (.aload_n 0, 1) := dk_42 (dk_at dksX1_passedTold_0 11 rfl rfl)
theorem dX1_passedTold_12 : decode cX1_passedTold 12 = .ok (.getfield 16, 3) := dk_180 0 16 (dk_at dksX1_passedTold_0 12 rfl rfl)
theorem dX1_passedTold_15 : decode cX1_passedTold 15 = .ok (.iload_n 1, 1) := dk_27 (dk_at dksX1_passedTold_0 15 rfl rfl)
theorem dX1_passedTold_16 : decode cX1_passedTold 16 = .ok (.invokevirtual 205, 3) := dk_182 0 205 (dk_at dksX1_passedTold_0 16 rfl rfl)
theorem dX1_passedTold_19 : decode cX1_passedTold 19 = .ok (.istore_n 3, 1) := dk_62 (dk_at dksX1_passedTold_0 19 rfl rfl)
theorem dX1_passedTold_20 : decode cX1_passedTold 20 = .ok (.iload_n 2, 1) := dk_28 (dk_at dksX1_passedTold_0 20 rfl rfl)
theorem dX1_passedTold_21 : decode cX1_passedTold 21 = .ok (.tableswitch 53 0 2 #[27, 29, 45], 27) := by decide +kernel
theorem dX1_passedTold_48 : decode cX1_passedTold 48 = .ok (.iload_n 3, 1) := dk_29 (dk_at dksX1_passedTold_2 0 rfl rfl)
theorem dX1_passedTold_49 : decode cX1_passedTold 49 = .ok (.ireturn, 1) := dk_172 (dk_at dksX1_passedTold_2 1 rfl rfl)
theorem dX1_passedTold_50 : decode cX1_passedTold 50 = .ok (.aload_n 0, 1) := dk_42 (dk_at dksX1_passedTold_2 2 rfl rfl)
theorem dX1_passedTold_51 : decode cX1_passedTold 51 = .ok (.getfield 16, 3) := dk_180 0 16 (dk_at dksX1_passedTold_2 3 rfl rfl)
theorem dX1_passedTold_54 : decode cX1_passedTold 54 = .ok (.getfield 317, 3) := dk_180 1 61 (dk_at dksX1_passedTold_2 6 rfl rfl)
theorem dX1_passedTold_57 : decode cX1_passedTold 57 = .ok (.aload_n 0, 1) := dk_42 (dk_at dksX1_passedTold_2 9 rfl rfl)
theorem dX1_passedTold_58 : decode cX1_passedTold 58 = .ok (.getfield 10, 3) := dk_180 0 10 (dk_at dksX1_passedTold_2 10 rfl rfl)
theorem dX1_passedTold_61 : decode cX1_passedTold 61 = .ok (.getfield 317, 3) := dk_180 1 61 (dk_at dksX1_passedTold_2 13 rfl rfl)
theorem dX1_passedTold_64 : decode cX1_passedTold 64 = .ok (.isub, 1) := dk_100 (dk_at dksX1_passedTold_2 16 rfl rfl)
theorem dX1_passedTold_65 : decode cX1_passedTold 65 = .ok (.ireturn, 1) := dk_172 (dk_at dksX1_passedTold_2 17 rfl rfl)
theorem dX1_passedTold_66 : decode cX1_passedTold 66 = .ok (.aload_n 0, 1) := dk_42 (dk_at dksX1_passedTold_2 18 rfl rfl)
theorem dX1_passedTold_67 : decode cX1_passedTold 67 = .ok (.getfield 16, 3) := dk_180 0 16 (dk_at dksX1_passedTold_2 19 rfl rfl)
theorem dX1_passedTold_70 : decode cX1_passedTold 70 = .ok (.invokevirtual 266, 3) := dk_182 1 10 (dk_at dksX1_passedTold_3 0 rfl rfl)
theorem dX1_passedTold_73 : decode cX1_passedTold 73 = .ok (.ireturn, 1) := dk_172 (dk_at dksX1_passedTold_3 3 rfl rfl)
theorem dX1_passedTold_74 : decode cX1_passedTold 74 = .ok (.aload_n 0, 1) := dk_42 (dk_at dksX1_passedTold_3 4 rfl rfl)
theorem dX1_passedTold_75 : decode cX1_passedTold 75 = .ok (.getfield 16, 3) := dk_180 0 16 (dk_at dksX1_passedTold_3 5 rfl rfl)
theorem dX1_passedTold_78 : decode cX1_passedTold 78 = .ok (.iconst 1, 1) := dk_4 (dk_at dksX1_passedTold_3 8 rfl rfl)
theorem dX1_passedTold_79 : decode cX1_passedTold 79 = .ok (.invokevirtual 95, 3) := dk_182 0 95 (dk_at dksX1_passedTold_3 9 rfl rfl)
theorem dX1_passedTold_82 : decode cX1_passedTold 82 = .ok (.ireturn, 1) := dk_172 (dk_at dksX1_passedTold_3 12 rfl rfl)
abbrev cX1_outingMore : ByteArray := prog_1_method_39_code
def yX1_outingMore : MethodName := ⟨RX1, "outingMore", "(II)I"⟩
def dkwX1_outingMore_2 : List UInt8 := [180, 0, 16, 4, 182, 0, 205, 29, 100, 172]
abbrev dktX1_outingMore_2 : List UInt8 := dkwX1_outingMore_2 ++ []
def dkwX1_outingMore_1 : List UInt8 := [42, 180, 0, 10, 182, 0, 43, 42, 180, 0, 16, 42, 180, 0, 16, 180, 0, 116, 27, 28, 182, 0, 163, 42]
abbrev dktX1_outingMore_1 : List UInt8 := dkwX1_outingMore_1 ++ dktX1_outingMore_2
def dkwX1_outingMore_0 : List UInt8 := [42, 180, 0, 16, 42, 180, 0, 10, 182, 0, 43, 42, 180, 0, 16, 4, 182, 0, 205, 62, 42, 180, 0, 16]
abbrev dktX1_outingMore_0 : List UInt8 := dkwX1_outingMore_0 ++ dktX1_outingMore_1
theorem dksX1_outingMore_0 : cX1_outingMore.data.toList.drop 0 = dktX1_outingMore_0 := by decide +kernel
theorem dksX1_outingMore_1 : cX1_outingMore.data.toList.drop 24 = dktX1_outingMore_1 := dk_seg dksX1_outingMore_0 24 rfl rfl
theorem dksX1_outingMore_2 : cX1_outingMore.data.toList.drop 48 = dktX1_outingMore_2 := dk_seg dksX1_outingMore_1 24 rfl rfl
theorem dX1_outingMore_0 : decode cX1_outingMore 0 = .ok (.aload_n 0, 1) := dk_42 (dk_at dksX1_outingMore_0 0 rfl rfl)
theorem dX1_outingMore_1 : decode cX1_outingMore 1 = .ok (.getfield 16, 3) := dk_180 0 16 (dk_at dksX1_outingMore_0 1 rfl rfl)
theorem dX1_outingMore_4 : decode cX1_outingMore 4 = .ok (.aload_n 0, 1) := dk_42 (dk_at dksX1_outingMore_0 4 rfl rfl)
theorem dX1_outingMore_5 : decode cX1_outingMore 5 = .ok (.getfield 10, 3) := dk_180 0 10 (dk_at dksX1_outingMore_0 5 rfl rfl)
theorem dX1_outingMore_8 : decode cX1_outingMore 8 = .ok (.invokevirtual 43, 3) := dk_182 0 43 (dk_at dksX1_outingMore_0 8 rfl rfl)
theorem dX1_outingMore_11 : decode cX1_outingMore 11 = .ok (.aload_n 0, 1) := dk_42 (dk_at dksX1_outingMore_0 11 rfl rfl)
theorem dX1_outingMore_12 : decode cX1_outingMore 12 = .ok (.getfield 16, 3) := dk_180 0 16 (dk_at dksX1_outingMore_0 12 rfl rfl)
theorem dX1_outingMore_15 : decode cX1_outingMore 15 = .ok (.iconst 1, 1) := dk_4 (dk_at dksX1_outingMore_0 15 rfl rfl)
theorem dX1_outingMore_16 : decode cX1_outingMore 16 = .ok (.invokevirtual 205, 3) := dk_182 0 205 (dk_at dksX1_outingMore_0 16 rfl rfl)
theorem dX1_outingMore_19 : decode cX1_outingMore 19 = .ok (.istore_n 3, 1) := dk_62 (dk_at dksX1_outingMore_0 19 rfl rfl)
theorem dX1_outingMore_20 : decode cX1_outingMore 20 = .ok (.aload_n 0, 1) := dk_42 (dk_at dksX1_outingMore_0 20 rfl rfl)
theorem dX1_outingMore_21 : decode cX1_outingMore 21 = .ok (.getfield 16, 3) := dk_180 0 16 (dk_at dksX1_outingMore_0 21 rfl rfl)
theorem dX1_outingMore_24 : decode cX1_outingMore 24 = .ok (.aload_n 0, 1) := dk_42 (dk_at dksX1_outingMore_1 0 rfl rfl)
theorem dX1_outingMore_25 : decode cX1_outingMore 25 = .ok (.getfield 10, 3) := dk_180 0 10 (dk_at dksX1_outingMore_1 1 rfl rfl)
theorem dX1_outingMore_28 : decode cX1_outingMore 28 = .ok (.invokevirtual 43, 3) := dk_182 0 43 (dk_at dksX1_outingMore_1 4 rfl rfl)
theorem dX1_outingMore_31 : decode cX1_outingMore 31 = .ok (.aload_n 0, 1) := dk_42 (dk_at dksX1_outingMore_1 7 rfl rfl)
theorem dX1_outingMore_32 : decode cX1_outingMore 32 = .ok (.getfield 16, 3) := dk_180 0 16 (dk_at dksX1_outingMore_1 8 rfl rfl)
theorem dX1_outingMore_35 : decode cX1_outingMore 35 = .ok (.aload_n 0, 1) := dk_42 (dk_at dksX1_outingMore_1 11 rfl rfl)
theorem dX1_outingMore_36 : decode cX1_outingMore 36 = .ok (.getfield 16, 3) := dk_180 0 16 (dk_at dksX1_outingMore_1 12 rfl rfl)
theorem dX1_outingMore_39 : decode cX1_outingMore 39 = .ok (.getfield 116, 3) := dk_180 0 116 (dk_at dksX1_outingMore_1 15 rfl rfl)
theorem dX1_outingMore_42 : decode cX1_outingMore 42 = .ok (.iload_n 1, 1) := dk_27 (dk_at dksX1_outingMore_1 18 rfl rfl)
theorem dX1_outingMore_43 : decode cX1_outingMore 43 = .ok (.iload_n 2, 1) := dk_28 (dk_at dksX1_outingMore_1 19 rfl rfl)
theorem dX1_outingMore_44 : decode cX1_outingMore 44 = .ok (.invokevirtual 163, 3) := dk_182 0 163 (dk_at dksX1_outingMore_1 20 rfl rfl)
theorem dX1_outingMore_47 : decode cX1_outingMore 47 = .ok (.aload_n 0, 1) := dk_42 (dk_at dksX1_outingMore_1 23 rfl rfl)
theorem dX1_outingMore_48 : decode cX1_outingMore 48 = .ok (.getfield 16, 3) := dk_180 0 16 (dk_at dksX1_outingMore_2 0 rfl rfl)
theorem dX1_outingMore_51 : decode cX1_outingMore 51 = .ok (.iconst 1, 1) := dk_4 (dk_at dksX1_outingMore_2 3 rfl rfl)
theorem dX1_outingMore_52 : decode cX1_outingMore 52 = .ok (.invokevirtual 205, 3) := dk_182 0 205 (dk_at dksX1_outingMore_2 4 rfl rfl)
theorem dX1_outingMore_55 : decode cX1_outingMore 55 = .ok (.iload_n 3, 1) := dk_29 (dk_at dksX1_outingMore_2 7 rfl rfl)
theorem dX1_outingMore_56 : decode cX1_outingMore 56 = .ok (.isub, 1) := dk_100 (dk_at dksX1_outingMore_2 8 rfl rfl)
theorem dX1_outingMore_57 : decode cX1_outingMore 57 = .ok (.ireturn, 1) := dk_172 (dk_at dksX1_outingMore_2 9 rfl rfl)
abbrev cX1_gateTold : ByteArray := prog_1_method_41_code
def yX1_gateTold : MethodName := ⟨RX1, "gateTold", "(I)I"⟩
def dkwX1_gateTold_2 : List UInt8 := [21, 5, 167, 0, 4, 29, 62, 132, 4, 1, 167, 255, 206, 28, 172]
abbrev dktX1_gateTold_2 : List UInt8 := dkwX1_gateTold_2 ++ []
def dkwX1_gateTold_1 : List UInt8 := [2, 159, 0, 9, 21, 5, 29, 162, 0, 8, 21, 4, 167, 0, 4, 28, 61, 28, 21, 4, 160, 0, 8]
abbrev dktX1_gateTold_1 : List UInt8 := dkwX1_gateTold_1 ++ dktX1_gateTold_2
def dkwX1_gateTold_0 : List UInt8 := [2, 61, 3, 62, 3, 54, 4, 21, 4, 16, 8, 162, 0, 49, 42, 27, 21, 4, 182, 1, 76, 54, 5, 28]
abbrev dktX1_gateTold_0 : List UInt8 := dkwX1_gateTold_0 ++ dktX1_gateTold_1
theorem dksX1_gateTold_0 : cX1_gateTold.data.toList.drop 0 = dktX1_gateTold_0 := by decide +kernel
theorem dksX1_gateTold_1 : cX1_gateTold.data.toList.drop 24 = dktX1_gateTold_1 := dk_seg dksX1_gateTold_0 24 rfl rfl
theorem dksX1_gateTold_2 : cX1_gateTold.data.toList.drop 47 = dktX1_gateTold_2 := dk_seg dksX1_gateTold_1 23 rfl rfl
theorem dX1_gateTold_0 : decode cX1_gateTold 0 = .ok (.iconst (-1), 1) := dk_2 (dk_at dksX1_gateTold_0 0 rfl rfl)
theorem dX1_gateTold_1 : decode cX1_gateTold 1 = .ok (.istore_n 2, 1) := dk_61 (dk_at dksX1_gateTold_0 1 rfl rfl)
theorem dX1_gateTold_2 : decode cX1_gateTold 2 = .ok (.iconst 0, 1) := dk_3 (dk_at dksX1_gateTold_0 2 rfl rfl)
theorem dX1_gateTold_3 : decode cX1_gateTold 3 = .ok (.istore_n 3, 1) := dk_62 (dk_at dksX1_gateTold_0 3 rfl rfl)
theorem dX1_gateTold_4 : decode cX1_gateTold 4 = .ok (.iconst 0, 1) := dk_3 (dk_at dksX1_gateTold_0 4 rfl rfl)
theorem dX1_gateTold_5 : decode cX1_gateTold 5 = .ok (.istore 4, 2) := dk_54 4 (dk_at dksX1_gateTold_0 5 rfl rfl)
theorem dX1_gateTold_7 : decode cX1_gateTold 7 = .ok (.iload 4, 2) := dk_21 4 (dk_at dksX1_gateTold_0 7 rfl rfl)
theorem dX1_gateTold_9 : decode cX1_gateTold 9 = .ok (.bipush 8, 2) := dk_16 8 (dk_at dksX1_gateTold_0 9 rfl rfl)
theorem dX1_gateTold_11 : decode cX1_gateTold 11 = .ok (.if_icmp .ge 49, 3) := dk_162 0 49 (dk_at dksX1_gateTold_0 11 rfl rfl)
theorem dX1_gateTold_14 : decode cX1_gateTold 14 = .ok (.aload_n 0, 1) := dk_42 (dk_at dksX1_gateTold_0 14 rfl rfl)
theorem dX1_gateTold_15 : decode cX1_gateTold 15 = .ok (.iload_n 1, 1) := dk_27 (dk_at dksX1_gateTold_0 15 rfl rfl)
theorem dX1_gateTold_16 : decode cX1_gateTold 16 = .ok (.iload 4, 2) := dk_21 4 (dk_at dksX1_gateTold_0 16 rfl rfl)
theorem dX1_gateTold_18 : decode cX1_gateTold 18 = .ok (.invokevirtual 332, 3) := dk_182 1 76 (dk_at dksX1_gateTold_0 18 rfl rfl)
theorem dX1_gateTold_21 : decode cX1_gateTold 21 = .ok (.istore 5, 2) := dk_54 5 (dk_at dksX1_gateTold_0 21 rfl rfl)
theorem dX1_gateTold_23 : decode cX1_gateTold 23 = .ok (.iload_n 2, 1) := dk_28 (dk_at dksX1_gateTold_0 23 rfl rfl)
theorem dX1_gateTold_24 : decode cX1_gateTold 24 = .ok (.iconst (-1), 1) := dk_2 (dk_at dksX1_gateTold_1 0 rfl rfl)
theorem dX1_gateTold_25 : decode cX1_gateTold 25 = .ok (.if_icmp .eq 9, 3) := dk_159 0 9 (dk_at dksX1_gateTold_1 1 rfl rfl)
theorem dX1_gateTold_28 : decode cX1_gateTold 28 = .ok (.iload 5, 2) := dk_21 5 (dk_at dksX1_gateTold_1 4 rfl rfl)
theorem dX1_gateTold_30 : decode cX1_gateTold 30 = .ok (.iload_n 3, 1) := dk_29 (dk_at dksX1_gateTold_1 6 rfl rfl)
theorem dX1_gateTold_31 : decode cX1_gateTold 31 = .ok (.if_icmp .ge 8, 3) := dk_162 0 8 (dk_at dksX1_gateTold_1 7 rfl rfl)
theorem dX1_gateTold_34 : decode cX1_gateTold 34 = .ok (.iload 4, 2) := dk_21 4 (dk_at dksX1_gateTold_1 10 rfl rfl)
theorem dX1_gateTold_36 : decode cX1_gateTold 36 = .ok (.goto 4, 3) := dk_167 0 4 (dk_at dksX1_gateTold_1 12 rfl rfl)
theorem dX1_gateTold_39 : decode cX1_gateTold 39 = .ok (.iload_n 2, 1) := dk_28 (dk_at dksX1_gateTold_1 15 rfl rfl)
theorem dX1_gateTold_40 : decode cX1_gateTold 40 = .ok (.istore_n 2, 1) := dk_61 (dk_at dksX1_gateTold_1 16 rfl rfl)
theorem dX1_gateTold_41 : decode cX1_gateTold 41 = .ok (.iload_n 2, 1) := dk_28 (dk_at dksX1_gateTold_1 17 rfl rfl)
theorem dX1_gateTold_42 : decode cX1_gateTold 42 = .ok (.iload 4, 2) := dk_21 4 (dk_at dksX1_gateTold_1 18 rfl rfl)
theorem dX1_gateTold_44 : decode cX1_gateTold 44 = .ok (.if_icmp .ne 8, 3) := dk_160 0 8 (dk_at dksX1_gateTold_1 20 rfl rfl)
theorem dX1_gateTold_47 : decode cX1_gateTold 47 = .ok (.iload 5, 2) := dk_21 5 (dk_at dksX1_gateTold_2 0 rfl rfl)
theorem dX1_gateTold_49 : decode cX1_gateTold 49 = .ok (.goto 4, 3) := dk_167 0 4 (dk_at dksX1_gateTold_2 2 rfl rfl)
theorem dX1_gateTold_52 : decode cX1_gateTold 52 = .ok (.iload_n 3, 1) := dk_29 (dk_at dksX1_gateTold_2 5 rfl rfl)
theorem dX1_gateTold_53 : decode cX1_gateTold 53 = .ok (.istore_n 3, 1) := dk_62 (dk_at dksX1_gateTold_2 6 rfl rfl)
theorem dX1_gateTold_54 : decode cX1_gateTold 54 = .ok (.iinc 4 1, 3) := dk_132 4 1 (dk_at dksX1_gateTold_2 7 rfl rfl)
theorem dX1_gateTold_57 : decode cX1_gateTold 57 = .ok (.goto (-50), 3) := dk_167 255 206 (dk_at dksX1_gateTold_2 10 rfl rfl)
theorem dX1_gateTold_60 : decode cX1_gateTold 60 = .ok (.iload_n 2, 1) := dk_28 (dk_at dksX1_gateTold_2 13 rfl rfl)
theorem dX1_gateTold_61 : decode cX1_gateTold 61 = .ok (.ireturn, 1) := dk_172 (dk_at dksX1_gateTold_2 14 rfl rfl)
abbrev cX1_orderTold : ByteArray := prog_1_method_45_code
def yX1_orderTold : MethodName := ⟨RX1, "orderTold", "(I)I"⟩
def dkwX1_orderTold_4 : List UInt8 := [167, 255, 171, 28, 172]
abbrev dktX1_orderTold_4 : List UInt8 := dkwX1_orderTold_4 ++ []
def dkwX1_orderTold_3 : List UInt8 := [160, 0, 20, 21, 7, 21, 4, 164, 0, 13, 21, 5, 61, 21, 6, 62, 21, 7, 54, 4, 132, 5, 1]
abbrev dktX1_orderTold_3 : List UInt8 := dkwX1_orderTold_3 ++ dktX1_orderTold_4
def dkwX1_orderTold_2 : List UInt8 := [42, 180, 0, 16, 4, 182, 0, 95, 54, 7, 28, 2, 159, 0, 22, 21, 6, 29, 161, 0, 16, 21, 6, 29]
abbrev dktX1_orderTold_2 : List UInt8 := dkwX1_orderTold_2 ++ dktX1_orderTold_3
def dkwX1_orderTold_1 : List UInt8 := [182, 0, 43, 42, 180, 0, 16, 180, 0, 202, 4, 21, 5, 79, 42, 180, 0, 16, 27, 182, 0, 205, 54, 6]
abbrev dktX1_orderTold_1 : List UInt8 := dkwX1_orderTold_1 ++ dktX1_orderTold_2
def dkwX1_orderTold_0 : List UInt8 := [2, 61, 3, 62, 3, 54, 4, 3, 54, 5, 21, 5, 6, 162, 0, 85, 42, 180, 0, 16, 42, 180, 0, 10]
abbrev dktX1_orderTold_0 : List UInt8 := dkwX1_orderTold_0 ++ dktX1_orderTold_1
theorem dksX1_orderTold_0 : cX1_orderTold.data.toList.drop 0 = dktX1_orderTold_0 := by decide +kernel
theorem dksX1_orderTold_1 : cX1_orderTold.data.toList.drop 24 = dktX1_orderTold_1 := dk_seg dksX1_orderTold_0 24 rfl rfl
theorem dksX1_orderTold_2 : cX1_orderTold.data.toList.drop 48 = dktX1_orderTold_2 := dk_seg dksX1_orderTold_1 24 rfl rfl
theorem dksX1_orderTold_3 : cX1_orderTold.data.toList.drop 72 = dktX1_orderTold_3 := dk_seg dksX1_orderTold_2 24 rfl rfl
theorem dksX1_orderTold_4 : cX1_orderTold.data.toList.drop 95 = dktX1_orderTold_4 := dk_seg dksX1_orderTold_3 23 rfl rfl
theorem dX1_orderTold_0 : decode cX1_orderTold 0 = .ok (.iconst (-1), 1) := dk_2 (dk_at dksX1_orderTold_0 0 rfl rfl)
theorem dX1_orderTold_1 : decode cX1_orderTold 1 = .ok (.istore_n 2, 1) := dk_61 (dk_at dksX1_orderTold_0 1 rfl rfl)
theorem dX1_orderTold_2 : decode cX1_orderTold 2 = .ok (.iconst 0, 1) := dk_3 (dk_at dksX1_orderTold_0 2 rfl rfl)
theorem dX1_orderTold_3 : decode cX1_orderTold 3 = .ok (.istore_n 3, 1) := dk_62 (dk_at dksX1_orderTold_0 3 rfl rfl)
theorem dX1_orderTold_4 : decode cX1_orderTold 4 = .ok (.iconst 0, 1) := dk_3 (dk_at dksX1_orderTold_0 4 rfl rfl)
theorem dX1_orderTold_5 : decode cX1_orderTold 5 = .ok (.istore 4, 2) := dk_54 4 (dk_at dksX1_orderTold_0 5 rfl rfl)
theorem dX1_orderTold_7 : decode cX1_orderTold 7 = .ok (.iconst 0, 1) := dk_3 (dk_at dksX1_orderTold_0 7 rfl rfl)
theorem dX1_orderTold_8 : decode cX1_orderTold 8 = .ok (.istore 5, 2) := dk_54 5 (dk_at dksX1_orderTold_0 8 rfl rfl)
theorem dX1_orderTold_10 : decode cX1_orderTold 10 = .ok (.iload 5, 2) := dk_21 5 (dk_at dksX1_orderTold_0 10 rfl rfl)
theorem dX1_orderTold_12 : decode cX1_orderTold 12 = .ok (.iconst 3, 1) := dk_6 (dk_at dksX1_orderTold_0 12 rfl rfl)
theorem dX1_orderTold_13 : decode cX1_orderTold 13 = .ok (.if_icmp .ge 85, 3) := dk_162 0 85 (dk_at dksX1_orderTold_0 13 rfl rfl)
theorem dX1_orderTold_16 : decode cX1_orderTold 16 = .ok (.aload_n 0, 1) := dk_42 (dk_at dksX1_orderTold_0 16 rfl rfl)
theorem dX1_orderTold_17 : decode cX1_orderTold 17 = .ok (.getfield 16, 3) := dk_180 0 16 (dk_at dksX1_orderTold_0 17 rfl rfl)
theorem dX1_orderTold_20 : decode cX1_orderTold 20 = .ok (.aload_n 0, 1) := dk_42 (dk_at dksX1_orderTold_0 20 rfl rfl)
theorem dX1_orderTold_21 : decode cX1_orderTold 21 = .ok (.getfield 10, 3) := dk_180 0 10 (dk_at dksX1_orderTold_0 21 rfl rfl)
theorem dX1_orderTold_24 : decode cX1_orderTold 24 = .ok (.invokevirtual 43, 3) := dk_182 0 43 (dk_at dksX1_orderTold_1 0 rfl rfl)
theorem dX1_orderTold_27 : decode cX1_orderTold 27 = .ok (.aload_n 0, 1) := dk_42 (dk_at dksX1_orderTold_1 3 rfl rfl)
theorem dX1_orderTold_28 : decode cX1_orderTold 28 = .ok (.getfield 16, 3) := dk_180 0 16 (dk_at dksX1_orderTold_1 4 rfl rfl)
theorem dX1_orderTold_31 : decode cX1_orderTold 31 = .ok (.getfield 202, 3) := dk_180 0 202 (dk_at dksX1_orderTold_1 7 rfl rfl)
theorem dX1_orderTold_34 : decode cX1_orderTold 34 = .ok (.iconst 1, 1) := dk_4 (dk_at dksX1_orderTold_1 10 rfl rfl)
theorem dX1_orderTold_35 : decode cX1_orderTold 35 = .ok (.iload 5, 2) := dk_21 5 (dk_at dksX1_orderTold_1 11 rfl rfl)
theorem dX1_orderTold_37 : decode cX1_orderTold 37 = .ok (.iastore, 1) := dk_79 (dk_at dksX1_orderTold_1 13 rfl rfl)
theorem dX1_orderTold_38 : decode cX1_orderTold 38 = .ok (.aload_n 0, 1) := dk_42 (dk_at dksX1_orderTold_1 14 rfl rfl)
theorem dX1_orderTold_39 : decode cX1_orderTold 39 = .ok (.getfield 16, 3) := dk_180 0 16 (dk_at dksX1_orderTold_1 15 rfl rfl)
theorem dX1_orderTold_42 : decode cX1_orderTold 42 = .ok (.iload_n 1, 1) := dk_27 (dk_at dksX1_orderTold_1 18 rfl rfl)
theorem dX1_orderTold_43 : decode cX1_orderTold 43 = .ok (.invokevirtual 205, 3) := dk_182 0 205 (dk_at dksX1_orderTold_1 19 rfl rfl)
theorem dX1_orderTold_46 : decode cX1_orderTold 46 = .ok (.istore 6, 2) := dk_54 6 (dk_at dksX1_orderTold_1 22 rfl rfl)
theorem dX1_orderTold_48 : decode cX1_orderTold 48 = .ok (.aload_n 0, 1) := dk_42 (dk_at dksX1_orderTold_2 0 rfl rfl)
theorem dX1_orderTold_49 : decode cX1_orderTold 49 = .ok (.getfield 16, 3) := dk_180 0 16 (dk_at dksX1_orderTold_2 1 rfl rfl)
theorem dX1_orderTold_52 : decode cX1_orderTold 52 = .ok (.iconst 1, 1) := dk_4 (dk_at dksX1_orderTold_2 4 rfl rfl)
theorem dX1_orderTold_53 : decode cX1_orderTold 53 = .ok (.invokevirtual 95, 3) := dk_182 0 95 (dk_at dksX1_orderTold_2 5 rfl rfl)
theorem dX1_orderTold_56 : decode cX1_orderTold 56 = .ok (.istore 7, 2) := dk_54 7 (dk_at dksX1_orderTold_2 8 rfl rfl)
theorem dX1_orderTold_58 : decode cX1_orderTold 58 = .ok (.iload_n 2, 1) := dk_28 (dk_at dksX1_orderTold_2 10 rfl rfl)
theorem dX1_orderTold_59 : decode cX1_orderTold 59 = .ok (.iconst (-1), 1) := dk_2 (dk_at dksX1_orderTold_2 11 rfl rfl)
theorem dX1_orderTold_60 : decode cX1_orderTold 60 = .ok (.if_icmp .eq 22, 3) := dk_159 0 22 (dk_at dksX1_orderTold_2 12 rfl rfl)
theorem dX1_orderTold_63 : decode cX1_orderTold 63 = .ok (.iload 6, 2) := dk_21 6 (dk_at dksX1_orderTold_2 15 rfl rfl)
theorem dX1_orderTold_65 : decode cX1_orderTold 65 = .ok (.iload_n 3, 1) := dk_29 (dk_at dksX1_orderTold_2 17 rfl rfl)
theorem dX1_orderTold_66 : decode cX1_orderTold 66 = .ok (.if_icmp .lt 16, 3) := dk_161 0 16 (dk_at dksX1_orderTold_2 18 rfl rfl)
theorem dX1_orderTold_69 : decode cX1_orderTold 69 = .ok (.iload 6, 2) := dk_21 6 (dk_at dksX1_orderTold_2 21 rfl rfl)
theorem dX1_orderTold_71 : decode cX1_orderTold 71 = .ok (.iload_n 3, 1) := dk_29 (dk_at dksX1_orderTold_2 23 rfl rfl)
theorem dX1_orderTold_72 : decode cX1_orderTold 72 = .ok (.if_icmp .ne 20, 3) := dk_160 0 20 (dk_at dksX1_orderTold_3 0 rfl rfl)
theorem dX1_orderTold_75 : decode cX1_orderTold 75 = .ok (.iload 7, 2) := dk_21 7 (dk_at dksX1_orderTold_3 3 rfl rfl)
theorem dX1_orderTold_77 : decode cX1_orderTold 77 = .ok (.iload 4, 2) := dk_21 4 (dk_at dksX1_orderTold_3 5 rfl rfl)
theorem dX1_orderTold_79 : decode cX1_orderTold 79 = .ok (.if_icmp .le 13, 3) := dk_164 0 13 (dk_at dksX1_orderTold_3 7 rfl rfl)
theorem dX1_orderTold_82 : decode cX1_orderTold 82 = .ok (.iload 5, 2) := dk_21 5 (dk_at dksX1_orderTold_3 10 rfl rfl)
theorem dX1_orderTold_84 : decode cX1_orderTold 84 = .ok (.istore_n 2, 1) := dk_61 (dk_at dksX1_orderTold_3 12 rfl rfl)
theorem dX1_orderTold_85 : decode cX1_orderTold 85 = .ok (.iload 6, 2) := dk_21 6 (dk_at dksX1_orderTold_3 13 rfl rfl)
theorem dX1_orderTold_87 : decode cX1_orderTold 87 = .ok (.istore_n 3, 1) := dk_62 (dk_at dksX1_orderTold_3 15 rfl rfl)
theorem dX1_orderTold_88 : decode cX1_orderTold 88 = .ok (.iload 7, 2) := dk_21 7 (dk_at dksX1_orderTold_3 16 rfl rfl)
theorem dX1_orderTold_90 : decode cX1_orderTold 90 = .ok (.istore 4, 2) := dk_54 4 (dk_at dksX1_orderTold_3 18 rfl rfl)
theorem dX1_orderTold_92 : decode cX1_orderTold 92 = .ok (.iinc 5 1, 3) := dk_132 5 1 (dk_at dksX1_orderTold_3 20 rfl rfl)
theorem dX1_orderTold_95 : decode cX1_orderTold 95 = .ok (.goto (-85), 3) := dk_167 255 171 (dk_at dksX1_orderTold_4 0 rfl rfl)
theorem dX1_orderTold_98 : decode cX1_orderTold 98 = .ok (.iload_n 2, 1) := dk_28 (dk_at dksX1_orderTold_4 3 rfl rfl)
theorem dX1_orderTold_99 : decode cX1_orderTold 99 = .ok (.ireturn, 1) := dk_172 (dk_at dksX1_orderTold_4 4 rfl rfl)
abbrev cX1_build : ByteArray := prog_1_method_10_code
def yX1_build : MethodName := ⟨RX1, "build", "(IIIZ)I"⟩
def dkwX1_build_3 : List UInt8 := [180, 0, 72, 27, 50, 28, 29, 21, 4, 182, 0, 91, 42, 180, 0, 10, 3, 182, 0, 95, 172]
abbrev dktX1_build_3 : List UInt8 := dkwX1_build_3 ++ []
def dkwX1_build_2 : List UInt8 := [180, 0, 76, 154, 0, 7, 4, 167, 0, 4, 3, 184, 0, 82, 42, 182, 0, 88, 42, 180, 0, 10]
abbrev dktX1_build_2 : List UInt8 := dkwX1_build_2 ++ dktX1_build_3
def dkwX1_build_1 : List UInt8 := [184, 0, 60, 153, 0, 7, 4, 167, 0, 4, 3, 184, 0, 85, 42, 180, 0, 10, 180, 0, 72, 27, 50]
abbrev dktX1_build_1 : List UInt8 := dkwX1_build_1 ++ dktX1_build_2
def dkwX1_build_0 : List UInt8 := [27, 184, 0, 64, 184, 0, 68, 28, 4, 16, 90, 184, 0, 60, 153, 0, 19, 29, 16, 10, 17, 3, 132]
abbrev dktX1_build_0 : List UInt8 := dkwX1_build_0 ++ dktX1_build_1
theorem dksX1_build_0 : cX1_build.data.toList.drop 0 = dktX1_build_0 := by decide +kernel
theorem dksX1_build_1 : cX1_build.data.toList.drop 23 = dktX1_build_1 := dk_seg dksX1_build_0 23 rfl rfl
theorem dksX1_build_2 : cX1_build.data.toList.drop 46 = dktX1_build_2 := dk_seg dksX1_build_1 23 rfl rfl
theorem dksX1_build_3 : cX1_build.data.toList.drop 68 = dktX1_build_3 := dk_seg dksX1_build_2 22 rfl rfl
theorem dX1_build_0 : decode cX1_build 0 = .ok (.iload_n 1, 1) := dk_27 (dk_at dksX1_build_0 0 rfl rfl)
theorem dX1_build_1 : decode cX1_build 1 = .ok (.invokestatic 64, 3) := dk_184 0 64 (dk_at dksX1_build_0 1 rfl rfl)
theorem dX1_build_4 : decode cX1_build 4 = .ok (.invokestatic 68, 3) := dk_184 0 68 (dk_at dksX1_build_0 4 rfl rfl)
theorem dX1_build_7 : decode cX1_build 7 = .ok (.iload_n 2, 1) := dk_28 (dk_at dksX1_build_0 7 rfl rfl)
theorem dX1_build_8 : decode cX1_build 8 = .ok (.iconst 1, 1) := dk_4 (dk_at dksX1_build_0 8 rfl rfl)
theorem dX1_build_9 : decode cX1_build 9 = .ok (.bipush 90, 2) := dk_16 90 (dk_at dksX1_build_0 9 rfl rfl)
theorem dX1_build_11 : decode cX1_build 11 = .ok (.invokestatic 60, 3) := dk_184 0 60 (dk_at dksX1_build_0 11 rfl rfl)
theorem dX1_build_14 : decode cX1_build 14 = .ok (.ifCond .eq 19, 3) := dk_153 0 19 (dk_at dksX1_build_0 14 rfl rfl)
theorem dX1_build_17 : decode cX1_build 17 = .ok (.iload_n 3, 1) := dk_29 (dk_at dksX1_build_0 17 rfl rfl)
theorem dX1_build_18 : decode cX1_build 18 = .ok (.bipush 10, 2) := dk_16 10 (dk_at dksX1_build_0 18 rfl rfl)
theorem dX1_build_20 : decode cX1_build 20 = .ok (.sipush 900, 3) := dk_17 3 132 (dk_at dksX1_build_0 20 rfl rfl)
theorem dX1_build_23 : decode cX1_build 23 = .ok (.invokestatic 60, 3) := dk_184 0 60 (dk_at dksX1_build_1 0 rfl rfl)
theorem dX1_build_26 : decode cX1_build 26 = .ok (.ifCond .eq 7, 3) := dk_153 0 7 (dk_at dksX1_build_1 3 rfl rfl)
theorem dX1_build_29 : decode cX1_build 29 = .ok (.iconst 1, 1) := dk_4 (dk_at dksX1_build_1 6 rfl rfl)
theorem dX1_build_30 : decode cX1_build 30 = .ok (.goto 4, 3) := dk_167 0 4 (dk_at dksX1_build_1 7 rfl rfl)
theorem dX1_build_33 : decode cX1_build 33 = .ok (.iconst 0, 1) := dk_3 (dk_at dksX1_build_1 10 rfl rfl)
theorem dX1_build_34 : decode cX1_build 34 = .ok (.invokestatic 85, 3) := dk_184 0 85 (dk_at dksX1_build_1 11 rfl rfl)
theorem dX1_build_37 : decode cX1_build 37 = .ok (.aload_n 0, 1) := dk_42 (dk_at dksX1_build_1 14 rfl rfl)
theorem dX1_build_38 : decode cX1_build 38 = .ok (.getfield 10, 3) := dk_180 0 10 (dk_at dksX1_build_1 15 rfl rfl)
theorem dX1_build_41 : decode cX1_build 41 = .ok (.getfield 72, 3) := dk_180 0 72 (dk_at dksX1_build_1 18 rfl rfl)
theorem dX1_build_44 : decode cX1_build 44 = .ok (.iload_n 1, 1) := dk_27 (dk_at dksX1_build_1 21 rfl rfl)
theorem dX1_build_45 : decode cX1_build 45 = .ok (.aaload, 1) := dk_50 (dk_at dksX1_build_1 22 rfl rfl)
theorem dX1_build_46 : decode cX1_build 46 = .ok (.getfield 76, 3) := dk_180 0 76 (dk_at dksX1_build_2 0 rfl rfl)
theorem dX1_build_49 : decode cX1_build 49 = .ok (.ifCond .ne 7, 3) := dk_154 0 7 (dk_at dksX1_build_2 3 rfl rfl)
theorem dX1_build_52 : decode cX1_build 52 = .ok (.iconst 1, 1) := dk_4 (dk_at dksX1_build_2 6 rfl rfl)
theorem dX1_build_53 : decode cX1_build 53 = .ok (.goto 4, 3) := dk_167 0 4 (dk_at dksX1_build_2 7 rfl rfl)
theorem dX1_build_56 : decode cX1_build 56 = .ok (.iconst 0, 1) := dk_3 (dk_at dksX1_build_2 10 rfl rfl)
theorem dX1_build_57 : decode cX1_build 57 = .ok (.invokestatic 82, 3) := dk_184 0 82 (dk_at dksX1_build_2 11 rfl rfl)
theorem dX1_build_60 : decode cX1_build 60 = .ok (.aload_n 0, 1) := dk_42 (dk_at dksX1_build_2 14 rfl rfl)
theorem dX1_build_61 : decode cX1_build 61 = .ok (.invokevirtual 88, 3) := dk_182 0 88 (dk_at dksX1_build_2 15 rfl rfl)
theorem dX1_build_64 : decode cX1_build 64 = .ok (.aload_n 0, 1) := dk_42 (dk_at dksX1_build_2 18 rfl rfl)
theorem dX1_build_65 : decode cX1_build 65 = .ok (.getfield 10, 3) := dk_180 0 10 (dk_at dksX1_build_2 19 rfl rfl)
theorem dX1_build_68 : decode cX1_build 68 = .ok (.getfield 72, 3) := dk_180 0 72 (dk_at dksX1_build_3 0 rfl rfl)
theorem dX1_build_71 : decode cX1_build 71 = .ok (.iload_n 1, 1) := dk_27 (dk_at dksX1_build_3 3 rfl rfl)
theorem dX1_build_72 : decode cX1_build 72 = .ok (.aaload, 1) := dk_50 (dk_at dksX1_build_3 4 rfl rfl)
theorem dX1_build_73 : decode cX1_build 73 = .ok (.iload_n 2, 1) := dk_28 (dk_at dksX1_build_3 5 rfl rfl)
theorem dX1_build_74 : decode cX1_build 74 = .ok (.iload_n 3, 1) := dk_29 (dk_at dksX1_build_3 6 rfl rfl)
theorem dX1_build_75 : decode cX1_build 75 = .ok (.iload 4, 2) := dk_21 4 (dk_at dksX1_build_3 7 rfl rfl)
theorem dX1_build_77 : decode cX1_build 77 = .ok (.invokevirtual 91, 3) := dk_182 0 91 (dk_at dksX1_build_3 9 rfl rfl)
theorem dX1_build_80 : decode cX1_build 80 = .ok (.aload_n 0, 1) := dk_42 (dk_at dksX1_build_3 12 rfl rfl)
theorem dX1_build_81 : decode cX1_build 81 = .ok (.getfield 10, 3) := dk_180 0 10 (dk_at dksX1_build_3 13 rfl rfl)
theorem dX1_build_84 : decode cX1_build 84 = .ok (.iconst 0, 1) := dk_3 (dk_at dksX1_build_3 16 rfl rfl)
theorem dX1_build_85 : decode cX1_build 85 = .ok (.invokevirtual 95, 3) := dk_182 0 95 (dk_at dksX1_build_3 17 rfl rfl)
theorem dX1_build_88 : decode cX1_build 88 = .ok (.ireturn, 1) := dk_172 (dk_at dksX1_build_3 20 rfl rfl)
abbrev cX1_needIndex : ByteArray := prog_1_method_5_code
def yX1_needIndex : MethodName := ⟨RX1, "needIndex", "(Z)V"⟩
def dkwX1_needIndex_0 : List UInt8 := [26, 154, 0, 11, 187, 0, 54, 89, 183, 0, 56, 191, 177]
abbrev dktX1_needIndex_0 : List UInt8 := dkwX1_needIndex_0 ++ []
theorem dksX1_needIndex_0 : cX1_needIndex.data.toList.drop 0 = dktX1_needIndex_0 := by decide +kernel
theorem dX1_needIndex_0 : decode cX1_needIndex 0 = .ok (.iload_n 0, 1) := dk_26 (dk_at dksX1_needIndex_0 0 rfl rfl)
theorem dX1_needIndex_1 : decode cX1_needIndex 1 = .ok (.ifCond .ne 11, 3) := dk_154 0 11 (dk_at dksX1_needIndex_0 1 rfl rfl)
theorem dX1_needIndex_4 : decode cX1_needIndex 4 = .ok (.new 54, 3) := dk_187 0 54 (dk_at dksX1_needIndex_0 4 rfl rfl)
theorem dX1_needIndex_7 : decode cX1_needIndex 7 = .ok (.dup, 1) := dk_89 (dk_at dksX1_needIndex_0 7 rfl rfl)
theorem dX1_needIndex_8 : decode cX1_needIndex 8 = .ok (.invokespecial 56, 3) := dk_183 0 56 (dk_at dksX1_needIndex_0 8 rfl rfl)
theorem dX1_needIndex_11 : decode cX1_needIndex 11 = .ok (.athrow, 1) := dk_191 (dk_at dksX1_needIndex_0 11 rfl rfl)
theorem dX1_needIndex_12 : decode cX1_needIndex 12 = .ok (.return_, 1) := dk_177 (dk_at dksX1_needIndex_0 12 rfl rfl)
abbrev cX1_need : ByteArray := prog_1_method_4_code
def yX1_need : MethodName := ⟨RX1, "need", "(Z)V"⟩
def dkwX1_need_0 : List UInt8 := [26, 154, 0, 11, 187, 0, 51, 89, 183, 0, 53, 191, 177]
abbrev dktX1_need_0 : List UInt8 := dkwX1_need_0 ++ []
theorem dksX1_need_0 : cX1_need.data.toList.drop 0 = dktX1_need_0 := by decide +kernel
theorem dX1_need_0 : decode cX1_need 0 = .ok (.iload_n 0, 1) := dk_26 (dk_at dksX1_need_0 0 rfl rfl)
theorem dX1_need_1 : decode cX1_need 1 = .ok (.ifCond .ne 11, 3) := dk_154 0 11 (dk_at dksX1_need_0 1 rfl rfl)
theorem dX1_need_4 : decode cX1_need 4 = .ok (.new 51, 3) := dk_187 0 51 (dk_at dksX1_need_0 4 rfl rfl)
theorem dX1_need_7 : decode cX1_need 7 = .ok (.dup, 1) := dk_89 (dk_at dksX1_need_0 7 rfl rfl)
theorem dX1_need_8 : decode cX1_need 8 = .ok (.invokespecial 53, 3) := dk_183 0 53 (dk_at dksX1_need_0 8 rfl rfl)
theorem dX1_need_11 : decode cX1_need 11 = .ok (.athrow, 1) := dk_191 (dk_at dksX1_need_0 11 rfl rfl)
theorem dX1_need_12 : decode cX1_need 12 = .ok (.return_, 1) := dk_177 (dk_at dksX1_need_0 12 rfl rfl)
abbrev cX1_needState : ByteArray := prog_1_method_6_code
def yX1_needState : MethodName := ⟨RX1, "needState", "(Z)V"⟩
def dkwX1_needState_0 : List UInt8 := [26, 154, 0, 11, 187, 0, 57, 89, 183, 0, 59, 191, 177]
abbrev dktX1_needState_0 : List UInt8 := dkwX1_needState_0 ++ []
theorem dksX1_needState_0 : cX1_needState.data.toList.drop 0 = dktX1_needState_0 := by decide +kernel
theorem dX1_needState_0 : decode cX1_needState 0 = .ok (.iload_n 0, 1) := dk_26 (dk_at dksX1_needState_0 0 rfl rfl)
theorem dX1_needState_1 : decode cX1_needState 1 = .ok (.ifCond .ne 11, 3) := dk_154 0 11 (dk_at dksX1_needState_0 1 rfl rfl)
theorem dX1_needState_4 : decode cX1_needState 4 = .ok (.new 57, 3) := dk_187 0 57 (dk_at dksX1_needState_0 4 rfl rfl)
theorem dX1_needState_7 : decode cX1_needState 7 = .ok (.dup, 1) := dk_89 (dk_at dksX1_needState_0 7 rfl rfl)
theorem dX1_needState_8 : decode cX1_needState 8 = .ok (.invokespecial 59, 3) := dk_183 0 59 (dk_at dksX1_needState_0 8 rfl rfl)
theorem dX1_needState_11 : decode cX1_needState 11 = .ok (.athrow, 1) := dk_191 (dk_at dksX1_needState_0 11 rfl rfl)
theorem dX1_needState_12 : decode cX1_needState 12 = .ok (.return_, 1) := dk_177 (dk_at dksX1_needState_0 12 rfl rfl)
abbrev cX1_save : ByteArray := prog_1_method_3_code
def yX1_save : MethodName := ⟨RX1, "save", "()V"⟩
def dkwX1_save_2 : List UInt8 := [182, 0, 47, 87, 177]
abbrev dktX1_save_2 : List UInt8 := dkwX1_save_2 ++ []
def dkwX1_save_1 : List UInt8 := [167, 0, 10, 187, 0, 7, 89, 183, 0, 9, 76, 43, 42, 180, 0, 10, 182, 0, 43, 42, 180, 0, 22, 43]
abbrev dktX1_save_1 : List UInt8 := dkwX1_save_1 ++ dktX1_save_2
def dkwX1_save_0 : List UInt8 := [42, 180, 0, 22, 182, 0, 35, 16, 6, 160, 0, 17, 42, 180, 0, 22, 3, 182, 0, 39, 192, 0, 7]
abbrev dktX1_save_0 : List UInt8 := dkwX1_save_0 ++ dktX1_save_1
theorem dksX1_save_0 : cX1_save.data.toList.drop 0 = dktX1_save_0 := by decide +kernel
theorem dksX1_save_1 : cX1_save.data.toList.drop 23 = dktX1_save_1 := dk_seg dksX1_save_0 23 rfl rfl
theorem dksX1_save_2 : cX1_save.data.toList.drop 47 = dktX1_save_2 := dk_seg dksX1_save_1 24 rfl rfl
theorem dX1_save_0 : decode cX1_save 0 = .ok (.aload_n 0, 1) := dk_42 (dk_at dksX1_save_0 0 rfl rfl)
theorem dX1_save_1 : decode cX1_save 1 = .ok (.getfield 22, 3) := dk_180 0 22 (dk_at dksX1_save_0 1 rfl rfl)
theorem dX1_save_4 : decode cX1_save 4 = .ok (.invokevirtual 35, 3) := dk_182 0 35 (dk_at dksX1_save_0 4 rfl rfl)
theorem dX1_save_7 : decode cX1_save 7 = .ok (.bipush 6, 2) := dk_16 6 (dk_at dksX1_save_0 7 rfl rfl)
theorem dX1_save_9 : decode cX1_save 9 = .ok (.if_icmp .ne 17, 3) := dk_160 0 17 (dk_at dksX1_save_0 9 rfl rfl)
theorem dX1_save_12 : decode cX1_save 12 = .ok (.aload_n 0, 1) := dk_42 (dk_at dksX1_save_0 12 rfl rfl)
theorem dX1_save_13 : decode cX1_save 13 = .ok (.getfield 22, 3) := dk_180 0 22 (dk_at dksX1_save_0 13 rfl rfl)
theorem dX1_save_16 : decode cX1_save 16 = .ok (.iconst 0, 1) := dk_3 (dk_at dksX1_save_0 16 rfl rfl)
theorem dX1_save_17 : decode cX1_save 17 = .ok (.invokevirtual 39, 3) := dk_182 0 39 (dk_at dksX1_save_0 17 rfl rfl)
theorem dX1_save_20 : decode cX1_save 20 = .ok (.checkcast 7, 3) := dk_192 0 7 (dk_at dksX1_save_0 20 rfl rfl)
theorem dX1_save_23 : decode cX1_save 23 = .ok (.goto 10, 3) := dk_167 0 10 (dk_at dksX1_save_1 0 rfl rfl)
theorem dX1_save_26 : decode cX1_save 26 = .ok (.new 7, 3) := dk_187 0 7 (dk_at dksX1_save_1 3 rfl rfl)
theorem dX1_save_29 : decode cX1_save 29 = .ok (.dup, 1) := dk_89 (dk_at dksX1_save_1 6 rfl rfl)
theorem dX1_save_30 : decode cX1_save 30 = .ok (.invokespecial 9, 3) := dk_183 0 9 (dk_at dksX1_save_1 7 rfl rfl)
theorem dX1_save_33 : decode cX1_save 33 = .ok (.astore_n 1, 1) := dk_76 (dk_at dksX1_save_1 10 rfl rfl)
theorem dX1_save_34 : decode cX1_save 34 = .ok (.aload_n 1, 1) := dk_43 (dk_at dksX1_save_1 11 rfl rfl)
theorem dX1_save_35 : decode cX1_save 35 = .ok (.aload_n 0, 1) := dk_42 (dk_at dksX1_save_1 12 rfl rfl)
theorem dX1_save_36 : decode cX1_save 36 = .ok (.getfield 10, 3) := dk_180 0 10 (dk_at dksX1_save_1 13 rfl rfl)
theorem dX1_save_39 : decode cX1_save 39 = .ok (.invokevirtual 43, 3) := dk_182 0 43 (dk_at dksX1_save_1 16 rfl rfl)
theorem dX1_save_42 : decode cX1_save 42 = .ok (.aload_n 0, 1) := dk_42 (dk_at dksX1_save_1 19 rfl rfl)
theorem dX1_save_43 : decode cX1_save 43 = .ok (.getfield 22, 3) := dk_180 0 22 (dk_at dksX1_save_1 20 rfl rfl)
theorem dX1_save_46 : decode cX1_save 46 = .ok (.aload_n 1, 1) := dk_43 (dk_at dksX1_save_1 23 rfl rfl)
theorem dX1_save_47 : decode cX1_save 47 = .ok (.invokevirtual 47, 3) := dk_182 0 47 (dk_at dksX1_save_2 0 rfl rfl)
theorem dX1_save_50 : decode cX1_save 50 = .ok (.pop, 1) := dk_87 (dk_at dksX1_save_2 3 rfl rfl)
theorem dX1_save_51 : decode cX1_save 51 = .ok (.return_, 1) := dk_177 (dk_at dksX1_save_2 4 rfl rfl)
abbrev cX1_remove : ByteArray := prog_1_method_11_code
def yX1_remove : MethodName := ⟨RX1, "remove", "(I)I"⟩
def dkwX1_remove_1 : List UInt8 := [182, 0, 107, 29, 172]
abbrev dktX1_remove_1 : List UInt8 := dkwX1_remove_1 ++ []
def dkwX1_remove_0 : List UInt8 := [42, 27, 182, 0, 99, 77, 42, 182, 0, 88, 44, 182, 0, 103, 62, 44, 187, 0, 77, 89, 183, 0, 106]
abbrev dktX1_remove_0 : List UInt8 := dkwX1_remove_0 ++ dktX1_remove_1
theorem dksX1_remove_0 : cX1_remove.data.toList.drop 0 = dktX1_remove_0 := by decide +kernel
theorem dksX1_remove_1 : cX1_remove.data.toList.drop 23 = dktX1_remove_1 := dk_seg dksX1_remove_0 23 rfl rfl
theorem dX1_remove_0 : decode cX1_remove 0 = .ok (.aload_n 0, 1) := dk_42 (dk_at dksX1_remove_0 0 rfl rfl)
theorem dX1_remove_1 : decode cX1_remove 1 = .ok (.iload_n 1, 1) := dk_27 (dk_at dksX1_remove_0 1 rfl rfl)
theorem dX1_remove_2 : decode cX1_remove 2 = .ok (.invokevirtual 99, 3) := dk_182 0 99 (dk_at dksX1_remove_0 2 rfl rfl)
theorem dX1_remove_5 : decode cX1_remove 5 = .ok (.astore_n 2, 1) := dk_77 (dk_at dksX1_remove_0 5 rfl rfl)
theorem dX1_remove_6 : decode cX1_remove 6 = .ok (.aload_n 0, 1) := dk_42 (dk_at dksX1_remove_0 6 rfl rfl)
theorem dX1_remove_7 : decode cX1_remove 7 = .ok (.invokevirtual 88, 3) := dk_182 0 88 (dk_at dksX1_remove_0 7 rfl rfl)
theorem dX1_remove_10 : decode cX1_remove 10 = .ok (.aload_n 2, 1) := dk_44 (dk_at dksX1_remove_0 10 rfl rfl)
theorem dX1_remove_11 : decode cX1_remove 11 = .ok (.invokevirtual 103, 3) := dk_182 0 103 (dk_at dksX1_remove_0 11 rfl rfl)
theorem dX1_remove_14 : decode cX1_remove 14 = .ok (.istore_n 3, 1) := dk_62 (dk_at dksX1_remove_0 14 rfl rfl)
theorem dX1_remove_15 : decode cX1_remove 15 = .ok (.aload_n 2, 1) := dk_44 (dk_at dksX1_remove_0 15 rfl rfl)
theorem dX1_remove_16 : decode cX1_remove 16 = .ok (.new 77, 3) := dk_187 0 77 (dk_at dksX1_remove_0 16 rfl rfl)
theorem dX1_remove_19 : decode cX1_remove 19 = .ok (.dup, 1) := dk_89 (dk_at dksX1_remove_0 19 rfl rfl)
theorem dX1_remove_20 : decode cX1_remove 20 = .ok (.invokespecial 106, 3) := dk_183 0 106 (dk_at dksX1_remove_0 20 rfl rfl)
theorem dX1_remove_23 : decode cX1_remove 23 = .ok (.invokevirtual 107, 3) := dk_182 0 107 (dk_at dksX1_remove_1 0 rfl rfl)
theorem dX1_remove_26 : decode cX1_remove 26 = .ok (.iload_n 3, 1) := dk_29 (dk_at dksX1_remove_1 3 rfl rfl)
theorem dX1_remove_27 : decode cX1_remove 27 = .ok (.ireturn, 1) := dk_172 (dk_at dksX1_remove_1 4 rfl rfl)
abbrev cX1_there : ByteArray := prog_1_method_9_code
def yX1_there : MethodName := ⟨RX1, "there", "(I)LFountainPark$Fountain;"⟩
def dkwX1_there_1 : List UInt8 := [180, 0, 10, 180, 0, 72, 27, 50, 176]
abbrev dktX1_there_1 : List UInt8 := dkwX1_there_1 ++ []
def dkwX1_there_0 : List UInt8 := [27, 184, 0, 64, 184, 0, 68, 42, 180, 0, 10, 180, 0, 72, 27, 50, 180, 0, 76, 184, 0, 82, 42]
abbrev dktX1_there_0 : List UInt8 := dkwX1_there_0 ++ dktX1_there_1
theorem dksX1_there_0 : cX1_there.data.toList.drop 0 = dktX1_there_0 := by decide +kernel
theorem dksX1_there_1 : cX1_there.data.toList.drop 23 = dktX1_there_1 := dk_seg dksX1_there_0 23 rfl rfl
theorem dX1_there_0 : decode cX1_there 0 = .ok (.iload_n 1, 1) := dk_27 (dk_at dksX1_there_0 0 rfl rfl)
theorem dX1_there_1 : decode cX1_there 1 = .ok (.invokestatic 64, 3) := dk_184 0 64 (dk_at dksX1_there_0 1 rfl rfl)
theorem dX1_there_4 : decode cX1_there 4 = .ok (.invokestatic 68, 3) := dk_184 0 68 (dk_at dksX1_there_0 4 rfl rfl)
theorem dX1_there_7 : decode cX1_there 7 = .ok (.aload_n 0, 1) := dk_42 (dk_at dksX1_there_0 7 rfl rfl)
theorem dX1_there_8 : decode cX1_there 8 = .ok (.getfield 10, 3) := dk_180 0 10 (dk_at dksX1_there_0 8 rfl rfl)
theorem dX1_there_11 : decode cX1_there 11 = .ok (.getfield 72, 3) := dk_180 0 72 (dk_at dksX1_there_0 11 rfl rfl)
theorem dX1_there_14 : decode cX1_there 14 = .ok (.iload_n 1, 1) := dk_27 (dk_at dksX1_there_0 14 rfl rfl)
theorem dX1_there_15 : decode cX1_there 15 = .ok (.aaload, 1) := dk_50 (dk_at dksX1_there_0 15 rfl rfl)
theorem dX1_there_16 : decode cX1_there 16 = .ok (.getfield 76, 3) := dk_180 0 76 (dk_at dksX1_there_0 16 rfl rfl)
theorem dX1_there_19 : decode cX1_there 19 = .ok (.invokestatic 82, 3) := dk_184 0 82 (dk_at dksX1_there_0 19 rfl rfl)
theorem dX1_there_22 : decode cX1_there 22 = .ok (.aload_n 0, 1) := dk_42 (dk_at dksX1_there_0 22 rfl rfl)
theorem dX1_there_23 : decode cX1_there 23 = .ok (.getfield 10, 3) := dk_180 0 10 (dk_at dksX1_there_1 0 rfl rfl)
theorem dX1_there_26 : decode cX1_there 26 = .ok (.getfield 72, 3) := dk_180 0 72 (dk_at dksX1_there_1 3 rfl rfl)
theorem dX1_there_29 : decode cX1_there 29 = .ok (.iload_n 1, 1) := dk_27 (dk_at dksX1_there_1 6 rfl rfl)
theorem dX1_there_30 : decode cX1_there 30 = .ok (.aaload, 1) := dk_50 (dk_at dksX1_there_1 7 rfl rfl)
theorem dX1_there_31 : decode cX1_there 31 = .ok (.areturn, 1) := dk_176 (dk_at dksX1_there_1 8 rfl rfl)
abbrev cX1_drain : ByteArray := prog_1_method_12_code
def yX1_drain : MethodName := ⟨RX1, "drain", "(IZ)I"⟩
def dkwX1_drain_1 : List UInt8 := [45, 28, 181, 0, 110, 21, 4, 172]
abbrev dktX1_drain_1 : List UInt8 := dkwX1_drain_1 ++ []
def dkwX1_drain_0 : List UInt8 := [42, 27, 182, 0, 99, 78, 42, 182, 0, 88, 45, 180, 0, 110, 153, 0, 7, 4, 167, 0, 4, 3, 54, 4]
abbrev dktX1_drain_0 : List UInt8 := dkwX1_drain_0 ++ dktX1_drain_1
theorem dksX1_drain_0 : cX1_drain.data.toList.drop 0 = dktX1_drain_0 := by decide +kernel
theorem dksX1_drain_1 : cX1_drain.data.toList.drop 24 = dktX1_drain_1 := dk_seg dksX1_drain_0 24 rfl rfl
theorem dX1_drain_0 : decode cX1_drain 0 = .ok (.aload_n 0, 1) := dk_42 (dk_at dksX1_drain_0 0 rfl rfl)
theorem dX1_drain_1 : decode cX1_drain 1 = .ok (.iload_n 1, 1) := dk_27 (dk_at dksX1_drain_0 1 rfl rfl)
theorem dX1_drain_2 : decode cX1_drain 2 = .ok (.invokevirtual 99, 3) := dk_182 0 99 (dk_at dksX1_drain_0 2 rfl rfl)
theorem dX1_drain_5 : decode cX1_drain 5 = .ok (.astore_n 3, 1) := dk_78 (dk_at dksX1_drain_0 5 rfl rfl)
theorem dX1_drain_6 : decode cX1_drain 6 = .ok (.aload_n 0, 1) := dk_42 (dk_at dksX1_drain_0 6 rfl rfl)
theorem dX1_drain_7 : decode cX1_drain 7 = .ok (.invokevirtual 88, 3) := dk_182 0 88 (dk_at dksX1_drain_0 7 rfl rfl)
theorem dX1_drain_10 : decode cX1_drain 10 = .ok (.aload_n 3, 1) := dk_45 (dk_at dksX1_drain_0 10 rfl rfl)
theorem dX1_drain_11 : decode cX1_drain 11 = .ok (.getfield 110, 3) := dk_180 0 110 (dk_at dksX1_drain_0 11 rfl rfl)
theorem dX1_drain_14 : decode cX1_drain 14 = .ok (.ifCond .eq 7, 3) := dk_153 0 7 (dk_at dksX1_drain_0 14 rfl rfl)
theorem dX1_drain_17 : decode cX1_drain 17 = .ok (.iconst 1, 1) := dk_4 (dk_at dksX1_drain_0 17 rfl rfl)
theorem dX1_drain_18 : decode cX1_drain 18 = .ok (.goto 4, 3) := dk_167 0 4 (dk_at dksX1_drain_0 18 rfl rfl)
theorem dX1_drain_21 : decode cX1_drain 21 = .ok (.iconst 0, 1) := dk_3 (dk_at dksX1_drain_0 21 rfl rfl)
theorem dX1_drain_22 : decode cX1_drain 22 = .ok (.istore 4, 2) := dk_54 4 (dk_at dksX1_drain_0 22 rfl rfl)
theorem dX1_drain_24 : decode cX1_drain 24 = .ok (.aload_n 3, 1) := dk_45 (dk_at dksX1_drain_1 0 rfl rfl)
theorem dX1_drain_25 : decode cX1_drain 25 = .ok (.iload_n 2, 1) := dk_28 (dk_at dksX1_drain_1 1 rfl rfl)
theorem dX1_drain_26 : decode cX1_drain 26 = .ok (.putfield 110, 3) := dk_181 0 110 (dk_at dksX1_drain_1 2 rfl rfl)
theorem dX1_drain_29 : decode cX1_drain 29 = .ok (.iload 4, 2) := dk_21 4 (dk_at dksX1_drain_1 5 rfl rfl)
theorem dX1_drain_31 : decode cX1_drain 31 = .ok (.ireturn, 1) := dk_172 (dk_at dksX1_drain_1 7 rfl rfl)
abbrev cX1_heat : ByteArray := prog_1_method_13_code
def yX1_heat : MethodName := ⟨RX1, "heat", "(IZ)I"⟩
def dkwX1_heat_1 : List UInt8 := [45, 28, 181, 0, 113, 21, 4, 172]
abbrev dktX1_heat_1 : List UInt8 := dkwX1_heat_1 ++ []
def dkwX1_heat_0 : List UInt8 := [42, 27, 182, 0, 99, 78, 42, 182, 0, 88, 45, 180, 0, 113, 153, 0, 7, 4, 167, 0, 4, 3, 54, 4]
abbrev dktX1_heat_0 : List UInt8 := dkwX1_heat_0 ++ dktX1_heat_1
theorem dksX1_heat_0 : cX1_heat.data.toList.drop 0 = dktX1_heat_0 := by decide +kernel
theorem dksX1_heat_1 : cX1_heat.data.toList.drop 24 = dktX1_heat_1 := dk_seg dksX1_heat_0 24 rfl rfl
theorem dX1_heat_0 : decode cX1_heat 0 = .ok (.aload_n 0, 1) := dk_42 (dk_at dksX1_heat_0 0 rfl rfl)
theorem dX1_heat_1 : decode cX1_heat 1 = .ok (.iload_n 1, 1) := dk_27 (dk_at dksX1_heat_0 1 rfl rfl)
theorem dX1_heat_2 : decode cX1_heat 2 = .ok (.invokevirtual 99, 3) := dk_182 0 99 (dk_at dksX1_heat_0 2 rfl rfl)
theorem dX1_heat_5 : decode cX1_heat 5 = .ok (.astore_n 3, 1) := dk_78 (dk_at dksX1_heat_0 5 rfl rfl)
theorem dX1_heat_6 : decode cX1_heat 6 = .ok (.aload_n 0, 1) := dk_42 (dk_at dksX1_heat_0 6 rfl rfl)
theorem dX1_heat_7 : decode cX1_heat 7 = .ok (.invokevirtual 88, 3) := dk_182 0 88 (dk_at dksX1_heat_0 7 rfl rfl)
theorem dX1_heat_10 : decode cX1_heat 10 = .ok (.aload_n 3, 1) := dk_45 (dk_at dksX1_heat_0 10 rfl rfl)
theorem dX1_heat_11 : decode cX1_heat 11 = .ok (.getfield 113, 3) := dk_180 0 113 (dk_at dksX1_heat_0 11 rfl rfl)
theorem dX1_heat_14 : decode cX1_heat 14 = .ok (.ifCond .eq 7, 3) := dk_153 0 7 (dk_at dksX1_heat_0 14 rfl rfl)
theorem dX1_heat_17 : decode cX1_heat 17 = .ok (.iconst 1, 1) := dk_4 (dk_at dksX1_heat_0 17 rfl rfl)
theorem dX1_heat_18 : decode cX1_heat 18 = .ok (.goto 4, 3) := dk_167 0 4 (dk_at dksX1_heat_0 18 rfl rfl)
theorem dX1_heat_21 : decode cX1_heat 21 = .ok (.iconst 0, 1) := dk_3 (dk_at dksX1_heat_0 21 rfl rfl)
theorem dX1_heat_22 : decode cX1_heat 22 = .ok (.istore 4, 2) := dk_54 4 (dk_at dksX1_heat_0 22 rfl rfl)
theorem dX1_heat_24 : decode cX1_heat 24 = .ok (.aload_n 3, 1) := dk_45 (dk_at dksX1_heat_1 0 rfl rfl)
theorem dX1_heat_25 : decode cX1_heat 25 = .ok (.iload_n 2, 1) := dk_28 (dk_at dksX1_heat_1 1 rfl rfl)
theorem dX1_heat_26 : decode cX1_heat 26 = .ok (.putfield 113, 3) := dk_181 0 113 (dk_at dksX1_heat_1 2 rfl rfl)
theorem dX1_heat_29 : decode cX1_heat 29 = .ok (.iload 4, 2) := dk_21 4 (dk_at dksX1_heat_1 5 rfl rfl)
theorem dX1_heat_31 : decode cX1_heat 31 = .ok (.ireturn, 1) := dk_172 (dk_at dksX1_heat_1 7 rfl rfl)
abbrev cX1_frost : ByteArray := prog_1_method_14_code
def yX1_frost : MethodName := ⟨RX1, "frost", "(II)I"⟩
def dkwX1_frost_4 : List UInt8 := [182, 0, 137, 87, 42, 180, 0, 10, 182, 0, 141, 42, 180, 0, 10, 180, 0, 124, 182, 0, 128, 172]
abbrev dktX1_frost_4 : List UInt8 := dkwX1_frost_4 ++ []
def dkwX1_frost_3 : List UInt8 := [184, 0, 82, 42, 182, 0, 88, 42, 180, 0, 10, 180, 0, 124, 27, 184, 0, 131, 28, 184, 0, 131]
abbrev dktX1_frost_3 : List UInt8 := dkwX1_frost_3 ++ dktX1_frost_4
def dkwX1_frost_2 : List UInt8 := [154, 0, 22, 42, 180, 0, 10, 180, 0, 124, 182, 0, 128, 16, 6, 162, 0, 7, 4, 167, 0, 4, 3]
abbrev dktX1_frost_2 : List UInt8 := dkwX1_frost_2 ++ dktX1_frost_3
def dkwX1_frost_1 : List UInt8 := [184, 0, 60, 153, 0, 7, 4, 167, 0, 4, 3, 184, 0, 85, 42, 180, 0, 10, 27, 28, 182, 0, 120]
abbrev dktX1_frost_1 : List UInt8 := dkwX1_frost_1 ++ dktX1_frost_2
def dkwX1_frost_0 : List UInt8 := [27, 42, 180, 0, 10, 180, 0, 116, 17, 3, 231, 184, 0, 60, 153, 0, 18, 28, 27, 17, 3, 231]
abbrev dktX1_frost_0 : List UInt8 := dkwX1_frost_0 ++ dktX1_frost_1
theorem dksX1_frost_0 : cX1_frost.data.toList.drop 0 = dktX1_frost_0 := by decide +kernel
theorem dksX1_frost_1 : cX1_frost.data.toList.drop 22 = dktX1_frost_1 := dk_seg dksX1_frost_0 22 rfl rfl
theorem dksX1_frost_2 : cX1_frost.data.toList.drop 45 = dktX1_frost_2 := dk_seg dksX1_frost_1 23 rfl rfl
theorem dksX1_frost_3 : cX1_frost.data.toList.drop 68 = dktX1_frost_3 := dk_seg dksX1_frost_2 23 rfl rfl
theorem dksX1_frost_4 : cX1_frost.data.toList.drop 90 = dktX1_frost_4 := dk_seg dksX1_frost_3 22 rfl rfl
theorem dX1_frost_0 : decode cX1_frost 0 = .ok (.iload_n 1, 1) := dk_27 (dk_at dksX1_frost_0 0 rfl rfl)
theorem dX1_frost_1 : decode cX1_frost 1 = .ok (.aload_n 0, 1) := dk_42 (dk_at dksX1_frost_0 1 rfl rfl)
theorem dX1_frost_2 : decode cX1_frost 2 = .ok (.getfield 10, 3) := dk_180 0 10 (dk_at dksX1_frost_0 2 rfl rfl)
theorem dX1_frost_5 : decode cX1_frost 5 = .ok (.getfield 116, 3) := dk_180 0 116 (dk_at dksX1_frost_0 5 rfl rfl)
theorem dX1_frost_8 : decode cX1_frost 8 = .ok (.sipush 999, 3) := dk_17 3 231 (dk_at dksX1_frost_0 8 rfl rfl)
theorem dX1_frost_11 : decode cX1_frost 11 = .ok (.invokestatic 60, 3) := dk_184 0 60 (dk_at dksX1_frost_0 11 rfl rfl)
theorem dX1_frost_14 : decode cX1_frost 14 = .ok (.ifCond .eq 18, 3) := dk_153 0 18 (dk_at dksX1_frost_0 14 rfl rfl)
theorem dX1_frost_17 : decode cX1_frost 17 = .ok (.iload_n 2, 1) := dk_28 (dk_at dksX1_frost_0 17 rfl rfl)
theorem dX1_frost_18 : decode cX1_frost 18 = .ok (.iload_n 1, 1) := dk_27 (dk_at dksX1_frost_0 18 rfl rfl)
theorem dX1_frost_19 : decode cX1_frost 19 = .ok (.sipush 999, 3) := dk_17 3 231 (dk_at dksX1_frost_0 19 rfl rfl)
theorem dX1_frost_22 : decode cX1_frost 22 = .ok (.invokestatic 60, 3) := dk_184 0 60 (dk_at dksX1_frost_1 0 rfl rfl)
theorem dX1_frost_25 : decode cX1_frost 25 = .ok (.ifCond .eq 7, 3) := dk_153 0 7 (dk_at dksX1_frost_1 3 rfl rfl)
theorem dX1_frost_28 : decode cX1_frost 28 = .ok (.iconst 1, 1) := dk_4 (dk_at dksX1_frost_1 6 rfl rfl)
theorem dX1_frost_29 : decode cX1_frost 29 = .ok (.goto 4, 3) := dk_167 0 4 (dk_at dksX1_frost_1 7 rfl rfl)
theorem dX1_frost_32 : decode cX1_frost 32 = .ok (.iconst 0, 1) := dk_3 (dk_at dksX1_frost_1 10 rfl rfl)
theorem dX1_frost_33 : decode cX1_frost 33 = .ok (.invokestatic 85, 3) := dk_184 0 85 (dk_at dksX1_frost_1 11 rfl rfl)
theorem dX1_frost_36 : decode cX1_frost 36 = .ok (.aload_n 0, 1) := dk_42 (dk_at dksX1_frost_1 14 rfl rfl)
theorem dX1_frost_37 : decode cX1_frost 37 = .ok (.getfield 10, 3) := dk_180 0 10 (dk_at dksX1_frost_1 15 rfl rfl)
theorem dX1_frost_40 : decode cX1_frost 40 = .ok (.iload_n 1, 1) := dk_27 (dk_at dksX1_frost_1 18 rfl rfl)
theorem dX1_frost_41 : decode cX1_frost 41 = .ok (.iload_n 2, 1) := dk_28 (dk_at dksX1_frost_1 19 rfl rfl)
theorem dX1_frost_42 : decode cX1_frost 42 = .ok (.invokevirtual 120, 3) := dk_182 0 120 (dk_at dksX1_frost_1 20 rfl rfl)
theorem dX1_frost_45 : decode cX1_frost 45 = .ok (.ifCond .ne 22, 3) := dk_154 0 22 (dk_at dksX1_frost_2 0 rfl rfl)
theorem dX1_frost_48 : decode cX1_frost 48 = .ok (.aload_n 0, 1) := dk_42 (dk_at dksX1_frost_2 3 rfl rfl)
theorem dX1_frost_49 : decode cX1_frost 49 = .ok (.getfield 10, 3) := dk_180 0 10 (dk_at dksX1_frost_2 4 rfl rfl)
theorem dX1_frost_52 : decode cX1_frost 52 = .ok (.getfield 124, 3) := dk_180 0 124 (dk_at dksX1_frost_2 7 rfl rfl)
theorem dX1_frost_55 : decode cX1_frost 55 = .ok (.invokevirtual 128, 3) := dk_182 0 128 (dk_at dksX1_frost_2 10 rfl rfl)
theorem dX1_frost_58 : decode cX1_frost 58 = .ok (.bipush 6, 2) := dk_16 6 (dk_at dksX1_frost_2 13 rfl rfl)
theorem dX1_frost_60 : decode cX1_frost 60 = .ok (.if_icmp .ge 7, 3) := dk_162 0 7 (dk_at dksX1_frost_2 15 rfl rfl)
theorem dX1_frost_63 : decode cX1_frost 63 = .ok (.iconst 1, 1) := dk_4 (dk_at dksX1_frost_2 18 rfl rfl)
theorem dX1_frost_64 : decode cX1_frost 64 = .ok (.goto 4, 3) := dk_167 0 4 (dk_at dksX1_frost_2 19 rfl rfl)
theorem dX1_frost_67 : decode cX1_frost 67 = .ok (.iconst 0, 1) := dk_3 (dk_at dksX1_frost_2 22 rfl rfl)
theorem dX1_frost_68 : decode cX1_frost 68 = .ok (.invokestatic 82, 3) := dk_184 0 82 (dk_at dksX1_frost_3 0 rfl rfl)
theorem dX1_frost_71 : decode cX1_frost 71 = .ok (.aload_n 0, 1) := dk_42 (dk_at dksX1_frost_3 3 rfl rfl)
theorem dX1_frost_72 : decode cX1_frost 72 = .ok (.invokevirtual 88, 3) := dk_182 0 88 (dk_at dksX1_frost_3 4 rfl rfl)
theorem dX1_frost_75 : decode cX1_frost 75 = .ok (.aload_n 0, 1) := dk_42 (dk_at dksX1_frost_3 7 rfl rfl)
theorem dX1_frost_76 : decode cX1_frost 76 = .ok (.getfield 10, 3) := dk_180 0 10 (dk_at dksX1_frost_3 8 rfl rfl)
theorem dX1_frost_79 : decode cX1_frost 79 = .ok (.getfield 124, 3) := dk_180 0 124 (dk_at dksX1_frost_3 11 rfl rfl)
theorem dX1_frost_82 : decode cX1_frost 82 = .ok (.iload_n 1, 1) := dk_27 (dk_at dksX1_frost_3 14 rfl rfl)
theorem dX1_frost_83 : decode cX1_frost 83 = .ok (.invokestatic 131, 3) := dk_184 0 131 (dk_at dksX1_frost_3 15 rfl rfl)
theorem dX1_frost_86 : decode cX1_frost 86 = .ok (.iload_n 2, 1) := dk_28 (dk_at dksX1_frost_3 18 rfl rfl)
theorem dX1_frost_87 : decode cX1_frost 87 = .ok (.invokestatic 131, 3) := dk_184 0 131 (dk_at dksX1_frost_3 19 rfl rfl)
theorem dX1_frost_90 : decode cX1_frost 90 = .ok (.invokevirtual 137, 3) := dk_182 0 137 (dk_at dksX1_frost_4 0 rfl rfl)
theorem dX1_frost_93 : decode cX1_frost 93 = .ok (.pop, 1) := dk_87 (dk_at dksX1_frost_4 3 rfl rfl)
theorem dX1_frost_94 : decode cX1_frost 94 = .ok (.aload_n 0, 1) := dk_42 (dk_at dksX1_frost_4 4 rfl rfl)
theorem dX1_frost_95 : decode cX1_frost 95 = .ok (.getfield 10, 3) := dk_180 0 10 (dk_at dksX1_frost_4 5 rfl rfl)
theorem dX1_frost_98 : decode cX1_frost 98 = .ok (.invokevirtual 141, 3) := dk_182 0 141 (dk_at dksX1_frost_4 8 rfl rfl)
theorem dX1_frost_101 : decode cX1_frost 101 = .ok (.aload_n 0, 1) := dk_42 (dk_at dksX1_frost_4 11 rfl rfl)
theorem dX1_frost_102 : decode cX1_frost 102 = .ok (.getfield 10, 3) := dk_180 0 10 (dk_at dksX1_frost_4 12 rfl rfl)
theorem dX1_frost_105 : decode cX1_frost 105 = .ok (.getfield 124, 3) := dk_180 0 124 (dk_at dksX1_frost_4 15 rfl rfl)
theorem dX1_frost_108 : decode cX1_frost 108 = .ok (.invokevirtual 128, 3) := dk_182 0 128 (dk_at dksX1_frost_4 18 rfl rfl)
theorem dX1_frost_111 : decode cX1_frost 111 = .ok (.ireturn, 1) := dk_172 (dk_at dksX1_frost_4 21 rfl rfl)
abbrev cX1_thaw : ByteArray := prog_1_method_15_code
def yX1_thaw : MethodName := ⟨RX1, "thaw", "(I)I"⟩
def dkwX1_thaw_2 : List UInt8 := [182, 0, 141, 28, 27, 100, 4, 96, 172]
abbrev dktX1_thaw_2 : List UInt8 := dkwX1_thaw_2 ++ []
def dkwX1_thaw_1 : List UInt8 := [180, 0, 10, 180, 0, 124, 27, 184, 0, 131, 182, 0, 147, 192, 0, 132, 182, 0, 150, 61, 42, 180, 0, 10]
abbrev dktX1_thaw_1 : List UInt8 := dkwX1_thaw_1 ++ dktX1_thaw_2
def dkwX1_thaw_0 : List UInt8 := [42, 180, 0, 10, 180, 0, 124, 27, 184, 0, 131, 182, 0, 144, 184, 0, 85, 42, 182, 0, 88, 42]
abbrev dktX1_thaw_0 : List UInt8 := dkwX1_thaw_0 ++ dktX1_thaw_1
theorem dksX1_thaw_0 : cX1_thaw.data.toList.drop 0 = dktX1_thaw_0 := by decide +kernel
theorem dksX1_thaw_1 : cX1_thaw.data.toList.drop 22 = dktX1_thaw_1 := dk_seg dksX1_thaw_0 22 rfl rfl
theorem dksX1_thaw_2 : cX1_thaw.data.toList.drop 46 = dktX1_thaw_2 := dk_seg dksX1_thaw_1 24 rfl rfl
theorem dX1_thaw_0 : decode cX1_thaw 0 = .ok (.aload_n 0, 1) := dk_42 (dk_at dksX1_thaw_0 0 rfl rfl)
theorem dX1_thaw_1 : decode cX1_thaw 1 = .ok (.getfield 10, 3) := dk_180 0 10 (dk_at dksX1_thaw_0 1 rfl rfl)
theorem dX1_thaw_4 : decode cX1_thaw 4 = .ok (.getfield 124, 3) := dk_180 0 124 (dk_at dksX1_thaw_0 4 rfl rfl)
theorem dX1_thaw_7 : decode cX1_thaw 7 = .ok (.iload_n 1, 1) := dk_27 (dk_at dksX1_thaw_0 7 rfl rfl)
theorem dX1_thaw_8 : decode cX1_thaw 8 = .ok (.invokestatic 131, 3) := dk_184 0 131 (dk_at dksX1_thaw_0 8 rfl rfl)
theorem dX1_thaw_11 : decode cX1_thaw 11 = .ok (.invokevirtual 144, 3) := dk_182 0 144 (dk_at dksX1_thaw_0 11 rfl rfl)
theorem dX1_thaw_14 : decode cX1_thaw 14 = .ok (.invokestatic 85, 3) := dk_184 0 85 (dk_at dksX1_thaw_0 14 rfl rfl)
theorem dX1_thaw_17 : decode cX1_thaw 17 = .ok (.aload_n 0, 1) := dk_42 (dk_at dksX1_thaw_0 17 rfl rfl)
theorem dX1_thaw_18 : decode cX1_thaw 18 = .ok (.invokevirtual 88, 3) := dk_182 0 88 (dk_at dksX1_thaw_0 18 rfl rfl)
theorem dX1_thaw_21 : decode cX1_thaw 21 = .ok (.aload_n 0, 1) := dk_42 (dk_at dksX1_thaw_0 21 rfl rfl)
theorem dX1_thaw_22 : decode cX1_thaw 22 = .ok (.getfield 10, 3) := dk_180 0 10 (dk_at dksX1_thaw_1 0 rfl rfl)
theorem dX1_thaw_25 : decode cX1_thaw 25 = .ok (.getfield 124, 3) := dk_180 0 124 (dk_at dksX1_thaw_1 3 rfl rfl)
theorem dX1_thaw_28 : decode cX1_thaw 28 = .ok (.iload_n 1, 1) := dk_27 (dk_at dksX1_thaw_1 6 rfl rfl)
theorem dX1_thaw_29 : decode cX1_thaw 29 = .ok (.invokestatic 131, 3) := dk_184 0 131 (dk_at dksX1_thaw_1 7 rfl rfl)
theorem dX1_thaw_32 : decode cX1_thaw 32 = .ok (.invokevirtual 147, 3) := dk_182 0 147 (dk_at dksX1_thaw_1 10 rfl rfl)
theorem dX1_thaw_35 : decode cX1_thaw 35 = .ok (.checkcast 132, 3) := dk_192 0 132 (dk_at dksX1_thaw_1 13 rfl rfl)
theorem dX1_thaw_38 : decode cX1_thaw 38 = .ok (.invokevirtual 150, 3) := dk_182 0 150 (dk_at dksX1_thaw_1 16 rfl rfl)
theorem dX1_thaw_41 : decode cX1_thaw 41 = .ok (.istore_n 2, 1) := dk_61 (dk_at dksX1_thaw_1 19 rfl rfl)
theorem dX1_thaw_42 : decode cX1_thaw 42 = .ok (.aload_n 0, 1) := dk_42 (dk_at dksX1_thaw_1 20 rfl rfl)
theorem dX1_thaw_43 : decode cX1_thaw 43 = .ok (.getfield 10, 3) := dk_180 0 10 (dk_at dksX1_thaw_1 21 rfl rfl)
theorem dX1_thaw_46 : decode cX1_thaw 46 = .ok (.invokevirtual 141, 3) := dk_182 0 141 (dk_at dksX1_thaw_2 0 rfl rfl)
theorem dX1_thaw_49 : decode cX1_thaw 49 = .ok (.iload_n 2, 1) := dk_28 (dk_at dksX1_thaw_2 3 rfl rfl)
theorem dX1_thaw_50 : decode cX1_thaw 50 = .ok (.iload_n 1, 1) := dk_27 (dk_at dksX1_thaw_2 4 rfl rfl)
theorem dX1_thaw_51 : decode cX1_thaw 51 = .ok (.isub, 1) := dk_100 (dk_at dksX1_thaw_2 5 rfl rfl)
theorem dX1_thaw_52 : decode cX1_thaw 52 = .ok (.iconst 1, 1) := dk_4 (dk_at dksX1_thaw_2 6 rfl rfl)
theorem dX1_thaw_53 : decode cX1_thaw 53 = .ok (.iadd, 1) := dk_96 (dk_at dksX1_thaw_2 7 rfl rfl)
theorem dX1_thaw_54 : decode cX1_thaw 54 = .ok (.ireturn, 1) := dk_172 (dk_at dksX1_thaw_2 8 rfl rfl)
abbrev cX1_plan : ByteArray := prog_1_method_16_code
def yX1_plan : MethodName := ⟨RX1, "plan", "(III)I"⟩
def dkwX1_plan_3 : List UInt8 := [27, 28, 29, 182, 0, 163, 42, 180, 0, 10, 180, 0, 156, 182, 0, 160, 172]
abbrev dktX1_plan_3 : List UInt8 := dkwX1_plan_3 ++ []
def dkwX1_plan_2 : List UInt8 := [182, 0, 160, 16, 16, 162, 0, 7, 4, 167, 0, 4, 3, 184, 0, 82, 42, 182, 0, 88, 42, 180, 0, 10]
abbrev dktX1_plan_2 : List UInt8 := dkwX1_plan_2 ++ dktX1_plan_3
def dkwX1_plan_1 : List UInt8 := [29, 184, 0, 64, 153, 0, 7, 4, 167, 0, 4, 3, 184, 0, 85, 42, 180, 0, 10, 180, 0, 156]
abbrev dktX1_plan_1 : List UInt8 := dkwX1_plan_1 ++ dktX1_plan_2
def dkwX1_plan_0 : List UInt8 := [27, 42, 180, 0, 10, 180, 0, 116, 17, 3, 231, 184, 0, 60, 153, 0, 21, 28, 184, 0, 153, 153, 0, 14]
abbrev dktX1_plan_0 : List UInt8 := dkwX1_plan_0 ++ dktX1_plan_1
theorem dksX1_plan_0 : cX1_plan.data.toList.drop 0 = dktX1_plan_0 := by decide +kernel
theorem dksX1_plan_1 : cX1_plan.data.toList.drop 24 = dktX1_plan_1 := dk_seg dksX1_plan_0 24 rfl rfl
theorem dksX1_plan_2 : cX1_plan.data.toList.drop 46 = dktX1_plan_2 := dk_seg dksX1_plan_1 22 rfl rfl
theorem dksX1_plan_3 : cX1_plan.data.toList.drop 70 = dktX1_plan_3 := dk_seg dksX1_plan_2 24 rfl rfl
theorem dX1_plan_0 : decode cX1_plan 0 = .ok (.iload_n 1, 1) := dk_27 (dk_at dksX1_plan_0 0 rfl rfl)
theorem dX1_plan_1 : decode cX1_plan 1 = .ok (.aload_n 0, 1) := dk_42 (dk_at dksX1_plan_0 1 rfl rfl)
theorem dX1_plan_2 : decode cX1_plan 2 = .ok (.getfield 10, 3) := dk_180 0 10 (dk_at dksX1_plan_0 2 rfl rfl)
theorem dX1_plan_5 : decode cX1_plan 5 = .ok (.getfield 116, 3) := dk_180 0 116 (dk_at dksX1_plan_0 5 rfl rfl)
theorem dX1_plan_8 : decode cX1_plan 8 = .ok (.sipush 999, 3) := dk_17 3 231 (dk_at dksX1_plan_0 8 rfl rfl)
theorem dX1_plan_11 : decode cX1_plan 11 = .ok (.invokestatic 60, 3) := dk_184 0 60 (dk_at dksX1_plan_0 11 rfl rfl)
theorem dX1_plan_14 : decode cX1_plan 14 = .ok (.ifCond .eq 21, 3) := dk_153 0 21 (dk_at dksX1_plan_0 14 rfl rfl)
theorem dX1_plan_17 : decode cX1_plan 17 = .ok (.iload_n 2, 1) := dk_28 (dk_at dksX1_plan_0 17 rfl rfl)
theorem dX1_plan_18 : decode cX1_plan 18 = .ok (.invokestatic 153, 3) := dk_184 0 153 (dk_at dksX1_plan_0 18 rfl rfl)
theorem dX1_plan_21 : decode cX1_plan 21 = .ok (.ifCond .eq 14, 3) := dk_153 0 14 (dk_at dksX1_plan_0 21 rfl rfl)
theorem dX1_plan_24 : decode cX1_plan 24 = .ok (.iload_n 3, 1) := dk_29 (dk_at dksX1_plan_1 0 rfl rfl)
theorem dX1_plan_25 : decode cX1_plan 25 = .ok (.invokestatic 64, 3) := dk_184 0 64 (dk_at dksX1_plan_1 1 rfl rfl)
theorem dX1_plan_28 : decode cX1_plan 28 = .ok (.ifCond .eq 7, 3) := dk_153 0 7 (dk_at dksX1_plan_1 4 rfl rfl)
theorem dX1_plan_31 : decode cX1_plan 31 = .ok (.iconst 1, 1) := dk_4 (dk_at dksX1_plan_1 7 rfl rfl)
theorem dX1_plan_32 : decode cX1_plan 32 = .ok (.goto 4, 3) := dk_167 0 4 (dk_at dksX1_plan_1 8 rfl rfl)
theorem dX1_plan_35 : decode cX1_plan 35 = .ok (.iconst 0, 1) := dk_3 (dk_at dksX1_plan_1 11 rfl rfl)
theorem dX1_plan_36 : decode cX1_plan 36 = .ok (.invokestatic 85, 3) := dk_184 0 85 (dk_at dksX1_plan_1 12 rfl rfl)
theorem dX1_plan_39 : decode cX1_plan 39 = .ok (.aload_n 0, 1) := dk_42 (dk_at dksX1_plan_1 15 rfl rfl)
theorem dX1_plan_40 : decode cX1_plan 40 = .ok (.getfield 10, 3) := dk_180 0 10 (dk_at dksX1_plan_1 16 rfl rfl)
theorem dX1_plan_43 : decode cX1_plan 43 = .ok (.getfield 156, 3) := dk_180 0 156 (dk_at dksX1_plan_1 19 rfl rfl)
theorem dX1_plan_46 : decode cX1_plan 46 = .ok (.invokevirtual 160, 3) := dk_182 0 160 (dk_at dksX1_plan_2 0 rfl rfl)
theorem dX1_plan_49 : decode cX1_plan 49 = .ok (.bipush 16, 2) := dk_16 16 (dk_at dksX1_plan_2 3 rfl rfl)
theorem dX1_plan_51 : decode cX1_plan 51 = .ok (.if_icmp .ge 7, 3) := dk_162 0 7 (dk_at dksX1_plan_2 5 rfl rfl)
theorem dX1_plan_54 : decode cX1_plan 54 = .ok (.iconst 1, 1) := dk_4 (dk_at dksX1_plan_2 8 rfl rfl)
theorem dX1_plan_55 : decode cX1_plan 55 = .ok (.goto 4, 3) := dk_167 0 4 (dk_at dksX1_plan_2 9 rfl rfl)
theorem dX1_plan_58 : decode cX1_plan 58 = .ok (.iconst 0, 1) := dk_3 (dk_at dksX1_plan_2 12 rfl rfl)
theorem dX1_plan_59 : decode cX1_plan 59 = .ok (.invokestatic 82, 3) := dk_184 0 82 (dk_at dksX1_plan_2 13 rfl rfl)
theorem dX1_plan_62 : decode cX1_plan 62 = .ok (.aload_n 0, 1) := dk_42 (dk_at dksX1_plan_2 16 rfl rfl)
theorem dX1_plan_63 : decode cX1_plan 63 = .ok (.invokevirtual 88, 3) := dk_182 0 88 (dk_at dksX1_plan_2 17 rfl rfl)
theorem dX1_plan_66 : decode cX1_plan 66 = .ok (.aload_n 0, 1) := dk_42 (dk_at dksX1_plan_2 20 rfl rfl)
theorem dX1_plan_67 : decode cX1_plan 67 = .ok (.getfield 10, 3) := dk_180 0 10 (dk_at dksX1_plan_2 21 rfl rfl)
theorem dX1_plan_70 : decode cX1_plan 70 = .ok (.iload_n 1, 1) := dk_27 (dk_at dksX1_plan_3 0 rfl rfl)
theorem dX1_plan_71 : decode cX1_plan 71 = .ok (.iload_n 2, 1) := dk_28 (dk_at dksX1_plan_3 1 rfl rfl)
theorem dX1_plan_72 : decode cX1_plan 72 = .ok (.iload_n 3, 1) := dk_29 (dk_at dksX1_plan_3 2 rfl rfl)
theorem dX1_plan_73 : decode cX1_plan 73 = .ok (.invokevirtual 163, 3) := dk_182 0 163 (dk_at dksX1_plan_3 3 rfl rfl)
theorem dX1_plan_76 : decode cX1_plan 76 = .ok (.aload_n 0, 1) := dk_42 (dk_at dksX1_plan_3 6 rfl rfl)
theorem dX1_plan_77 : decode cX1_plan 77 = .ok (.getfield 10, 3) := dk_180 0 10 (dk_at dksX1_plan_3 7 rfl rfl)
theorem dX1_plan_80 : decode cX1_plan 80 = .ok (.getfield 156, 3) := dk_180 0 156 (dk_at dksX1_plan_3 10 rfl rfl)
theorem dX1_plan_83 : decode cX1_plan 83 = .ok (.invokevirtual 160, 3) := dk_182 0 160 (dk_at dksX1_plan_3 13 rfl rfl)
theorem dX1_plan_86 : decode cX1_plan 86 = .ok (.ireturn, 1) := dk_172 (dk_at dksX1_plan_3 16 rfl rfl)
abbrev cX1_areChildren : ByteArray := prog_1_method_8_code
def yX1_areChildren : MethodName := ⟨RX1, "areChildren", "(I)Z"⟩
def dkwX1_areChildren_0 : List UInt8 := [26, 4, 16, 99, 184, 0, 60, 172]
abbrev dktX1_areChildren_0 : List UInt8 := dkwX1_areChildren_0 ++ []
theorem dksX1_areChildren_0 : cX1_areChildren.data.toList.drop 0 = dktX1_areChildren_0 := by decide +kernel
theorem dX1_areChildren_0 : decode cX1_areChildren 0 = .ok (.iload_n 0, 1) := dk_26 (dk_at dksX1_areChildren_0 0 rfl rfl)
theorem dX1_areChildren_1 : decode cX1_areChildren 1 = .ok (.iconst 1, 1) := dk_4 (dk_at dksX1_areChildren_0 1 rfl rfl)
theorem dX1_areChildren_2 : decode cX1_areChildren 2 = .ok (.bipush 99, 2) := dk_16 99 (dk_at dksX1_areChildren_0 2 rfl rfl)
theorem dX1_areChildren_4 : decode cX1_areChildren 4 = .ok (.invokestatic 60, 3) := dk_184 0 60 (dk_at dksX1_areChildren_0 4 rfl rfl)
theorem dX1_areChildren_7 : decode cX1_areChildren 7 = .ok (.ireturn, 1) := dk_172 (dk_at dksX1_areChildren_0 7 rfl rfl)
abbrev cX1_callOff : ByteArray := prog_1_method_17_code
def yX1_callOff : MethodName := ⟨RX1, "callOff", "(I)I"⟩
def dkwX1_callOff_5 : List UInt8 := [167, 255, 227, 28, 172]
abbrev dktX1_callOff_5 : List UInt8 := dkwX1_callOff_5 ++ []
def dkwX1_callOff_4 : List UInt8 := [162, 0, 26, 42, 180, 0, 10, 180, 0, 156, 45, 21, 4, 182, 0, 187, 182, 0, 190, 87, 132, 4, 1]
abbrev dktX1_callOff_4 : List UInt8 := dkwX1_callOff_4 ++ dktX1_callOff_5
def dkwX1_callOff_3 : List UInt8 := [182, 0, 47, 87, 28, 25, 5, 180, 0, 184, 96, 61, 167, 255, 210, 3, 54, 4, 21, 4, 45, 182, 0, 35]
abbrev dktX1_callOff_3 : List UInt8 := dkwX1_callOff_3 ++ dktX1_callOff_4
def dkwX1_callOff_2 : List UInt8 := [25, 4, 185, 0, 177, 1, 0, 192, 0, 181, 58, 5, 25, 5, 180, 0, 183, 27, 160, 0, 18, 45, 25, 5]
abbrev dktX1_callOff_2 : List UInt8 := dkwX1_callOff_2 ++ dktX1_callOff_3
def dkwX1_callOff_1 : List UInt8 := [78, 42, 180, 0, 10, 180, 0, 156, 182, 0, 167, 58, 4, 25, 4, 185, 0, 171, 1, 0, 153, 0, 42]
abbrev dktX1_callOff_1 : List UInt8 := dkwX1_callOff_1 ++ dktX1_callOff_2
def dkwX1_callOff_0 : List UInt8 := [27, 3, 17, 3, 231, 184, 0, 60, 184, 0, 85, 42, 182, 0, 88, 3, 61, 187, 0, 19, 89, 183, 0, 21]
abbrev dktX1_callOff_0 : List UInt8 := dkwX1_callOff_0 ++ dktX1_callOff_1
theorem dksX1_callOff_0 : cX1_callOff.data.toList.drop 0 = dktX1_callOff_0 := by decide +kernel
theorem dksX1_callOff_1 : cX1_callOff.data.toList.drop 24 = dktX1_callOff_1 := dk_seg dksX1_callOff_0 24 rfl rfl
theorem dksX1_callOff_2 : cX1_callOff.data.toList.drop 47 = dktX1_callOff_2 := dk_seg dksX1_callOff_1 23 rfl rfl
theorem dksX1_callOff_3 : cX1_callOff.data.toList.drop 71 = dktX1_callOff_3 := dk_seg dksX1_callOff_2 24 rfl rfl
theorem dksX1_callOff_4 : cX1_callOff.data.toList.drop 95 = dktX1_callOff_4 := dk_seg dksX1_callOff_3 24 rfl rfl
theorem dksX1_callOff_5 : cX1_callOff.data.toList.drop 118 = dktX1_callOff_5 := dk_seg dksX1_callOff_4 23 rfl rfl
theorem dX1_callOff_0 : decode cX1_callOff 0 = .ok (.iload_n 1, 1) := dk_27 (dk_at dksX1_callOff_0 0 rfl rfl)
theorem dX1_callOff_1 : decode cX1_callOff 1 = .ok (.iconst 0, 1) := dk_3 (dk_at dksX1_callOff_0 1 rfl rfl)
theorem dX1_callOff_2 : decode cX1_callOff 2 = .ok (.sipush 999, 3) := dk_17 3 231 (dk_at dksX1_callOff_0 2 rfl rfl)
theorem dX1_callOff_5 : decode cX1_callOff 5 = .ok (.invokestatic 60, 3) := dk_184 0 60 (dk_at dksX1_callOff_0 5 rfl rfl)
theorem dX1_callOff_8 : decode cX1_callOff 8 = .ok (.invokestatic 85, 3) := dk_184 0 85 (dk_at dksX1_callOff_0 8 rfl rfl)
theorem dX1_callOff_11 : decode cX1_callOff 11 = .ok (.aload_n 0, 1) := dk_42 (dk_at dksX1_callOff_0 11 rfl rfl)
theorem dX1_callOff_12 : decode cX1_callOff 12 = .ok (.invokevirtual 88, 3) := dk_182 0 88 (dk_at dksX1_callOff_0 12 rfl rfl)
theorem dX1_callOff_15 : decode cX1_callOff 15 = .ok (.iconst 0, 1) := dk_3 (dk_at dksX1_callOff_0 15 rfl rfl)
theorem dX1_callOff_16 : decode cX1_callOff 16 = .ok (.istore_n 2, 1) := dk_61 (dk_at dksX1_callOff_0 16 rfl rfl)
theorem dX1_callOff_17 : decode cX1_callOff 17 = .ok (.new 19, 3) := dk_187 0 19 (dk_at dksX1_callOff_0 17 rfl rfl)
theorem dX1_callOff_20 : decode cX1_callOff 20 = .ok (.dup, 1) := dk_89 (dk_at dksX1_callOff_0 20 rfl rfl)
theorem dX1_callOff_21 : decode cX1_callOff 21 = .ok (.invokespecial 21, 3) := dk_183 0 21 (dk_at dksX1_callOff_0 21 rfl rfl)
theorem dX1_callOff_24 : decode cX1_callOff 24 = .ok (.astore_n 3, 1) := dk_78 (dk_at dksX1_callOff_1 0 rfl rfl)
theorem dX1_callOff_25 : decode cX1_callOff 25 = .ok (.aload_n 0, 1) := dk_42 (dk_at dksX1_callOff_1 1 rfl rfl)
theorem dX1_callOff_26 : decode cX1_callOff 26 = .ok (.getfield 10, 3) := dk_180 0 10 (dk_at dksX1_callOff_1 2 rfl rfl)
theorem dX1_callOff_29 : decode cX1_callOff 29 = .ok (.getfield 156, 3) := dk_180 0 156 (dk_at dksX1_callOff_1 5 rfl rfl)
theorem dX1_callOff_32 : decode cX1_callOff 32 = .ok (.invokevirtual 167, 3) := dk_182 0 167 (dk_at dksX1_callOff_1 8 rfl rfl)
theorem dX1_callOff_35 : decode cX1_callOff 35 = .ok (.astore 4, 2) := dk_58 4 (dk_at dksX1_callOff_1 11 rfl rfl)
theorem dX1_callOff_37 : decode cX1_callOff 37 = .ok (.aload 4, 2) := dk_25 4 (dk_at dksX1_callOff_1 13 rfl rfl)
theorem dX1_callOff_39 : decode cX1_callOff 39 = .ok (.invokeinterface 171 1, 5) := by decide +kernel
theorem dX1_callOff_44 : decode cX1_callOff 44 = .ok (.ifCond .eq 42, 3) := dk_153 0 42 (dk_at dksX1_callOff_1 20 rfl rfl)
theorem dX1_callOff_47 : decode cX1_callOff 47 = .ok (.aload 4, 2) := dk_25 4 (dk_at dksX1_callOff_2 0 rfl rfl)
theorem dX1_callOff_49 : decode cX1_callOff 49 = .ok (.invokeinterface 177 1, 5) := by decide +kernel
theorem dX1_callOff_54 : decode cX1_callOff 54 = .ok (.checkcast 181, 3) := dk_192 0 181 (dk_at dksX1_callOff_2 7 rfl rfl)
theorem dX1_callOff_57 : decode cX1_callOff 57 = .ok (.astore 5, 2) := dk_58 5 (dk_at dksX1_callOff_2 10 rfl rfl)
theorem dX1_callOff_59 : decode cX1_callOff 59 = .ok (.aload 5, 2) := dk_25 5 (dk_at dksX1_callOff_2 12 rfl rfl)
theorem dX1_callOff_61 : decode cX1_callOff 61 = .ok (.getfield 183, 3) := dk_180 0 183 (dk_at dksX1_callOff_2 14 rfl rfl)
theorem dX1_callOff_64 : decode cX1_callOff 64 = .ok (.iload_n 1, 1) := dk_27 (dk_at dksX1_callOff_2 17 rfl rfl)
theorem dX1_callOff_65 : decode cX1_callOff 65 = .ok (.if_icmp .ne 18, 3) := dk_160 0 18 (dk_at dksX1_callOff_2 18 rfl rfl)
theorem dX1_callOff_68 : decode cX1_callOff 68 = .ok (.aload_n 3, 1) := dk_45 (dk_at dksX1_callOff_2 21 rfl rfl)
theorem dX1_callOff_69 : decode cX1_callOff 69 = .ok (.aload 5, 2) := dk_25 5 (dk_at dksX1_callOff_2 22 rfl rfl)
theorem dX1_callOff_71 : decode cX1_callOff 71 = .ok (.invokevirtual 47, 3) := dk_182 0 47 (dk_at dksX1_callOff_3 0 rfl rfl)
theorem dX1_callOff_74 : decode cX1_callOff 74 = .ok (.pop, 1) := dk_87 (dk_at dksX1_callOff_3 3 rfl rfl)
theorem dX1_callOff_75 : decode cX1_callOff 75 = .ok (.iload_n 2, 1) := dk_28 (dk_at dksX1_callOff_3 4 rfl rfl)
theorem dX1_callOff_76 : decode cX1_callOff 76 = .ok (.aload 5, 2) := dk_25 5 (dk_at dksX1_callOff_3 5 rfl rfl)
theorem dX1_callOff_78 : decode cX1_callOff 78 = .ok (.getfield 184, 3) := dk_180 0 184 (dk_at dksX1_callOff_3 7 rfl rfl)
theorem dX1_callOff_81 : decode cX1_callOff 81 = .ok (.iadd, 1) := dk_96 (dk_at dksX1_callOff_3 10 rfl rfl)
theorem dX1_callOff_82 : decode cX1_callOff 82 = .ok (.istore_n 2, 1) := dk_61 (dk_at dksX1_callOff_3 11 rfl rfl)
theorem dX1_callOff_83 : decode cX1_callOff 83 = .ok (.goto (-46), 3) := dk_167 255 210 (dk_at dksX1_callOff_3 12 rfl rfl)
theorem dX1_callOff_86 : decode cX1_callOff 86 = .ok (.iconst 0, 1) := dk_3 (dk_at dksX1_callOff_3 15 rfl rfl)
theorem dX1_callOff_87 : decode cX1_callOff 87 = .ok (.istore 4, 2) := dk_54 4 (dk_at dksX1_callOff_3 16 rfl rfl)
theorem dX1_callOff_89 : decode cX1_callOff 89 = .ok (.iload 4, 2) := dk_21 4 (dk_at dksX1_callOff_3 18 rfl rfl)
theorem dX1_callOff_91 : decode cX1_callOff 91 = .ok (.aload_n 3, 1) := dk_45 (dk_at dksX1_callOff_3 20 rfl rfl)
theorem dX1_callOff_92 : decode cX1_callOff 92 = .ok (.invokevirtual 35, 3) := dk_182 0 35 (dk_at dksX1_callOff_3 21 rfl rfl)
theorem dX1_callOff_95 : decode cX1_callOff 95 = .ok (.if_icmp .ge 26, 3) := dk_162 0 26 (dk_at dksX1_callOff_4 0 rfl rfl)
theorem dX1_callOff_98 : decode cX1_callOff 98 = .ok (.aload_n 0, 1) := dk_42 (dk_at dksX1_callOff_4 3 rfl rfl)
theorem dX1_callOff_99 : decode cX1_callOff 99 = .ok (.getfield 10, 3) := dk_180 0 10 (dk_at dksX1_callOff_4 4 rfl rfl)
theorem dX1_callOff_102 : decode cX1_callOff 102 = .ok (.getfield 156, 3) := dk_180 0 156 (dk_at dksX1_callOff_4 7 rfl rfl)
theorem dX1_callOff_105 : decode cX1_callOff 105 = .ok (.aload_n 3, 1) := dk_45 (dk_at dksX1_callOff_4 10 rfl rfl)
theorem dX1_callOff_106 : decode cX1_callOff 106 = .ok (.iload 4, 2) := dk_21 4 (dk_at dksX1_callOff_4 11 rfl rfl)
theorem dX1_callOff_108 : decode cX1_callOff 108 = .ok (.invokevirtual 187, 3) := dk_182 0 187 (dk_at dksX1_callOff_4 13 rfl rfl)
theorem dX1_callOff_111 : decode cX1_callOff 111 = .ok (.invokevirtual 190, 3) := dk_182 0 190 (dk_at dksX1_callOff_4 16 rfl rfl)
theorem dX1_callOff_114 : decode cX1_callOff 114 = .ok (.pop, 1) := dk_87 (dk_at dksX1_callOff_4 19 rfl rfl)
theorem dX1_callOff_115 : decode cX1_callOff 115 = .ok (.iinc 4 1, 3) := dk_132 4 1 (dk_at dksX1_callOff_4 20 rfl rfl)
theorem dX1_callOff_118 : decode cX1_callOff 118 = .ok (.goto (-29), 3) := dk_167 255 227 (dk_at dksX1_callOff_5 0 rfl rfl)
theorem dX1_callOff_121 : decode cX1_callOff 121 = .ok (.iload_n 2, 1) := dk_28 (dk_at dksX1_callOff_5 3 rfl rfl)
theorem dX1_callOff_122 : decode cX1_callOff 122 = .ok (.ireturn, 1) := dk_172 (dk_at dksX1_callOff_5 4 rfl rfl)
abbrev cX1_set : ByteArray := prog_1_method_19_code
def yX1_set : MethodName := ⟨RX1, "set", "(II)I"⟩
def dkwX1_set_2 : List UInt8 := [29, 172]
abbrev dktX1_set_2 : List UInt8 := dkwX1_set_2 ++ []
def dkwX1_set_1 : List UInt8 := [42, 182, 0, 88, 42, 180, 0, 10, 180, 0, 202, 27, 46, 62, 42, 180, 0, 10, 180, 0, 202, 27, 28, 79]
abbrev dktX1_set_1 : List UInt8 := dkwX1_set_1 ++ dktX1_set_2
def dkwX1_set_0 : List UInt8 := [27, 184, 0, 192, 184, 0, 68, 28, 178, 0, 195, 27, 46, 178, 0, 199, 27, 46, 184, 0, 60, 184, 0, 85]
abbrev dktX1_set_0 : List UInt8 := dkwX1_set_0 ++ dktX1_set_1
theorem dksX1_set_0 : cX1_set.data.toList.drop 0 = dktX1_set_0 := by decide +kernel
theorem dksX1_set_1 : cX1_set.data.toList.drop 24 = dktX1_set_1 := dk_seg dksX1_set_0 24 rfl rfl
theorem dksX1_set_2 : cX1_set.data.toList.drop 48 = dktX1_set_2 := dk_seg dksX1_set_1 24 rfl rfl
theorem dX1_set_0 : decode cX1_set 0 = .ok (.iload_n 1, 1) := dk_27 (dk_at dksX1_set_0 0 rfl rfl)
theorem dX1_set_1 : decode cX1_set 1 = .ok (.invokestatic 192, 3) := dk_184 0 192 (dk_at dksX1_set_0 1 rfl rfl)
theorem dX1_set_4 : decode cX1_set 4 = .ok (.invokestatic 68, 3) := dk_184 0 68 (dk_at dksX1_set_0 4 rfl rfl)
theorem dX1_set_7 : decode cX1_set 7 = .ok (.iload_n 2, 1) := dk_28 (dk_at dksX1_set_0 7 rfl rfl)
theorem dX1_set_8 : decode cX1_set 8 = .ok (.getstatic 195, 3) := dk_178 0 195 (dk_at dksX1_set_0 8 rfl rfl)
theorem dX1_set_11 : decode cX1_set 11 = .ok (.iload_n 1, 1) := dk_27 (dk_at dksX1_set_0 11 rfl rfl)
theorem dX1_set_12 : decode cX1_set 12 = .ok (.iaload, 1) := dk_46 (dk_at dksX1_set_0 12 rfl rfl)
theorem dX1_set_13 : decode cX1_set 13 = .ok (.getstatic 199, 3) := dk_178 0 199 (dk_at dksX1_set_0 13 rfl rfl)
theorem dX1_set_16 : decode cX1_set 16 = .ok (.iload_n 1, 1) := dk_27 (dk_at dksX1_set_0 16 rfl rfl)
theorem dX1_set_17 : decode cX1_set 17 = .ok (.iaload, 1) := dk_46 (dk_at dksX1_set_0 17 rfl rfl)
theorem dX1_set_18 : decode cX1_set 18 = .ok (.invokestatic 60, 3) := dk_184 0 60 (dk_at dksX1_set_0 18 rfl rfl)
theorem dX1_set_21 : decode cX1_set 21 = .ok (.invokestatic 85, 3) := dk_184 0 85 (dk_at dksX1_set_0 21 rfl rfl)
theorem dX1_set_24 : decode cX1_set 24 = .ok (.aload_n 0, 1) := dk_42 (dk_at dksX1_set_1 0 rfl rfl)
theorem dX1_set_25 : decode cX1_set 25 = .ok (.invokevirtual 88, 3) := dk_182 0 88 (dk_at dksX1_set_1 1 rfl rfl)
theorem dX1_set_28 : decode cX1_set 28 = .ok (.aload_n 0, 1) := dk_42 (dk_at dksX1_set_1 4 rfl rfl)
theorem dX1_set_29 : decode cX1_set 29 = .ok (.getfield 10, 3) := dk_180 0 10 (dk_at dksX1_set_1 5 rfl rfl)
theorem dX1_set_32 : decode cX1_set 32 = .ok (.getfield 202, 3) := dk_180 0 202 (dk_at dksX1_set_1 8 rfl rfl)
theorem dX1_set_35 : decode cX1_set 35 = .ok (.iload_n 1, 1) := dk_27 (dk_at dksX1_set_1 11 rfl rfl)
theorem dX1_set_36 : decode cX1_set 36 = .ok (.iaload, 1) := dk_46 (dk_at dksX1_set_1 12 rfl rfl)
theorem dX1_set_37 : decode cX1_set 37 = .ok (.istore_n 3, 1) := dk_62 (dk_at dksX1_set_1 13 rfl rfl)
theorem dX1_set_38 : decode cX1_set 38 = .ok (.aload_n 0, 1) := dk_42 (dk_at dksX1_set_1 14 rfl rfl)
theorem dX1_set_39 : decode cX1_set 39 = .ok (.getfield 10, 3) := dk_180 0 10 (dk_at dksX1_set_1 15 rfl rfl)
theorem dX1_set_42 : decode cX1_set 42 = .ok (.getfield 202, 3) := dk_180 0 202 (dk_at dksX1_set_1 18 rfl rfl)
theorem dX1_set_45 : decode cX1_set 45 = .ok (.iload_n 1, 1) := dk_27 (dk_at dksX1_set_1 21 rfl rfl)
theorem dX1_set_46 : decode cX1_set 46 = .ok (.iload_n 2, 1) := dk_28 (dk_at dksX1_set_1 22 rfl rfl)
theorem dX1_set_47 : decode cX1_set 47 = .ok (.iastore, 1) := dk_79 (dk_at dksX1_set_1 23 rfl rfl)
theorem dX1_set_48 : decode cX1_set 48 = .ok (.iload_n 3, 1) := dk_29 (dk_at dksX1_set_2 0 rfl rfl)
theorem dX1_set_49 : decode cX1_set 49 = .ok (.ireturn, 1) := dk_172 (dk_at dksX1_set_2 1 rfl rfl)
abbrev cX1_isSetting : ByteArray := prog_1_method_18_code
def yX1_isSetting : MethodName := ⟨RX1, "isSetting", "(I)Z"⟩
def dkwX1_isSetting_0 : List UInt8 := [26, 3, 7, 184, 0, 60, 172]
abbrev dktX1_isSetting_0 : List UInt8 := dkwX1_isSetting_0 ++ []
theorem dksX1_isSetting_0 : cX1_isSetting.data.toList.drop 0 = dktX1_isSetting_0 := by decide +kernel
theorem dX1_isSetting_0 : decode cX1_isSetting 0 = .ok (.iload_n 0, 1) := dk_26 (dk_at dksX1_isSetting_0 0 rfl rfl)
theorem dX1_isSetting_1 : decode cX1_isSetting 1 = .ok (.iconst 0, 1) := dk_3 (dk_at dksX1_isSetting_0 1 rfl rfl)
theorem dX1_isSetting_2 : decode cX1_isSetting 2 = .ok (.iconst 4, 1) := dk_7 (dk_at dksX1_isSetting_0 2 rfl rfl)
theorem dX1_isSetting_3 : decode cX1_isSetting 3 = .ok (.invokestatic 60, 3) := dk_184 0 60 (dk_at dksX1_isSetting_0 3 rfl rfl)
theorem dX1_isSetting_6 : decode cX1_isSetting 6 = .ok (.ireturn, 1) := dk_172 (dk_at dksX1_isSetting_0 6 rfl rfl)
abbrev cX1_pass : ByteArray := prog_1_method_20_code
def yX1_pass : MethodName := ⟨RX1, "pass", "(I)I"⟩
def dkwX1_pass_1 : List UInt8 := [163, 0, 7, 4, 167, 0, 4, 3, 184, 0, 82, 42, 182, 0, 88, 42, 180, 0, 10, 27, 182, 0, 205, 172]
abbrev dktX1_pass_1 : List UInt8 := dkwX1_pass_1 ++ []
def dkwX1_pass_0 : List UInt8 := [27, 4, 16, 60, 184, 0, 60, 184, 0, 85, 42, 180, 0, 10, 180, 0, 116, 27, 96, 17, 3, 231]
abbrev dktX1_pass_0 : List UInt8 := dkwX1_pass_0 ++ dktX1_pass_1
theorem dksX1_pass_0 : cX1_pass.data.toList.drop 0 = dktX1_pass_0 := by decide +kernel
theorem dksX1_pass_1 : cX1_pass.data.toList.drop 22 = dktX1_pass_1 := dk_seg dksX1_pass_0 22 rfl rfl
theorem dX1_pass_0 : decode cX1_pass 0 = .ok (.iload_n 1, 1) := dk_27 (dk_at dksX1_pass_0 0 rfl rfl)
theorem dX1_pass_1 : decode cX1_pass 1 = .ok (.iconst 1, 1) := dk_4 (dk_at dksX1_pass_0 1 rfl rfl)
theorem dX1_pass_2 : decode cX1_pass 2 = .ok (.bipush 60, 2) := dk_16 60 (dk_at dksX1_pass_0 2 rfl rfl)
theorem dX1_pass_4 : decode cX1_pass 4 = .ok (.invokestatic 60, 3) := dk_184 0 60 (dk_at dksX1_pass_0 4 rfl rfl)
theorem dX1_pass_7 : decode cX1_pass 7 = .ok (.invokestatic 85, 3) := dk_184 0 85 (dk_at dksX1_pass_0 7 rfl rfl)
theorem dX1_pass_10 : decode cX1_pass 10 = .ok (.aload_n 0, 1) := dk_42 (dk_at dksX1_pass_0 10 rfl rfl)
theorem dX1_pass_11 : decode cX1_pass 11 = .ok (.getfield 10, 3) := dk_180 0 10 (dk_at dksX1_pass_0 11 rfl rfl)
theorem dX1_pass_14 : decode cX1_pass 14 = .ok (.getfield 116, 3) := dk_180 0 116 (dk_at dksX1_pass_0 14 rfl rfl)
theorem dX1_pass_17 : decode cX1_pass 17 = .ok (.iload_n 1, 1) := dk_27 (dk_at dksX1_pass_0 17 rfl rfl)
theorem dX1_pass_18 : decode cX1_pass 18 = .ok (.iadd, 1) := dk_96 (dk_at dksX1_pass_0 18 rfl rfl)
theorem dX1_pass_19 : decode cX1_pass 19 = .ok (.sipush 999, 3) := dk_17 3 231 (dk_at dksX1_pass_0 19 rfl rfl)
theorem dX1_pass_22 : decode cX1_pass 22 = .ok (.if_icmp .gt 7, 3) := dk_163 0 7 (dk_at dksX1_pass_1 0 rfl rfl)
theorem dX1_pass_25 : decode cX1_pass 25 = .ok (.iconst 1, 1) := dk_4 (dk_at dksX1_pass_1 3 rfl rfl)
theorem dX1_pass_26 : decode cX1_pass 26 = .ok (.goto 4, 3) := dk_167 0 4 (dk_at dksX1_pass_1 4 rfl rfl)
theorem dX1_pass_29 : decode cX1_pass 29 = .ok (.iconst 0, 1) := dk_3 (dk_at dksX1_pass_1 7 rfl rfl)
theorem dX1_pass_30 : decode cX1_pass 30 = .ok (.invokestatic 82, 3) := dk_184 0 82 (dk_at dksX1_pass_1 8 rfl rfl)
theorem dX1_pass_33 : decode cX1_pass 33 = .ok (.aload_n 0, 1) := dk_42 (dk_at dksX1_pass_1 11 rfl rfl)
theorem dX1_pass_34 : decode cX1_pass 34 = .ok (.invokevirtual 88, 3) := dk_182 0 88 (dk_at dksX1_pass_1 12 rfl rfl)
theorem dX1_pass_37 : decode cX1_pass 37 = .ok (.aload_n 0, 1) := dk_42 (dk_at dksX1_pass_1 15 rfl rfl)
theorem dX1_pass_38 : decode cX1_pass 38 = .ok (.getfield 10, 3) := dk_180 0 10 (dk_at dksX1_pass_1 16 rfl rfl)
theorem dX1_pass_41 : decode cX1_pass 41 = .ok (.iload_n 1, 1) := dk_27 (dk_at dksX1_pass_1 19 rfl rfl)
theorem dX1_pass_42 : decode cX1_pass 42 = .ok (.invokevirtual 205, 3) := dk_182 0 205 (dk_at dksX1_pass_1 20 rfl rfl)
theorem dX1_pass_45 : decode cX1_pass 45 = .ok (.ireturn, 1) := dk_172 (dk_at dksX1_pass_1 23 rfl rfl)
abbrev cX1_append : ByteArray := prog_1_method_21_code
def yX1_append : MethodName := ⟨RX1, "append", "(I)I"⟩
def dkwX1_append_2 : List UInt8 := [172]
abbrev dktX1_append_2 : List UInt8 := dkwX1_append_2 ++ []
def dkwX1_append_1 : List UInt8 := [167, 0, 4, 3, 184, 0, 82, 42, 180, 0, 31, 27, 146, 182, 0, 212, 87, 42, 180, 0, 31, 182, 0, 209]
abbrev dktX1_append_1 : List UInt8 := dkwX1_append_1 ++ dktX1_append_2
def dkwX1_append_0 : List UInt8 := [27, 16, 33, 16, 126, 184, 0, 60, 184, 0, 85, 42, 180, 0, 31, 182, 0, 209, 16, 60, 162, 0, 7, 4]
abbrev dktX1_append_0 : List UInt8 := dkwX1_append_0 ++ dktX1_append_1
theorem dksX1_append_0 : cX1_append.data.toList.drop 0 = dktX1_append_0 := by decide +kernel
theorem dksX1_append_1 : cX1_append.data.toList.drop 24 = dktX1_append_1 := dk_seg dksX1_append_0 24 rfl rfl
theorem dksX1_append_2 : cX1_append.data.toList.drop 48 = dktX1_append_2 := dk_seg dksX1_append_1 24 rfl rfl
theorem dX1_append_0 : decode cX1_append 0 = .ok (.iload_n 1, 1) := dk_27 (dk_at dksX1_append_0 0 rfl rfl)
theorem dX1_append_1 : decode cX1_append 1 = .ok (.bipush 33, 2) := dk_16 33 (dk_at dksX1_append_0 1 rfl rfl)
theorem dX1_append_3 : decode cX1_append 3 = .ok (.bipush 126, 2) := dk_16 126 (dk_at dksX1_append_0 3 rfl rfl)
theorem dX1_append_5 : decode cX1_append 5 = .ok (.invokestatic 60, 3) := dk_184 0 60 (dk_at dksX1_append_0 5 rfl rfl)
theorem dX1_append_8 : decode cX1_append 8 = .ok (.invokestatic 85, 3) := dk_184 0 85 (dk_at dksX1_append_0 8 rfl rfl)
theorem dX1_append_11 : decode cX1_append 11 = .ok (.aload_n 0, 1) := dk_42 (dk_at dksX1_append_0 11 rfl rfl)
theorem dX1_append_12 : decode cX1_append 12 = .ok (.getfield 31, 3) := dk_180 0 31 (dk_at dksX1_append_0 12 rfl rfl)
theorem dX1_append_15 : decode cX1_append 15 = .ok (.invokevirtual 209, 3) := dk_182 0 209 (dk_at dksX1_append_0 15 rfl rfl)
theorem dX1_append_18 : decode cX1_append 18 = .ok (.bipush 60, 2) := dk_16 60 (dk_at dksX1_append_0 18 rfl rfl)
theorem dX1_append_20 : decode cX1_append 20 = .ok (.if_icmp .ge 7, 3) := dk_162 0 7 (dk_at dksX1_append_0 20 rfl rfl)
theorem dX1_append_23 : decode cX1_append 23 = .ok (.iconst 1, 1) := dk_4 (dk_at dksX1_append_0 23 rfl rfl)
theorem dX1_append_24 : decode cX1_append 24 = .ok (.goto 4, 3) := dk_167 0 4 (dk_at dksX1_append_1 0 rfl rfl)
theorem dX1_append_27 : decode cX1_append 27 = .ok (.iconst 0, 1) := dk_3 (dk_at dksX1_append_1 3 rfl rfl)
theorem dX1_append_28 : decode cX1_append 28 = .ok (.invokestatic 82, 3) := dk_184 0 82 (dk_at dksX1_append_1 4 rfl rfl)
theorem dX1_append_31 : decode cX1_append 31 = .ok (.aload_n 0, 1) := dk_42 (dk_at dksX1_append_1 7 rfl rfl)
theorem dX1_append_32 : decode cX1_append 32 = .ok (.getfield 31, 3) := dk_180 0 31 (dk_at dksX1_append_1 8 rfl rfl)
theorem dX1_append_35 : decode cX1_append 35 = .ok (.iload_n 1, 1) := dk_27 (dk_at dksX1_append_1 11 rfl rfl)
theorem dX1_append_36 : decode cX1_append 36 = .ok (.i2c, 1) := dk_146 (dk_at dksX1_append_1 12 rfl rfl)
theorem dX1_append_37 : decode cX1_append 37 = .ok (.invokevirtual 212, 3) := dk_182 0 212 (dk_at dksX1_append_1 13 rfl rfl)
theorem dX1_append_40 : decode cX1_append 40 = .ok (.pop, 1) := dk_87 (dk_at dksX1_append_1 16 rfl rfl)
theorem dX1_append_41 : decode cX1_append 41 = .ok (.aload_n 0, 1) := dk_42 (dk_at dksX1_append_1 17 rfl rfl)
theorem dX1_append_42 : decode cX1_append 42 = .ok (.getfield 31, 3) := dk_180 0 31 (dk_at dksX1_append_1 18 rfl rfl)
theorem dX1_append_45 : decode cX1_append 45 = .ok (.invokevirtual 209, 3) := dk_182 0 209 (dk_at dksX1_append_1 21 rfl rfl)
theorem dX1_append_48 : decode cX1_append 48 = .ok (.ireturn, 1) := dk_172 (dk_at dksX1_append_2 0 rfl rfl)
abbrev cX1_planAll : ByteArray := prog_1_method_24_code
def yX1_planAll : MethodName := ⟨RX1, "planAll", "()I"⟩
def dkwX1_planAll_7 : List UInt8 := [172]
abbrev dktX1_planAll_7 : List UInt8 := dkwX1_planAll_7 ++ []
def dkwX1_planAll_6 : List UInt8 := [132, 3, 1, 167, 255, 210, 42, 180, 0, 31, 3, 182, 0, 216, 42, 180, 0, 10, 180, 0, 156, 182, 0, 160]
abbrev dktX1_planAll_6 : List UInt8 := dkwX1_planAll_6 ++ dktX1_planAll_7
def dkwX1_planAll_5 : List UInt8 := [180, 0, 232, 6, 29, 104, 4, 96, 46, 43, 180, 0, 232, 6, 29, 104, 5, 96, 46, 182, 0, 163]
abbrev dktX1_planAll_5 : List UInt8 := dkwX1_planAll_5 ++ dktX1_planAll_6
def dkwX1_planAll_4 : List UInt8 := [3, 62, 29, 43, 180, 0, 230, 162, 0, 44, 42, 180, 0, 10, 43, 180, 0, 232, 6, 29, 104, 46, 43]
abbrev dktX1_planAll_4 : List UInt8 := dkwX1_planAll_4 ++ dktX1_planAll_5
def dkwX1_planAll_3 : List UInt8 := [161, 0, 7, 4, 167, 0, 4, 3, 126, 61, 132, 3, 1, 167, 255, 219, 28, 184, 0, 82, 42, 182, 0, 88]
abbrev dktX1_planAll_3 : List UInt8 := dkwX1_planAll_3 ++ dktX1_planAll_4
def dkwX1_planAll_2 : List UInt8 := [180, 0, 230, 162, 0, 35, 28, 43, 180, 0, 232, 6, 29, 104, 46, 42, 180, 0, 10, 180, 0, 116]
abbrev dktX1_planAll_2 : List UInt8 := dkwX1_planAll_2 ++ dktX1_planAll_3
def dkwX1_planAll_1 : List UInt8 := [182, 0, 160, 43, 180, 0, 230, 96, 16, 16, 163, 0, 7, 4, 167, 0, 4, 3, 61, 3, 62, 29, 43]
abbrev dktX1_planAll_1 : List UInt8 := dkwX1_planAll_1 ++ dktX1_planAll_2
def dkwX1_planAll_0 : List UInt8 := [187, 0, 219, 89, 42, 183, 0, 221, 76, 43, 182, 0, 224, 184, 0, 85, 42, 180, 0, 10, 180, 0, 156]
abbrev dktX1_planAll_0 : List UInt8 := dkwX1_planAll_0 ++ dktX1_planAll_1
theorem dksX1_planAll_0 : cX1_planAll.data.toList.drop 0 = dktX1_planAll_0 := by decide +kernel
theorem dksX1_planAll_1 : cX1_planAll.data.toList.drop 23 = dktX1_planAll_1 := dk_seg dksX1_planAll_0 23 rfl rfl
theorem dksX1_planAll_2 : cX1_planAll.data.toList.drop 46 = dktX1_planAll_2 := dk_seg dksX1_planAll_1 23 rfl rfl
theorem dksX1_planAll_3 : cX1_planAll.data.toList.drop 68 = dktX1_planAll_3 := dk_seg dksX1_planAll_2 22 rfl rfl
theorem dksX1_planAll_4 : cX1_planAll.data.toList.drop 92 = dktX1_planAll_4 := dk_seg dksX1_planAll_3 24 rfl rfl
theorem dksX1_planAll_5 : cX1_planAll.data.toList.drop 115 = dktX1_planAll_5 := dk_seg dksX1_planAll_4 23 rfl rfl
theorem dksX1_planAll_6 : cX1_planAll.data.toList.drop 137 = dktX1_planAll_6 := dk_seg dksX1_planAll_5 22 rfl rfl
theorem dksX1_planAll_7 : cX1_planAll.data.toList.drop 161 = dktX1_planAll_7 := dk_seg dksX1_planAll_6 24 rfl rfl
theorem dX1_planAll_0 : decode cX1_planAll 0 = .ok (.new 219, 3) := dk_187 0 219 (dk_at dksX1_planAll_0 0 rfl rfl)
theorem dX1_planAll_3 : decode cX1_planAll 3 = .ok (.dup, 1) := dk_89 (dk_at dksX1_planAll_0 3 rfl rfl)
theorem dX1_planAll_4 : decode cX1_planAll 4 = .ok (.aload_n 0, 1) := dk_42 (dk_at dksX1_planAll_0 4 rfl rfl)
theorem dX1_planAll_5 : decode cX1_planAll 5 = .ok (.invokespecial 221, 3) := dk_183 0 221 (dk_at dksX1_planAll_0 5 rfl rfl)
theorem dX1_planAll_8 : decode cX1_planAll 8 = .ok (.astore_n 1, 1) := dk_76 (dk_at dksX1_planAll_0 8 rfl rfl)
theorem dX1_planAll_9 : decode cX1_planAll 9 = .ok (.aload_n 1, 1) := dk_43 (dk_at dksX1_planAll_0 9 rfl rfl)
theorem dX1_planAll_10 : decode cX1_planAll 10 = .ok (.invokevirtual 224, 3) := dk_182 0 224 (dk_at dksX1_planAll_0 10 rfl rfl)
theorem dX1_planAll_13 : decode cX1_planAll 13 = .ok (.invokestatic 85, 3) := dk_184 0 85 (dk_at dksX1_planAll_0 13 rfl rfl)
theorem dX1_planAll_16 : decode cX1_planAll 16 = .ok (.aload_n 0, 1) := dk_42 (dk_at dksX1_planAll_0 16 rfl rfl)
theorem dX1_planAll_17 : decode cX1_planAll 17 = .ok (.getfield 10, 3) := dk_180 0 10 (dk_at dksX1_planAll_0 17 rfl rfl)
theorem dX1_planAll_20 : decode cX1_planAll 20 = .ok (.getfield 156, 3) := dk_180 0 156 (dk_at dksX1_planAll_0 20 rfl rfl)
theorem dX1_planAll_23 : decode cX1_planAll 23 = .ok (.invokevirtual 160, 3) := dk_182 0 160 (dk_at dksX1_planAll_1 0 rfl rfl)
theorem dX1_planAll_26 : decode cX1_planAll 26 = .ok (.aload_n 1, 1) := dk_43 (dk_at dksX1_planAll_1 3 rfl rfl)
theorem dX1_planAll_27 : decode cX1_planAll 27 = .ok (.getfield 230, 3) := dk_180 0 230 (dk_at dksX1_planAll_1 4 rfl rfl)
theorem dX1_planAll_30 : decode cX1_planAll 30 = .ok (.iadd, 1) := dk_96 (dk_at dksX1_planAll_1 7 rfl rfl)
theorem dX1_planAll_31 : decode cX1_planAll 31 = .ok (.bipush 16, 2) := dk_16 16 (dk_at dksX1_planAll_1 8 rfl rfl)
theorem dX1_planAll_33 : decode cX1_planAll 33 = .ok (.if_icmp .gt 7, 3) := dk_163 0 7 (dk_at dksX1_planAll_1 10 rfl rfl)
theorem dX1_planAll_36 : decode cX1_planAll 36 = .ok (.iconst 1, 1) := dk_4 (dk_at dksX1_planAll_1 13 rfl rfl)
theorem dX1_planAll_37 : decode cX1_planAll 37 = .ok (.goto 4, 3) := dk_167 0 4 (dk_at dksX1_planAll_1 14 rfl rfl)
theorem dX1_planAll_40 : decode cX1_planAll 40 = .ok (.iconst 0, 1) := dk_3 (dk_at dksX1_planAll_1 17 rfl rfl)
theorem dX1_planAll_41 : decode cX1_planAll 41 = .ok (.istore_n 2, 1) := dk_61 (dk_at dksX1_planAll_1 18 rfl rfl)
theorem dX1_planAll_42 : decode cX1_planAll 42 = .ok (.iconst 0, 1) := dk_3 (dk_at dksX1_planAll_1 19 rfl rfl)
theorem dX1_planAll_43 : decode cX1_planAll 43 = .ok (.istore_n 3, 1) := dk_62 (dk_at dksX1_planAll_1 20 rfl rfl)
theorem dX1_planAll_44 : decode cX1_planAll 44 = .ok (.iload_n 3, 1) := dk_29 (dk_at dksX1_planAll_1 21 rfl rfl)
theorem dX1_planAll_45 : decode cX1_planAll 45 = .ok (.aload_n 1, 1) := dk_43 (dk_at dksX1_planAll_1 22 rfl rfl)
theorem dX1_planAll_46 : decode cX1_planAll 46 = .ok (.getfield 230, 3) := dk_180 0 230 (dk_at dksX1_planAll_2 0 rfl rfl)
theorem dX1_planAll_49 : decode cX1_planAll 49 = .ok (.if_icmp .ge 35, 3) := dk_162 0 35 (dk_at dksX1_planAll_2 3 rfl rfl)
theorem dX1_planAll_52 : decode cX1_planAll 52 = .ok (.iload_n 2, 1) := dk_28 (dk_at dksX1_planAll_2 6 rfl rfl)
theorem dX1_planAll_53 : decode cX1_planAll 53 = .ok (.aload_n 1, 1) := dk_43 (dk_at dksX1_planAll_2 7 rfl rfl)
theorem dX1_planAll_54 : decode cX1_planAll 54 = .ok (.getfield 232, 3) := dk_180 0 232 (dk_at dksX1_planAll_2 8 rfl rfl)
theorem dX1_planAll_57 : decode cX1_planAll 57 = .ok (.iconst 3, 1) := dk_6 (dk_at dksX1_planAll_2 11 rfl rfl)
theorem dX1_planAll_58 : decode cX1_planAll 58 = .ok (.iload_n 3, 1) := dk_29 (dk_at dksX1_planAll_2 12 rfl rfl)
theorem dX1_planAll_59 : decode cX1_planAll 59 = .ok (.imul, 1) := dk_104 (dk_at dksX1_planAll_2 13 rfl rfl)
theorem dX1_planAll_60 : decode cX1_planAll 60 = .ok (.iaload, 1) := dk_46 (dk_at dksX1_planAll_2 14 rfl rfl)
theorem dX1_planAll_61 : decode cX1_planAll 61 = .ok (.aload_n 0, 1) := dk_42 (dk_at dksX1_planAll_2 15 rfl rfl)
theorem dX1_planAll_62 : decode cX1_planAll 62 = .ok (.getfield 10, 3) := dk_180 0 10 (dk_at dksX1_planAll_2 16 rfl rfl)
theorem dX1_planAll_65 : decode cX1_planAll 65 = .ok (.getfield 116, 3) := dk_180 0 116 (dk_at dksX1_planAll_2 19 rfl rfl)
theorem dX1_planAll_68 : decode cX1_planAll 68 = .ok (.if_icmp .lt 7, 3) := dk_161 0 7 (dk_at dksX1_planAll_3 0 rfl rfl)
theorem dX1_planAll_71 : decode cX1_planAll 71 = .ok (.iconst 1, 1) := dk_4 (dk_at dksX1_planAll_3 3 rfl rfl)
theorem dX1_planAll_72 : decode cX1_planAll 72 = .ok (.goto 4, 3) := dk_167 0 4 (dk_at dksX1_planAll_3 4 rfl rfl)
theorem dX1_planAll_75 : decode cX1_planAll 75 = .ok (.iconst 0, 1) := dk_3 (dk_at dksX1_planAll_3 7 rfl rfl)
theorem dX1_planAll_76 : decode cX1_planAll 76 = .ok (.iand, 1) := dk_126 (dk_at dksX1_planAll_3 8 rfl rfl)
theorem dX1_planAll_77 : decode cX1_planAll 77 = .ok (.istore_n 2, 1) := dk_61 (dk_at dksX1_planAll_3 9 rfl rfl)
theorem dX1_planAll_78 : decode cX1_planAll 78 = .ok (.iinc 3 1, 3) := dk_132 3 1 (dk_at dksX1_planAll_3 10 rfl rfl)
theorem dX1_planAll_81 : decode cX1_planAll 81 = .ok (.goto (-37), 3) := dk_167 255 219 (dk_at dksX1_planAll_3 13 rfl rfl)
theorem dX1_planAll_84 : decode cX1_planAll 84 = .ok (.iload_n 2, 1) := dk_28 (dk_at dksX1_planAll_3 16 rfl rfl)
theorem dX1_planAll_85 : decode cX1_planAll 85 = .ok (.invokestatic 82, 3) := dk_184 0 82 (dk_at dksX1_planAll_3 17 rfl rfl)
theorem dX1_planAll_88 : decode cX1_planAll 88 = .ok (.aload_n 0, 1) := dk_42 (dk_at dksX1_planAll_3 20 rfl rfl)
theorem dX1_planAll_89 : decode cX1_planAll 89 = .ok (.invokevirtual 88, 3) := dk_182 0 88 (dk_at dksX1_planAll_3 21 rfl rfl)
theorem dX1_planAll_92 : decode cX1_planAll 92 = .ok (.iconst 0, 1) := dk_3 (dk_at dksX1_planAll_4 0 rfl rfl)
theorem dX1_planAll_93 : decode cX1_planAll 93 = .ok (.istore_n 3, 1) := dk_62 (dk_at dksX1_planAll_4 1 rfl rfl)
theorem dX1_planAll_94 : decode cX1_planAll 94 = .ok (.iload_n 3, 1) := dk_29 (dk_at dksX1_planAll_4 2 rfl rfl)
theorem dX1_planAll_95 : decode cX1_planAll 95 = .ok (.aload_n 1, 1) := dk_43 (dk_at dksX1_planAll_4 3 rfl rfl)
theorem dX1_planAll_96 : decode cX1_planAll 96 = .ok (.getfield 230, 3) := dk_180 0 230 (dk_at dksX1_planAll_4 4 rfl rfl)
theorem dX1_planAll_99 : decode cX1_planAll 99 = .ok (.if_icmp .ge 44, 3) := dk_162 0 44 (dk_at dksX1_planAll_4 7 rfl rfl)
theorem dX1_planAll_102 : decode cX1_planAll 102 = .ok (.aload_n 0, 1) := dk_42 (dk_at dksX1_planAll_4 10 rfl rfl)
theorem dX1_planAll_103 : decode cX1_planAll 103 = .ok (.getfield 10, 3) := dk_180 0 10 (dk_at dksX1_planAll_4 11 rfl rfl)
theorem dX1_planAll_106 : decode cX1_planAll 106 = .ok (.aload_n 1, 1) := dk_43 (dk_at dksX1_planAll_4 14 rfl rfl)
theorem dX1_planAll_107 : decode cX1_planAll 107 = .ok (.getfield 232, 3) := dk_180 0 232 (dk_at dksX1_planAll_4 15 rfl rfl)
theorem dX1_planAll_110 : decode cX1_planAll 110 = .ok (.iconst 3, 1) := dk_6 (dk_at dksX1_planAll_4 18 rfl rfl)
theorem dX1_planAll_111 : decode cX1_planAll 111 = .ok (.iload_n 3, 1) := dk_29 (dk_at dksX1_planAll_4 19 rfl rfl)
theorem dX1_planAll_112 : decode cX1_planAll 112 = .ok (.imul, 1) := dk_104 (dk_at dksX1_planAll_4 20 rfl rfl)
theorem dX1_planAll_113 : decode cX1_planAll 113 = .ok (.iaload, 1) := dk_46 (dk_at dksX1_planAll_4 21 rfl rfl)
theorem dX1_planAll_114 : decode cX1_planAll 114 = .ok (.aload_n 1, 1) := dk_43 (dk_at dksX1_planAll_4 22 rfl rfl)
theorem dX1_planAll_115 : decode cX1_planAll 115 = .ok (.getfield 232, 3) := dk_180 0 232 (dk_at dksX1_planAll_5 0 rfl rfl)
theorem dX1_planAll_118 : decode cX1_planAll 118 = .ok (.iconst 3, 1) := dk_6 (dk_at dksX1_planAll_5 3 rfl rfl)
theorem dX1_planAll_119 : decode cX1_planAll 119 = .ok (.iload_n 3, 1) := dk_29 (dk_at dksX1_planAll_5 4 rfl rfl)
theorem dX1_planAll_120 : decode cX1_planAll 120 = .ok (.imul, 1) := dk_104 (dk_at dksX1_planAll_5 5 rfl rfl)
theorem dX1_planAll_121 : decode cX1_planAll 121 = .ok (.iconst 1, 1) := dk_4 (dk_at dksX1_planAll_5 6 rfl rfl)
theorem dX1_planAll_122 : decode cX1_planAll 122 = .ok (.iadd, 1) := dk_96 (dk_at dksX1_planAll_5 7 rfl rfl)
theorem dX1_planAll_123 : decode cX1_planAll 123 = .ok (.iaload, 1) := dk_46 (dk_at dksX1_planAll_5 8 rfl rfl)
theorem dX1_planAll_124 : decode cX1_planAll 124 = .ok (.aload_n 1, 1) := dk_43 (dk_at dksX1_planAll_5 9 rfl rfl)
theorem dX1_planAll_125 : decode cX1_planAll 125 = .ok (.getfield 232, 3) := dk_180 0 232 (dk_at dksX1_planAll_5 10 rfl rfl)
theorem dX1_planAll_128 : decode cX1_planAll 128 = .ok (.iconst 3, 1) := dk_6 (dk_at dksX1_planAll_5 13 rfl rfl)
theorem dX1_planAll_129 : decode cX1_planAll 129 = .ok (.iload_n 3, 1) := dk_29 (dk_at dksX1_planAll_5 14 rfl rfl)
theorem dX1_planAll_130 : decode cX1_planAll 130 = .ok (.imul, 1) := dk_104 (dk_at dksX1_planAll_5 15 rfl rfl)
theorem dX1_planAll_131 : decode cX1_planAll 131 = .ok (.iconst 2, 1) := dk_5 (dk_at dksX1_planAll_5 16 rfl rfl)
theorem dX1_planAll_132 : decode cX1_planAll 132 = .ok (.iadd, 1) := dk_96 (dk_at dksX1_planAll_5 17 rfl rfl)
theorem dX1_planAll_133 : decode cX1_planAll 133 = .ok (.iaload, 1) := dk_46 (dk_at dksX1_planAll_5 18 rfl rfl)
theorem dX1_planAll_134 : decode cX1_planAll 134 = .ok (.invokevirtual 163, 3) := dk_182 0 163 (dk_at dksX1_planAll_5 19 rfl rfl)
theorem dX1_planAll_137 : decode cX1_planAll 137 = .ok (.iinc 3 1, 3) := dk_132 3 1 (dk_at dksX1_planAll_6 0 rfl rfl)
theorem dX1_planAll_140 : decode cX1_planAll 140 = .ok (.goto (-46), 3) := dk_167 255 210 (dk_at dksX1_planAll_6 3 rfl rfl)
theorem dX1_planAll_143 : decode cX1_planAll 143 = .ok (.aload_n 0, 1) := dk_42 (dk_at dksX1_planAll_6 6 rfl rfl)
theorem dX1_planAll_144 : decode cX1_planAll 144 = .ok (.getfield 31, 3) := dk_180 0 31 (dk_at dksX1_planAll_6 7 rfl rfl)
theorem dX1_planAll_147 : decode cX1_planAll 147 = .ok (.iconst 0, 1) := dk_3 (dk_at dksX1_planAll_6 10 rfl rfl)
theorem dX1_planAll_148 : decode cX1_planAll 148 = .ok (.invokevirtual 216, 3) := dk_182 0 216 (dk_at dksX1_planAll_6 11 rfl rfl)
theorem dX1_planAll_151 : decode cX1_planAll 151 = .ok (.aload_n 0, 1) := dk_42 (dk_at dksX1_planAll_6 14 rfl rfl)
theorem dX1_planAll_152 : decode cX1_planAll 152 = .ok (.getfield 10, 3) := dk_180 0 10 (dk_at dksX1_planAll_6 15 rfl rfl)
theorem dX1_planAll_155 : decode cX1_planAll 155 = .ok (.getfield 156, 3) := dk_180 0 156 (dk_at dksX1_planAll_6 18 rfl rfl)
theorem dX1_planAll_158 : decode cX1_planAll 158 = .ok (.invokevirtual 160, 3) := dk_182 0 160 (dk_at dksX1_planAll_6 21 rfl rfl)
theorem dX1_planAll_161 : decode cX1_planAll 161 = .ok (.ireturn, 1) := dk_172 (dk_at dksX1_planAll_7 0 rfl rfl)
abbrev cX1_undo : ByteArray := prog_1_method_25_code
def yX1_undo : MethodName := ⟨RX1, "undo", "()I"⟩
def dkwX1_undo_2 : List UInt8 := [180, 0, 22, 182, 0, 35, 172]
abbrev dktX1_undo_2 : List UInt8 := dkwX1_undo_2 ++ []
def dkwX1_undo_1 : List UInt8 := [180, 0, 22, 42, 180, 0, 22, 182, 0, 35, 4, 100, 182, 0, 39, 192, 0, 7, 182, 0, 43, 42]
abbrev dktX1_undo_1 : List UInt8 := dkwX1_undo_1 ++ dktX1_undo_2
def dkwX1_undo_0 : List UInt8 := [42, 180, 0, 22, 182, 0, 235, 154, 0, 7, 4, 167, 0, 4, 3, 184, 0, 82, 42, 180, 0, 10, 42]
abbrev dktX1_undo_0 : List UInt8 := dkwX1_undo_0 ++ dktX1_undo_1
theorem dksX1_undo_0 : cX1_undo.data.toList.drop 0 = dktX1_undo_0 := by decide +kernel
theorem dksX1_undo_1 : cX1_undo.data.toList.drop 23 = dktX1_undo_1 := dk_seg dksX1_undo_0 23 rfl rfl
theorem dksX1_undo_2 : cX1_undo.data.toList.drop 45 = dktX1_undo_2 := dk_seg dksX1_undo_1 22 rfl rfl
theorem dX1_undo_0 : decode cX1_undo 0 = .ok (.aload_n 0, 1) := dk_42 (dk_at dksX1_undo_0 0 rfl rfl)
theorem dX1_undo_1 : decode cX1_undo 1 = .ok (.getfield 22, 3) := dk_180 0 22 (dk_at dksX1_undo_0 1 rfl rfl)
theorem dX1_undo_4 : decode cX1_undo 4 = .ok (.invokevirtual 235, 3) := dk_182 0 235 (dk_at dksX1_undo_0 4 rfl rfl)
theorem dX1_undo_7 : decode cX1_undo 7 = .ok (.ifCond .ne 7, 3) := dk_154 0 7 (dk_at dksX1_undo_0 7 rfl rfl)
theorem dX1_undo_10 : decode cX1_undo 10 = .ok (.iconst 1, 1) := dk_4 (dk_at dksX1_undo_0 10 rfl rfl)
theorem dX1_undo_11 : decode cX1_undo 11 = .ok (.goto 4, 3) := dk_167 0 4 (dk_at dksX1_undo_0 11 rfl rfl)
theorem dX1_undo_14 : decode cX1_undo 14 = .ok (.iconst 0, 1) := dk_3 (dk_at dksX1_undo_0 14 rfl rfl)
theorem dX1_undo_15 : decode cX1_undo 15 = .ok (.invokestatic 82, 3) := dk_184 0 82 (dk_at dksX1_undo_0 15 rfl rfl)
theorem dX1_undo_18 : decode cX1_undo 18 = .ok (.aload_n 0, 1) := dk_42 (dk_at dksX1_undo_0 18 rfl rfl)
theorem dX1_undo_19 : decode cX1_undo 19 = .ok (.getfield 10, 3) := dk_180 0 10 (dk_at dksX1_undo_0 19 rfl rfl)
theorem dX1_undo_22 : decode cX1_undo 22 = .ok (.aload_n 0, 1) := dk_42 (dk_at dksX1_undo_0 22 rfl rfl)
theorem dX1_undo_23 : decode cX1_undo 23 = .ok (.getfield 22, 3) := dk_180 0 22 (dk_at dksX1_undo_1 0 rfl rfl)
theorem dX1_undo_26 : decode cX1_undo 26 = .ok (.aload_n 0, 1) := dk_42 (dk_at dksX1_undo_1 3 rfl rfl)
theorem dX1_undo_27 : decode cX1_undo 27 = .ok (.getfield 22, 3) := dk_180 0 22 (dk_at dksX1_undo_1 4 rfl rfl)
theorem dX1_undo_30 : decode cX1_undo 30 = .ok (.invokevirtual 35, 3) := dk_182 0 35 (dk_at dksX1_undo_1 7 rfl rfl)
theorem dX1_undo_33 : decode cX1_undo 33 = .ok (.iconst 1, 1) := dk_4 (dk_at dksX1_undo_1 10 rfl rfl)
theorem dX1_undo_34 : decode cX1_undo 34 = .ok (.isub, 1) := dk_100 (dk_at dksX1_undo_1 11 rfl rfl)
theorem dX1_undo_35 : decode cX1_undo 35 = .ok (.invokevirtual 39, 3) := dk_182 0 39 (dk_at dksX1_undo_1 12 rfl rfl)
theorem dX1_undo_38 : decode cX1_undo 38 = .ok (.checkcast 7, 3) := dk_192 0 7 (dk_at dksX1_undo_1 15 rfl rfl)
theorem dX1_undo_41 : decode cX1_undo 41 = .ok (.invokevirtual 43, 3) := dk_182 0 43 (dk_at dksX1_undo_1 18 rfl rfl)
theorem dX1_undo_44 : decode cX1_undo 44 = .ok (.aload_n 0, 1) := dk_42 (dk_at dksX1_undo_1 21 rfl rfl)
theorem dX1_undo_45 : decode cX1_undo 45 = .ok (.getfield 22, 3) := dk_180 0 22 (dk_at dksX1_undo_2 0 rfl rfl)
theorem dX1_undo_48 : decode cX1_undo 48 = .ok (.invokevirtual 35, 3) := dk_182 0 35 (dk_at dksX1_undo_2 3 rfl rfl)
theorem dX1_undo_51 : decode cX1_undo 51 = .ok (.ireturn, 1) := dk_172 (dk_at dksX1_undo_2 6 rfl rfl)
abbrev cX1_fountain : ByteArray := prog_1_method_27_code
def yX1_fountain : MethodName := ⟨RX1, "fountain", "(II)I"⟩
def dkwX1_fountain_0 : List UInt8 := [27, 184, 0, 64, 184, 0, 68, 28, 3, 16, 9, 184, 0, 60, 184, 0, 85, 42, 27, 28, 182, 1, 6, 172]
abbrev dktX1_fountain_0 : List UInt8 := dkwX1_fountain_0 ++ []
theorem dksX1_fountain_0 : cX1_fountain.data.toList.drop 0 = dktX1_fountain_0 := by decide +kernel
theorem dX1_fountain_0 : decode cX1_fountain 0 = .ok (.iload_n 1, 1) := dk_27 (dk_at dksX1_fountain_0 0 rfl rfl)
theorem dX1_fountain_1 : decode cX1_fountain 1 = .ok (.invokestatic 64, 3) := dk_184 0 64 (dk_at dksX1_fountain_0 1 rfl rfl)
theorem dX1_fountain_4 : decode cX1_fountain 4 = .ok (.invokestatic 68, 3) := dk_184 0 68 (dk_at dksX1_fountain_0 4 rfl rfl)
theorem dX1_fountain_7 : decode cX1_fountain 7 = .ok (.iload_n 2, 1) := dk_28 (dk_at dksX1_fountain_0 7 rfl rfl)
theorem dX1_fountain_8 : decode cX1_fountain 8 = .ok (.iconst 0, 1) := dk_3 (dk_at dksX1_fountain_0 8 rfl rfl)
theorem dX1_fountain_9 : decode cX1_fountain 9 = .ok (.bipush 9, 2) := dk_16 9 (dk_at dksX1_fountain_0 9 rfl rfl)
theorem dX1_fountain_11 : decode cX1_fountain 11 = .ok (.invokestatic 60, 3) := dk_184 0 60 (dk_at dksX1_fountain_0 11 rfl rfl)
theorem dX1_fountain_14 : decode cX1_fountain 14 = .ok (.invokestatic 85, 3) := dk_184 0 85 (dk_at dksX1_fountain_0 14 rfl rfl)
theorem dX1_fountain_17 : decode cX1_fountain 17 = .ok (.aload_n 0, 1) := dk_42 (dk_at dksX1_fountain_0 17 rfl rfl)
theorem dX1_fountain_18 : decode cX1_fountain 18 = .ok (.iload_n 1, 1) := dk_27 (dk_at dksX1_fountain_0 18 rfl rfl)
theorem dX1_fountain_19 : decode cX1_fountain 19 = .ok (.iload_n 2, 1) := dk_28 (dk_at dksX1_fountain_0 19 rfl rfl)
theorem dX1_fountain_20 : decode cX1_fountain 20 = .ok (.invokevirtual 262, 3) := dk_182 1 6 (dk_at dksX1_fountain_0 20 rfl rfl)
theorem dX1_fountain_23 : decode cX1_fountain 23 = .ok (.ireturn, 1) := dk_172 (dk_at dksX1_fountain_0 23 rfl rfl)
abbrev cX1_job : ByteArray := prog_1_method_29_code
def yX1_job : MethodName := ⟨RX1, "job", "(II)I"⟩
def dkwX1_job_1 : List UInt8 := [182, 1, 36, 172]
abbrev dktX1_job_1 : List UInt8 := dkwX1_job_1 ++ []
def dkwX1_job_0 : List UInt8 := [27, 155, 0, 16, 28, 3, 6, 184, 0, 60, 153, 0, 7, 4, 167, 0, 4, 3, 184, 0, 85, 42, 27, 28]
abbrev dktX1_job_0 : List UInt8 := dkwX1_job_0 ++ dktX1_job_1
theorem dksX1_job_0 : cX1_job.data.toList.drop 0 = dktX1_job_0 := by decide +kernel
theorem dksX1_job_1 : cX1_job.data.toList.drop 24 = dktX1_job_1 := dk_seg dksX1_job_0 24 rfl rfl
theorem dX1_job_0 : decode cX1_job 0 = .ok (.iload_n 1, 1) := dk_27 (dk_at dksX1_job_0 0 rfl rfl)
theorem dX1_job_1 : decode cX1_job 1 = .ok (.ifCond .lt 16, 3) := dk_155 0 16 (dk_at dksX1_job_0 1 rfl rfl)
theorem dX1_job_4 : decode cX1_job 4 = .ok (.iload_n 2, 1) := dk_28 (dk_at dksX1_job_0 4 rfl rfl)
theorem dX1_job_5 : decode cX1_job 5 = .ok (.iconst 0, 1) := dk_3 (dk_at dksX1_job_0 5 rfl rfl)
theorem dX1_job_6 : decode cX1_job 6 = .ok (.iconst 3, 1) := dk_6 (dk_at dksX1_job_0 6 rfl rfl)
theorem dX1_job_7 : decode cX1_job 7 = .ok (.invokestatic 60, 3) := dk_184 0 60 (dk_at dksX1_job_0 7 rfl rfl)
theorem dX1_job_10 : decode cX1_job 10 = .ok (.ifCond .eq 7, 3) := dk_153 0 7 (dk_at dksX1_job_0 10 rfl rfl)
theorem dX1_job_13 : decode cX1_job 13 = .ok (.iconst 1, 1) := dk_4 (dk_at dksX1_job_0 13 rfl rfl)
theorem dX1_job_14 : decode cX1_job 14 = .ok (.goto 4, 3) := dk_167 0 4 (dk_at dksX1_job_0 14 rfl rfl)
theorem dX1_job_17 : decode cX1_job 17 = .ok (.iconst 0, 1) := dk_3 (dk_at dksX1_job_0 17 rfl rfl)
theorem dX1_job_18 : decode cX1_job 18 = .ok (.invokestatic 85, 3) := dk_184 0 85 (dk_at dksX1_job_0 18 rfl rfl)
theorem dX1_job_21 : decode cX1_job 21 = .ok (.aload_n 0, 1) := dk_42 (dk_at dksX1_job_0 21 rfl rfl)
theorem dX1_job_22 : decode cX1_job 22 = .ok (.iload_n 1, 1) := dk_27 (dk_at dksX1_job_0 22 rfl rfl)
theorem dX1_job_23 : decode cX1_job 23 = .ok (.iload_n 2, 1) := dk_28 (dk_at dksX1_job_0 23 rfl rfl)
theorem dX1_job_24 : decode cX1_job 24 = .ok (.invokevirtual 292, 3) := dk_182 1 36 (dk_at dksX1_job_1 0 rfl rfl)
theorem dX1_job_27 : decode cX1_job 27 = .ok (.ireturn, 1) := dk_172 (dk_at dksX1_job_1 3 rfl rfl)
abbrev cX1_frostOf : ByteArray := prog_1_method_31_code
def yX1_frostOf : MethodName := ⟨RX1, "frostOf", "(II)I"⟩
def dkwX1_frostOf_1 : List UInt8 := [182, 1, 48, 172]
abbrev dktX1_frostOf_1 : List UInt8 := dkwX1_frostOf_1 ++ []
def dkwX1_frostOf_0 : List UInt8 := [27, 155, 0, 16, 28, 3, 4, 184, 0, 60, 153, 0, 7, 4, 167, 0, 4, 3, 184, 0, 85, 42, 27, 28]
abbrev dktX1_frostOf_0 : List UInt8 := dkwX1_frostOf_0 ++ dktX1_frostOf_1
theorem dksX1_frostOf_0 : cX1_frostOf.data.toList.drop 0 = dktX1_frostOf_0 := by decide +kernel
theorem dksX1_frostOf_1 : cX1_frostOf.data.toList.drop 24 = dktX1_frostOf_1 := dk_seg dksX1_frostOf_0 24 rfl rfl
theorem dX1_frostOf_0 : decode cX1_frostOf 0 = .ok (.iload_n 1, 1) := dk_27 (dk_at dksX1_frostOf_0 0 rfl rfl)
theorem dX1_frostOf_1 : decode cX1_frostOf 1 = .ok (.ifCond .lt 16, 3) := dk_155 0 16 (dk_at dksX1_frostOf_0 1 rfl rfl)
theorem dX1_frostOf_4 : decode cX1_frostOf 4 = .ok (.iload_n 2, 1) := dk_28 (dk_at dksX1_frostOf_0 4 rfl rfl)
theorem dX1_frostOf_5 : decode cX1_frostOf 5 = .ok (.iconst 0, 1) := dk_3 (dk_at dksX1_frostOf_0 5 rfl rfl)
theorem dX1_frostOf_6 : decode cX1_frostOf 6 = .ok (.iconst 1, 1) := dk_4 (dk_at dksX1_frostOf_0 6 rfl rfl)
theorem dX1_frostOf_7 : decode cX1_frostOf 7 = .ok (.invokestatic 60, 3) := dk_184 0 60 (dk_at dksX1_frostOf_0 7 rfl rfl)
theorem dX1_frostOf_10 : decode cX1_frostOf 10 = .ok (.ifCond .eq 7, 3) := dk_153 0 7 (dk_at dksX1_frostOf_0 10 rfl rfl)
theorem dX1_frostOf_13 : decode cX1_frostOf 13 = .ok (.iconst 1, 1) := dk_4 (dk_at dksX1_frostOf_0 13 rfl rfl)
theorem dX1_frostOf_14 : decode cX1_frostOf 14 = .ok (.goto 4, 3) := dk_167 0 4 (dk_at dksX1_frostOf_0 14 rfl rfl)
theorem dX1_frostOf_17 : decode cX1_frostOf 17 = .ok (.iconst 0, 1) := dk_3 (dk_at dksX1_frostOf_0 17 rfl rfl)
theorem dX1_frostOf_18 : decode cX1_frostOf 18 = .ok (.invokestatic 85, 3) := dk_184 0 85 (dk_at dksX1_frostOf_0 18 rfl rfl)
theorem dX1_frostOf_21 : decode cX1_frostOf 21 = .ok (.aload_n 0, 1) := dk_42 (dk_at dksX1_frostOf_0 21 rfl rfl)
theorem dX1_frostOf_22 : decode cX1_frostOf 22 = .ok (.iload_n 1, 1) := dk_27 (dk_at dksX1_frostOf_0 22 rfl rfl)
theorem dX1_frostOf_23 : decode cX1_frostOf 23 = .ok (.iload_n 2, 1) := dk_28 (dk_at dksX1_frostOf_0 23 rfl rfl)
theorem dX1_frostOf_24 : decode cX1_frostOf 24 = .ok (.invokevirtual 304, 3) := dk_182 1 48 (dk_at dksX1_frostOf_1 0 rfl rfl)
theorem dX1_frostOf_27 : decode cX1_frostOf 27 = .ok (.ireturn, 1) := dk_172 (dk_at dksX1_frostOf_1 3 rfl rfl)
abbrev cX1_outing : ByteArray := prog_1_method_33_code
def yX1_outing : MethodName := ⟨RX1, "outing", "(II)I"⟩
def dkwX1_outing_1 : List UInt8 := [182, 1, 54, 172]
abbrev dktX1_outing_1 : List UInt8 := dkwX1_outing_1 ++ []
def dkwX1_outing_0 : List UInt8 := [27, 155, 0, 16, 28, 3, 5, 184, 0, 60, 153, 0, 7, 4, 167, 0, 4, 3, 184, 0, 85, 42, 27, 28]
abbrev dktX1_outing_0 : List UInt8 := dkwX1_outing_0 ++ dktX1_outing_1
theorem dksX1_outing_0 : cX1_outing.data.toList.drop 0 = dktX1_outing_0 := by decide +kernel
theorem dksX1_outing_1 : cX1_outing.data.toList.drop 24 = dktX1_outing_1 := dk_seg dksX1_outing_0 24 rfl rfl
theorem dX1_outing_0 : decode cX1_outing 0 = .ok (.iload_n 1, 1) := dk_27 (dk_at dksX1_outing_0 0 rfl rfl)
theorem dX1_outing_1 : decode cX1_outing 1 = .ok (.ifCond .lt 16, 3) := dk_155 0 16 (dk_at dksX1_outing_0 1 rfl rfl)
theorem dX1_outing_4 : decode cX1_outing 4 = .ok (.iload_n 2, 1) := dk_28 (dk_at dksX1_outing_0 4 rfl rfl)
theorem dX1_outing_5 : decode cX1_outing 5 = .ok (.iconst 0, 1) := dk_3 (dk_at dksX1_outing_0 5 rfl rfl)
theorem dX1_outing_6 : decode cX1_outing 6 = .ok (.iconst 2, 1) := dk_5 (dk_at dksX1_outing_0 6 rfl rfl)
theorem dX1_outing_7 : decode cX1_outing 7 = .ok (.invokestatic 60, 3) := dk_184 0 60 (dk_at dksX1_outing_0 7 rfl rfl)
theorem dX1_outing_10 : decode cX1_outing 10 = .ok (.ifCond .eq 7, 3) := dk_153 0 7 (dk_at dksX1_outing_0 10 rfl rfl)
theorem dX1_outing_13 : decode cX1_outing 13 = .ok (.iconst 1, 1) := dk_4 (dk_at dksX1_outing_0 13 rfl rfl)
theorem dX1_outing_14 : decode cX1_outing 14 = .ok (.goto 4, 3) := dk_167 0 4 (dk_at dksX1_outing_0 14 rfl rfl)
theorem dX1_outing_17 : decode cX1_outing 17 = .ok (.iconst 0, 1) := dk_3 (dk_at dksX1_outing_0 17 rfl rfl)
theorem dX1_outing_18 : decode cX1_outing 18 = .ok (.invokestatic 85, 3) := dk_184 0 85 (dk_at dksX1_outing_0 18 rfl rfl)
theorem dX1_outing_21 : decode cX1_outing 21 = .ok (.aload_n 0, 1) := dk_42 (dk_at dksX1_outing_0 21 rfl rfl)
theorem dX1_outing_22 : decode cX1_outing 22 = .ok (.iload_n 1, 1) := dk_27 (dk_at dksX1_outing_0 22 rfl rfl)
theorem dX1_outing_23 : decode cX1_outing 23 = .ok (.iload_n 2, 1) := dk_28 (dk_at dksX1_outing_0 23 rfl rfl)
theorem dX1_outing_24 : decode cX1_outing 24 = .ok (.invokevirtual 310, 3) := dk_182 1 54 (dk_at dksX1_outing_1 0 rfl rfl)
theorem dX1_outing_27 : decode cX1_outing 27 = .ok (.ireturn, 1) := dk_172 (dk_at dksX1_outing_1 3 rfl rfl)
abbrev cX1_count : ByteArray := prog_1_method_35_code
def yX1_count : MethodName := ⟨RX1, "count", "(I)I"⟩
def dkwX1_count_0 : List UInt8 := [27, 3, 16, 11, 184, 0, 60, 184, 0, 85, 42, 27, 182, 1, 70, 172]
abbrev dktX1_count_0 : List UInt8 := dkwX1_count_0 ++ []
theorem dksX1_count_0 : cX1_count.data.toList.drop 0 = dktX1_count_0 := by decide +kernel
theorem dX1_count_0 : decode cX1_count 0 = .ok (.iload_n 1, 1) := dk_27 (dk_at dksX1_count_0 0 rfl rfl)
theorem dX1_count_1 : decode cX1_count 1 = .ok (.iconst 0, 1) := dk_3 (dk_at dksX1_count_0 1 rfl rfl)
theorem dX1_count_2 : decode cX1_count 2 = .ok (.bipush 11, 2) := dk_16 11 (dk_at dksX1_count_0 2 rfl rfl)
theorem dX1_count_4 : decode cX1_count 4 = .ok (.invokestatic 60, 3) := dk_184 0 60 (dk_at dksX1_count_0 4 rfl rfl)
theorem dX1_count_7 : decode cX1_count 7 = .ok (.invokestatic 85, 3) := dk_184 0 85 (dk_at dksX1_count_0 7 rfl rfl)
theorem dX1_count_10 : decode cX1_count 10 = .ok (.aload_n 0, 1) := dk_42 (dk_at dksX1_count_0 10 rfl rfl)
theorem dX1_count_11 : decode cX1_count 11 = .ok (.iload_n 1, 1) := dk_27 (dk_at dksX1_count_0 11 rfl rfl)
theorem dX1_count_12 : decode cX1_count 12 = .ok (.invokevirtual 326, 3) := dk_182 1 70 (dk_at dksX1_count_0 12 rfl rfl)
theorem dX1_count_15 : decode cX1_count 15 = .ok (.ireturn, 1) := dk_172 (dk_at dksX1_count_0 15 rfl rfl)
abbrev cX1_setting : ByteArray := prog_1_method_36_code
def yX1_setting : MethodName := ⟨RX1, "setting", "(I)I"⟩
def dkwX1_setting_0 : List UInt8 := [27, 184, 0, 192, 184, 0, 68, 42, 180, 0, 10, 180, 0, 202, 27, 46, 172]
abbrev dktX1_setting_0 : List UInt8 := dkwX1_setting_0 ++ []
theorem dksX1_setting_0 : cX1_setting.data.toList.drop 0 = dktX1_setting_0 := by decide +kernel
theorem dX1_setting_0 : decode cX1_setting 0 = .ok (.iload_n 1, 1) := dk_27 (dk_at dksX1_setting_0 0 rfl rfl)
theorem dX1_setting_1 : decode cX1_setting 1 = .ok (.invokestatic 192, 3) := dk_184 0 192 (dk_at dksX1_setting_0 1 rfl rfl)
theorem dX1_setting_4 : decode cX1_setting 4 = .ok (.invokestatic 68, 3) := dk_184 0 68 (dk_at dksX1_setting_0 4 rfl rfl)
theorem dX1_setting_7 : decode cX1_setting 7 = .ok (.aload_n 0, 1) := dk_42 (dk_at dksX1_setting_0 7 rfl rfl)
theorem dX1_setting_8 : decode cX1_setting 8 = .ok (.getfield 10, 3) := dk_180 0 10 (dk_at dksX1_setting_0 8 rfl rfl)
theorem dX1_setting_11 : decode cX1_setting 11 = .ok (.getfield 202, 3) := dk_180 0 202 (dk_at dksX1_setting_0 11 rfl rfl)
theorem dX1_setting_14 : decode cX1_setting 14 = .ok (.iload_n 1, 1) := dk_27 (dk_at dksX1_setting_0 14 rfl rfl)
theorem dX1_setting_15 : decode cX1_setting 15 = .ok (.iaload, 1) := dk_46 (dk_at dksX1_setting_0 15 rfl rfl)
theorem dX1_setting_16 : decode cX1_setting 16 = .ok (.ireturn, 1) := dk_172 (dk_at dksX1_setting_0 16 rfl rfl)
abbrev cX1_ifPassed : ByteArray := prog_1_method_38_code
def yX1_ifPassed : MethodName := ⟨RX1, "ifPassed", "(II)I"⟩
def dkwX1_ifPassed_1 : List UInt8 := [184, 0, 85, 42, 27, 28, 182, 1, 73, 172]
abbrev dktX1_ifPassed_1 : List UInt8 := dkwX1_ifPassed_1 ++ []
def dkwX1_ifPassed_0 : List UInt8 := [27, 4, 16, 60, 184, 0, 60, 153, 0, 16, 28, 3, 6, 184, 0, 60, 153, 0, 7, 4, 167, 0, 4, 3]
abbrev dktX1_ifPassed_0 : List UInt8 := dkwX1_ifPassed_0 ++ dktX1_ifPassed_1
theorem dksX1_ifPassed_0 : cX1_ifPassed.data.toList.drop 0 = dktX1_ifPassed_0 := by decide +kernel
theorem dksX1_ifPassed_1 : cX1_ifPassed.data.toList.drop 24 = dktX1_ifPassed_1 := dk_seg dksX1_ifPassed_0 24 rfl rfl
theorem dX1_ifPassed_0 : decode cX1_ifPassed 0 = .ok (.iload_n 1, 1) := dk_27 (dk_at dksX1_ifPassed_0 0 rfl rfl)
theorem dX1_ifPassed_1 : decode cX1_ifPassed 1 = .ok (.iconst 1, 1) := dk_4 (dk_at dksX1_ifPassed_0 1 rfl rfl)
theorem dX1_ifPassed_2 : decode cX1_ifPassed 2 = .ok (.bipush 60, 2) := dk_16 60 (dk_at dksX1_ifPassed_0 2 rfl rfl)
theorem dX1_ifPassed_4 : decode cX1_ifPassed 4 = .ok (.invokestatic 60, 3) := dk_184 0 60 (dk_at dksX1_ifPassed_0 4 rfl rfl)
theorem dX1_ifPassed_7 : decode cX1_ifPassed 7 = .ok (.ifCond .eq 16, 3) := dk_153 0 16 (dk_at dksX1_ifPassed_0 7 rfl rfl)
theorem dX1_ifPassed_10 : decode cX1_ifPassed 10 = .ok (.iload_n 2, 1) := dk_28 (dk_at dksX1_ifPassed_0 10 rfl rfl)
theorem dX1_ifPassed_11 : decode cX1_ifPassed 11 = .ok (.iconst 0, 1) := dk_3 (dk_at dksX1_ifPassed_0 11 rfl rfl)
theorem dX1_ifPassed_12 : decode cX1_ifPassed 12 = .ok (.iconst 3, 1) := dk_6 (dk_at dksX1_ifPassed_0 12 rfl rfl)
theorem dX1_ifPassed_13 : decode cX1_ifPassed 13 = .ok (.invokestatic 60, 3) := dk_184 0 60 (dk_at dksX1_ifPassed_0 13 rfl rfl)
theorem dX1_ifPassed_16 : decode cX1_ifPassed 16 = .ok (.ifCond .eq 7, 3) := dk_153 0 7 (dk_at dksX1_ifPassed_0 16 rfl rfl)
theorem dX1_ifPassed_19 : decode cX1_ifPassed 19 = .ok (.iconst 1, 1) := dk_4 (dk_at dksX1_ifPassed_0 19 rfl rfl)
theorem dX1_ifPassed_20 : decode cX1_ifPassed 20 = .ok (.goto 4, 3) := dk_167 0 4 (dk_at dksX1_ifPassed_0 20 rfl rfl)
theorem dX1_ifPassed_23 : decode cX1_ifPassed 23 = .ok (.iconst 0, 1) := dk_3 (dk_at dksX1_ifPassed_0 23 rfl rfl)
theorem dX1_ifPassed_24 : decode cX1_ifPassed 24 = .ok (.invokestatic 85, 3) := dk_184 0 85 (dk_at dksX1_ifPassed_1 0 rfl rfl)
theorem dX1_ifPassed_27 : decode cX1_ifPassed 27 = .ok (.aload_n 0, 1) := dk_42 (dk_at dksX1_ifPassed_1 3 rfl rfl)
theorem dX1_ifPassed_28 : decode cX1_ifPassed 28 = .ok (.iload_n 1, 1) := dk_27 (dk_at dksX1_ifPassed_1 4 rfl rfl)
theorem dX1_ifPassed_29 : decode cX1_ifPassed 29 = .ok (.iload_n 2, 1) := dk_28 (dk_at dksX1_ifPassed_1 5 rfl rfl)
theorem dX1_ifPassed_30 : decode cX1_ifPassed 30 = .ok (.invokevirtual 329, 3) := dk_182 1 73 (dk_at dksX1_ifPassed_1 6 rfl rfl)
theorem dX1_ifPassed_33 : decode cX1_ifPassed 33 = .ok (.ireturn, 1) := dk_172 (dk_at dksX1_ifPassed_1 9 rfl rfl)
abbrev cX1_ifOuting : ByteArray := prog_1_method_40_code
def yX1_ifOuting : MethodName := ⟨RX1, "ifOuting", "(II)I"⟩
def dkwX1_ifOuting_1 : List UInt8 := [28, 182, 1, 76, 172]
abbrev dktX1_ifOuting_1 : List UInt8 := dkwX1_ifOuting_1 ++ []
def dkwX1_ifOuting_0 : List UInt8 := [27, 184, 0, 153, 153, 0, 14, 28, 184, 0, 64, 153, 0, 7, 4, 167, 0, 4, 3, 184, 0, 85, 42, 27]
abbrev dktX1_ifOuting_0 : List UInt8 := dkwX1_ifOuting_0 ++ dktX1_ifOuting_1
theorem dksX1_ifOuting_0 : cX1_ifOuting.data.toList.drop 0 = dktX1_ifOuting_0 := by decide +kernel
theorem dksX1_ifOuting_1 : cX1_ifOuting.data.toList.drop 24 = dktX1_ifOuting_1 := dk_seg dksX1_ifOuting_0 24 rfl rfl
theorem dX1_ifOuting_0 : decode cX1_ifOuting 0 = .ok (.iload_n 1, 1) := dk_27 (dk_at dksX1_ifOuting_0 0 rfl rfl)
theorem dX1_ifOuting_1 : decode cX1_ifOuting 1 = .ok (.invokestatic 153, 3) := dk_184 0 153 (dk_at dksX1_ifOuting_0 1 rfl rfl)
theorem dX1_ifOuting_4 : decode cX1_ifOuting 4 = .ok (.ifCond .eq 14, 3) := dk_153 0 14 (dk_at dksX1_ifOuting_0 4 rfl rfl)
theorem dX1_ifOuting_7 : decode cX1_ifOuting 7 = .ok (.iload_n 2, 1) := dk_28 (dk_at dksX1_ifOuting_0 7 rfl rfl)
theorem dX1_ifOuting_8 : decode cX1_ifOuting 8 = .ok (.invokestatic 64, 3) := dk_184 0 64 (dk_at dksX1_ifOuting_0 8 rfl rfl)
theorem dX1_ifOuting_11 : decode cX1_ifOuting 11 = .ok (.ifCond .eq 7, 3) := dk_153 0 7 (dk_at dksX1_ifOuting_0 11 rfl rfl)
theorem dX1_ifOuting_14 : decode cX1_ifOuting 14 = .ok (.iconst 1, 1) := dk_4 (dk_at dksX1_ifOuting_0 14 rfl rfl)
theorem dX1_ifOuting_15 : decode cX1_ifOuting 15 = .ok (.goto 4, 3) := dk_167 0 4 (dk_at dksX1_ifOuting_0 15 rfl rfl)
theorem dX1_ifOuting_18 : decode cX1_ifOuting 18 = .ok (.iconst 0, 1) := dk_3 (dk_at dksX1_ifOuting_0 18 rfl rfl)
theorem dX1_ifOuting_19 : decode cX1_ifOuting 19 = .ok (.invokestatic 85, 3) := dk_184 0 85 (dk_at dksX1_ifOuting_0 19 rfl rfl)
theorem dX1_ifOuting_22 : decode cX1_ifOuting 22 = .ok (.aload_n 0, 1) := dk_42 (dk_at dksX1_ifOuting_0 22 rfl rfl)
theorem dX1_ifOuting_23 : decode cX1_ifOuting 23 = .ok (.iload_n 1, 1) := dk_27 (dk_at dksX1_ifOuting_0 23 rfl rfl)
theorem dX1_ifOuting_24 : decode cX1_ifOuting 24 = .ok (.iload_n 2, 1) := dk_28 (dk_at dksX1_ifOuting_1 0 rfl rfl)
theorem dX1_ifOuting_25 : decode cX1_ifOuting 25 = .ok (.invokevirtual 332, 3) := dk_182 1 76 (dk_at dksX1_ifOuting_1 1 rfl rfl)
theorem dX1_ifOuting_28 : decode cX1_ifOuting 28 = .ok (.ireturn, 1) := dk_172 (dk_at dksX1_ifOuting_1 4 rfl rfl)
abbrev cX1_bestGate : ByteArray := prog_1_method_42_code
def yX1_bestGate : MethodName := ⟨RX1, "bestGate", "(I)I"⟩
def dkwX1_bestGate_0 : List UInt8 := [27, 184, 0, 153, 184, 0, 85, 42, 27, 182, 1, 79, 172]
abbrev dktX1_bestGate_0 : List UInt8 := dkwX1_bestGate_0 ++ []
theorem dksX1_bestGate_0 : cX1_bestGate.data.toList.drop 0 = dktX1_bestGate_0 := by decide +kernel
theorem dX1_bestGate_0 : decode cX1_bestGate 0 = .ok (.iload_n 1, 1) := dk_27 (dk_at dksX1_bestGate_0 0 rfl rfl)
theorem dX1_bestGate_1 : decode cX1_bestGate 1 = .ok (.invokestatic 153, 3) := dk_184 0 153 (dk_at dksX1_bestGate_0 1 rfl rfl)
theorem dX1_bestGate_4 : decode cX1_bestGate 4 = .ok (.invokestatic 85, 3) := dk_184 0 85 (dk_at dksX1_bestGate_0 4 rfl rfl)
theorem dX1_bestGate_7 : decode cX1_bestGate 7 = .ok (.aload_n 0, 1) := dk_42 (dk_at dksX1_bestGate_0 7 rfl rfl)
theorem dX1_bestGate_8 : decode cX1_bestGate 8 = .ok (.iload_n 1, 1) := dk_27 (dk_at dksX1_bestGate_0 8 rfl rfl)
theorem dX1_bestGate_9 : decode cX1_bestGate 9 = .ok (.invokevirtual 335, 3) := dk_182 1 79 (dk_at dksX1_bestGate_0 9 rfl rfl)
theorem dX1_bestGate_12 : decode cX1_bestGate 12 = .ok (.ireturn, 1) := dk_172 (dk_at dksX1_bestGate_0 12 rfl rfl)
abbrev cX1_daysToFilter : ByteArray := prog_1_method_44_code
def yX1_daysToFilter : MethodName := ⟨RX1, "daysToFilter", "(I)I"⟩
def dkwX1_daysToFilter_0 : List UInt8 := [27, 184, 0, 64, 184, 0, 68, 42, 27, 182, 1, 87, 172]
abbrev dktX1_daysToFilter_0 : List UInt8 := dkwX1_daysToFilter_0 ++ []
theorem dksX1_daysToFilter_0 : cX1_daysToFilter.data.toList.drop 0 = dktX1_daysToFilter_0 := by decide +kernel
theorem dX1_daysToFilter_0 : decode cX1_daysToFilter 0 = .ok (.iload_n 1, 1) := dk_27 (dk_at dksX1_daysToFilter_0 0 rfl rfl)
theorem dX1_daysToFilter_1 : decode cX1_daysToFilter 1 = .ok (.invokestatic 64, 3) := dk_184 0 64 (dk_at dksX1_daysToFilter_0 1 rfl rfl)
theorem dX1_daysToFilter_4 : decode cX1_daysToFilter 4 = .ok (.invokestatic 68, 3) := dk_184 0 68 (dk_at dksX1_daysToFilter_0 4 rfl rfl)
theorem dX1_daysToFilter_7 : decode cX1_daysToFilter 7 = .ok (.aload_n 0, 1) := dk_42 (dk_at dksX1_daysToFilter_0 7 rfl rfl)
theorem dX1_daysToFilter_8 : decode cX1_daysToFilter 8 = .ok (.iload_n 1, 1) := dk_27 (dk_at dksX1_daysToFilter_0 8 rfl rfl)
theorem dX1_daysToFilter_9 : decode cX1_daysToFilter 9 = .ok (.invokevirtual 343, 3) := dk_182 1 87 (dk_at dksX1_daysToFilter_0 9 rfl rfl)
theorem dX1_daysToFilter_12 : decode cX1_daysToFilter 12 = .ok (.ireturn, 1) := dk_172 (dk_at dksX1_daysToFilter_0 12 rfl rfl)
abbrev cX1_bestOrder : ByteArray := prog_1_method_46_code
def yX1_bestOrder : MethodName := ⟨RX1, "bestOrder", "(I)I"⟩
def dkwX1_bestOrder_0 : List UInt8 := [27, 4, 16, 30, 184, 0, 60, 184, 0, 85, 42, 27, 182, 1, 90, 172]
abbrev dktX1_bestOrder_0 : List UInt8 := dkwX1_bestOrder_0 ++ []
theorem dksX1_bestOrder_0 : cX1_bestOrder.data.toList.drop 0 = dktX1_bestOrder_0 := by decide +kernel
theorem dX1_bestOrder_0 : decode cX1_bestOrder 0 = .ok (.iload_n 1, 1) := dk_27 (dk_at dksX1_bestOrder_0 0 rfl rfl)
theorem dX1_bestOrder_1 : decode cX1_bestOrder 1 = .ok (.iconst 1, 1) := dk_4 (dk_at dksX1_bestOrder_0 1 rfl rfl)
theorem dX1_bestOrder_2 : decode cX1_bestOrder 2 = .ok (.bipush 30, 2) := dk_16 30 (dk_at dksX1_bestOrder_0 2 rfl rfl)
theorem dX1_bestOrder_4 : decode cX1_bestOrder 4 = .ok (.invokestatic 60, 3) := dk_184 0 60 (dk_at dksX1_bestOrder_0 4 rfl rfl)
theorem dX1_bestOrder_7 : decode cX1_bestOrder 7 = .ok (.invokestatic 85, 3) := dk_184 0 85 (dk_at dksX1_bestOrder_0 7 rfl rfl)
theorem dX1_bestOrder_10 : decode cX1_bestOrder 10 = .ok (.aload_n 0, 1) := dk_42 (dk_at dksX1_bestOrder_0 10 rfl rfl)
theorem dX1_bestOrder_11 : decode cX1_bestOrder 11 = .ok (.iload_n 1, 1) := dk_27 (dk_at dksX1_bestOrder_0 11 rfl rfl)
theorem dX1_bestOrder_12 : decode cX1_bestOrder 12 = .ok (.invokevirtual 346, 3) := dk_182 1 90 (dk_at dksX1_bestOrder_0 12 rfl rfl)
theorem dX1_bestOrder_15 : decode cX1_bestOrder 15 = .ok (.ireturn, 1) := dk_172 (dk_at dksX1_bestOrder_0 15 rfl rfl)
theorem q93 : (Jvm.Cond.initialized "FountainPark") ∈ lw_all := lw_g (lw_at lw_m1 1 rfl) rfl
theorem q142 : (Jvm.Cond.instantiable "FountainPark" (5 : Nat)) ∈ lw_all := lw_g (lw_at lw_m1 50 rfl) rfl
theorem q144 : (Jvm.Cond.instanceMethod ({ cls := "FountainPark", name := "<init>", desc := "()V" } : Jvm.MethodName)) ∈ lw_all := lw_g (lw_at lw_m1 52 rfl) rfl
theorem q145 : (Jvm.Cond.code ({ cls := "FountainPark", name := "<init>", desc := "()V" } : Jvm.MethodName) prog_1_method_2_code (1 : Nat) (Option.none : Option Jvm.ClassFile.FieldType)) ∈ lw_all := lw_g (lw_at lw_m1 53 rfl) rfl
theorem q146 : (Jvm.Cond.methodLink "FountainPark" (1 : Nat) ({ cls := "java/lang/Object", name := "<init>", desc := "()V" } : Jvm.MethodName)) ∈ lw_all := lw_g (lw_at lw_m1 54 rfl) rfl
theorem q149 : (Jvm.Cond.classLink "FountainPark" (7 : Nat) "FountainPark$Park") ∈ lw_all := lw_g (lw_at lw_m1 57 rfl) rfl
theorem q151 : (Jvm.Cond.methodLink "FountainPark" (9 : Nat) ({ cls := "FountainPark$Park", name := "<init>", desc := "()V" } : Jvm.MethodName)) ∈ lw_all := lw_g (lw_at lw_m1 59 rfl) rfl
theorem q315 : (Jvm.Cond.fieldLinkNest "FountainPark" (76 : Nat) "FountainPark$Fountain" "isThere" "Z" "FountainPark") ∈ lw_tbl := lw_at lw_m1 223 rfl
theorem q317 : (Jvm.Cond.fieldLinkNest "FountainPark" (241 : Nat) "FountainPark$Fountain" "flow" "I" "FountainPark") ∈ lw_tbl := lw_at lw_m1 225 rfl
theorem q319 : (Jvm.Cond.fieldLinkNest "FountainPark" (244 : Nat) "FountainPark$Fountain" "filter" "I" "FountainPark") ∈ lw_tbl := lw_at lw_m1 227 rfl
theorem q321 : (Jvm.Cond.fieldLinkNest "FountainPark" (247 : Nat) "FountainPark$Fountain" "used" "I" "FountainPark") ∈ lw_tbl := lw_at lw_m1 229 rfl
theorem q324 : (Jvm.Cond.fieldLinkNest "FountainPark" (113 : Nat) "FountainPark$Fountain" "isHeated" "Z" "FountainPark") ∈ lw_tbl := lw_at lw_m1 232 rfl
theorem q327 : (Jvm.Cond.fieldLinkNest "FountainPark" (110 : Nat) "FountainPark$Fountain" "isDrained" "Z" "FountainPark") ∈ lw_tbl := lw_at lw_m1 235 rfl
theorem q330 : (Jvm.Cond.fieldLinkNest "FountainPark" (250 : Nat) "FountainPark$Fountain" "isBroken" "Z" "FountainPark") ∈ lw_tbl := lw_at lw_m1 238 rfl
theorem q332 : (Jvm.Cond.fieldLinkNest "FountainPark" (253 : Nat) "FountainPark$Fountain" "given" "I" "FountainPark") ∈ lw_tbl := lw_at lw_m2 0 rfl
theorem q334 : (Jvm.Cond.fieldLinkNest "FountainPark" (256 : Nat) "FountainPark$Fountain" "changes" "I" "FountainPark") ∈ lw_tbl := lw_at lw_m2 2 rfl
theorem q336 : (Jvm.Cond.fieldLinkNest "FountainPark" (259 : Nat) "FountainPark$Fountain" "bursts" "I" "FountainPark") ∈ lw_tbl := lw_at lw_m2 4 rfl
theorem q343 : (Jvm.Cond.fieldLinkNest "FountainPark" (289 : Nat) "FountainPark$Fountain" "worked" "[I" "FountainPark") ∈ lw_tbl := lw_at lw_m2 11 rfl
theorem q379 : (Jvm.Cond.fieldLinkNest "FountainPark" (281 : Nat) "FountainPark$Job" "place" "I" "FountainPark") ∈ lw_tbl := lw_at lw_m2 47 rfl
theorem q382 : (Jvm.Cond.fieldLinkNest "FountainPark" (282 : Nat) "FountainPark$Job" "kind" "I" "FountainPark") ∈ lw_tbl := lw_at lw_m2 50 rfl
theorem q385 : (Jvm.Cond.fieldLinkNest "FountainPark" (285 : Nat) "FountainPark$Job" "day" "I" "FountainPark") ∈ lw_tbl := lw_at lw_m2 53 rfl
theorem q396 : (Jvm.Cond.fieldLinkNest "FountainPark" (72 : Nat) "FountainPark$Park" "fountains" "[LFountainPark$Fountain;" "FountainPark") ∈ lw_tbl := lw_at lw_m2 64 rfl
theorem q399 : (Jvm.Cond.fieldLinkNest "FountainPark" (270 : Nat) "FountainPark$Park" "queue" "Ljava/util/PriorityQueue;" "FountainPark") ∈ lw_tbl := lw_at lw_m2 67 rfl
theorem q401 : (Jvm.Cond.fieldLinkNest "FountainPark" (124 : Nat) "FountainPark$Park" "frosts" "Ljava/util/TreeMap;" "FountainPark") ∈ lw_tbl := lw_at lw_m2 69 rfl
theorem q403 : (Jvm.Cond.fieldLinkNest "FountainPark" (156 : Nat) "FountainPark$Park" "outings" "Ljava/util/TreeSet;" "FountainPark") ∈ lw_tbl := lw_at lw_m2 71 rfl
theorem q405 : (Jvm.Cond.fieldLinkNest "FountainPark" (202 : Nat) "FountainPark$Park" "settings" "[I" "FountainPark") ∈ lw_tbl := lw_at lw_m2 73 rfl
theorem q407 : (Jvm.Cond.fieldLinkNest "FountainPark" (116 : Nat) "FountainPark$Park" "day" "I" "FountainPark") ∈ lw_tbl := lw_at lw_m2 75 rfl
theorem q410 : (Jvm.Cond.fieldLinkNest "FountainPark" (313 : Nat) "FountainPark$Park" "thirsty" "I" "FountainPark") ∈ lw_tbl := lw_at lw_m2 78 rfl
theorem q412 : (Jvm.Cond.fieldLinkNest "FountainPark" (316 : Nat) "FountainPark$Park" "children" "I" "FountainPark") ∈ lw_tbl := lw_at lw_m2 80 rfl
theorem q414 : (Jvm.Cond.fieldLinkNest "FountainPark" (317 : Nat) "FountainPark$Park" "cost" "I" "FountainPark") ∈ lw_tbl := lw_at lw_m2 82 rfl
theorem q416 : (Jvm.Cond.fieldLinkNest "FountainPark" (320 : Nat) "FountainPark$Park" "worked" "I" "FountainPark") ∈ lw_tbl := lw_at lw_m2 84 rfl
theorem q418 : (Jvm.Cond.fieldLinkNest "FountainPark" (322 : Nat) "FountainPark$Park" "given" "I" "FountainPark") ∈ lw_tbl := lw_at lw_m2 86 rfl
theorem q420 : (Jvm.Cond.fieldLinkNest "FountainPark" (323 : Nat) "FountainPark$Park" "isFrosty" "Z" "FountainPark") ∈ lw_tbl := lw_at lw_m2 88 rfl
theorem q450 : (Jvm.Cond.classLink "FountainPark" (19 : Nat) "java/util/ArrayList") ∈ lw_all := lw_g (lw_at lw_m2 118 rfl) rfl
theorem q452 : (Jvm.Cond.methodLink "FountainPark" (21 : Nat) ({ cls := "java/util/ArrayList", name := "<init>", desc := "()V" } : Jvm.MethodName)) ∈ lw_all := lw_g (lw_at lw_m2 120 rfl) rfl
theorem q473 : (Jvm.Cond.classLink "FountainPark" (26 : Nat) "java/lang/StringBuilder") ∈ lw_all := lw_g (lw_at lw_m2 141 rfl) rfl
theorem q475 : (Jvm.Cond.methodLink "FountainPark" (28 : Nat) ({ cls := "java/lang/StringBuilder", name := "<init>", desc := "(I)V" } : Jvm.MethodName)) ∈ lw_all := lw_g (lw_at lw_m2 143 rfl) rfl
theorem q506 : (Jvm.Cond.fieldLink "FountainPark" (10 : Nat) "FountainPark" "now" "LFountainPark$Park;") ∈ lw_all := lw_g (lw_at lw_m2 174 rfl) rfl
theorem q507 : (Jvm.Cond.fieldLink "FountainPark" (16 : Nat) "FountainPark" "tried" "LFountainPark$Park;") ∈ lw_all := lw_g (lw_at lw_m2 175 rfl) rfl
theorem q508 : (Jvm.Cond.fieldLink "FountainPark" (22 : Nat) "FountainPark" "saved" "Ljava/util/ArrayList;") ∈ lw_all := lw_g (lw_at lw_m2 176 rfl) rfl
theorem q510 : (Jvm.Cond.fieldLink "FountainPark" (31 : Nat) "FountainPark" "text" "Ljava/lang/StringBuilder;") ∈ lw_all := lw_g (lw_at lw_m2 178 rfl) rfl
theorem q511 : (Jvm.Cond.fieldLink "FountainPark" (355 : Nat) "FountainPark" "hash" "J") ∈ lw_all := lw_g (lw_at lw_m2 179 rfl) rfl
theorem q512 : (Jvm.Cond.laysFinal "FountainPark" "FountainPark" "now" "LFountainPark$Park;") ∈ lw_all := lw_g (lw_at lw_m2 180 rfl) rfl
theorem q513 : (Jvm.Cond.soleField "FountainPark" "now") ∈ lw_all := lw_g (lw_at lw_m2 181 rfl) rfl
theorem q514 : (Jvm.Cond.laysFinal "FountainPark" "FountainPark" "tried" "LFountainPark$Park;") ∈ lw_all := lw_g (lw_at lw_m2 182 rfl) rfl
theorem q515 : (Jvm.Cond.soleField "FountainPark" "tried") ∈ lw_all := lw_g (lw_at lw_m2 183 rfl) rfl
theorem q516 : (Jvm.Cond.laysFinal "FountainPark" "FountainPark" "saved" "Ljava/util/ArrayList;") ∈ lw_all := lw_g (lw_at lw_m2 184 rfl) rfl
theorem q517 : (Jvm.Cond.soleField "FountainPark" "saved") ∈ lw_all := lw_g (lw_at lw_m2 185 rfl) rfl
theorem q518 : (Jvm.Cond.laysFinal "FountainPark" "FountainPark" "text" "Ljava/lang/StringBuilder;") ∈ lw_all := lw_g (lw_at lw_m2 186 rfl) rfl
theorem q519 : (Jvm.Cond.soleField "FountainPark" "text") ∈ lw_all := lw_g (lw_at lw_m2 187 rfl) rfl
theorem q520 : (Jvm.Cond.lays "FountainPark" "FountainPark" "hash" "J") ∈ lw_all := lw_g (lw_at lw_m2 188 rfl) rfl
theorem q521 : (Jvm.Cond.soleField "FountainPark" "hash") ∈ lw_all := lw_g (lw_at lw_m2 189 rfl) rfl
theorem q522 : (Jvm.Cond.superclass "FountainPark" "java/lang/Object") ∈ lw_all := lw_g (lw_at lw_m2 190 rfl) rfl
theorem q524 : (Jvm.Cond.instanceMethod ({ cls := "FountainPark", name := "clearBuffer", desc := "()I" } : Jvm.MethodName)) ∈ lw_all := lw_g (lw_at lw_m2 192 rfl) rfl
theorem q525 : (Jvm.Cond.selects "FountainPark" ({ cls := "FountainPark", name := "clearBuffer", desc := "()I" } : Jvm.MethodName) ({ cls := "FountainPark", name := "clearBuffer", desc := "()I" } : Jvm.MethodName)) ∈ lw_all := lw_g (lw_at lw_m2 193 rfl) rfl
theorem q526 : (Jvm.Cond.code ({ cls := "FountainPark", name := "clearBuffer", desc := "()I" } : Jvm.MethodName) prog_1_method_22_code (2 : Nat) (Option.some Jvm.ClassFile.FieldType.int)) ∈ lw_all := lw_g (lw_at lw_m2 194 rfl) rfl
theorem q527 : (Jvm.Cond.methodLink "FountainPark" (209 : Nat) ({ cls := "java/lang/StringBuilder", name := "length", desc := "()I" } : Jvm.MethodName)) ∈ lw_all := lw_g (lw_at lw_m2 195 rfl) rfl
theorem q534 : (Jvm.Cond.methodLink "FountainPark" (216 : Nat) ({ cls := "java/lang/StringBuilder", name := "setLength", desc := "(I)V" } : Jvm.MethodName)) ∈ lw_all := lw_g (lw_at lw_m2 202 rfl) rfl
theorem q819 : (Jvm.Cond.instanceMethod ({ cls := "FountainPark", name := "firstError", desc := "()I" } : Jvm.MethodName)) ∈ lw_all := lw_g (lw_at lw_m4 7 rfl) rfl
theorem q820 : (Jvm.Cond.selects "FountainPark" ({ cls := "FountainPark", name := "firstError", desc := "()I" } : Jvm.MethodName) ({ cls := "FountainPark", name := "firstError", desc := "()I" } : Jvm.MethodName)) ∈ lw_all := lw_g (lw_at lw_m4 8 rfl) rfl
theorem q821 : (Jvm.Cond.code ({ cls := "FountainPark", name := "firstError", desc := "()I" } : Jvm.MethodName) prog_1_method_23_code (2 : Nat) (Option.some Jvm.ClassFile.FieldType.int)) ∈ lw_all := lw_g (lw_at lw_m4 9 rfl) rfl
theorem q822 : (Jvm.Cond.classLink "FountainPark" (219 : Nat) "FountainPark$Reader") ∈ lw_all := lw_g (lw_at lw_m4 10 rfl) rfl
theorem q824 : (Jvm.Cond.methodLinkNest "FountainPark" (221 : Nat) ({ cls := "FountainPark$Reader", name := "<init>", desc := "(LFountainPark;)V" } : Jvm.MethodName) "FountainPark") ∈ lw_tbl := lw_at lw_m4 12 rfl
theorem q829 : (Jvm.Cond.fieldLinkNest "FountainPark" (232 : Nat) "FountainPark$Reader" "parts" "[I" "FountainPark") ∈ lw_tbl := lw_at lw_m4 17 rfl
theorem q831 : (Jvm.Cond.fieldLinkNest "FountainPark" (230 : Nat) "FountainPark$Reader" "many" "I" "FountainPark") ∈ lw_tbl := lw_at lw_m4 19 rfl
theorem q833 : (Jvm.Cond.fieldLinkNest "FountainPark" (227 : Nat) "FountainPark$Reader" "place" "I" "FountainPark") ∈ lw_tbl := lw_at lw_m4 21 rfl
theorem q844 : (Jvm.Cond.methodLink "FountainPark" (224 : Nat) ({ cls := "FountainPark$Reader", name := "areOutings", desc := "()Z" } : Jvm.MethodName)) ∈ lw_all := lw_g (lw_at lw_m4 32 rfl) rfl
theorem q877 : (Jvm.Cond.static ({ cls := "FountainPark", name := "in", desc := "(III)Z" } : Jvm.MethodName)) ∈ lw_all := lw_g (lw_at lw_m4 65 rfl) rfl
theorem q878 : (Jvm.Cond.code ({ cls := "FountainPark", name := "in", desc := "(III)Z" } : Jvm.MethodName) prog_1_method_1_code (3 : Nat) (Option.some Jvm.ClassFile.FieldType.boolean)) ∈ lw_all := lw_g (lw_at lw_m4 66 rfl) rfl
theorem q889 : (Jvm.Cond.static ({ cls := "FountainPark", name := "isPlace", desc := "(I)Z" } : Jvm.MethodName)) ∈ lw_all := lw_g (lw_at lw_m4 77 rfl) rfl
theorem q890 : (Jvm.Cond.code ({ cls := "FountainPark", name := "isPlace", desc := "(I)Z" } : Jvm.MethodName) prog_1_method_7_code (1 : Nat) (Option.some Jvm.ClassFile.FieldType.boolean)) ∈ lw_all := lw_g (lw_at lw_m4 78 rfl) rfl
theorem q891 : (Jvm.Cond.methodLink "FountainPark" (60 : Nat) ({ cls := "FountainPark", name := "in", desc := "(III)Z" } : Jvm.MethodName)) ∈ lw_all := lw_g (lw_at lw_m4 79 rfl) rfl
theorem q893 : (Jvm.Cond.instanceMethod ({ cls := "FountainPark", name := "fed", desc := "()D" } : Jvm.MethodName)) ∈ lw_all := lw_g (lw_at lw_m4 81 rfl) rfl
theorem q894 : (Jvm.Cond.selects "FountainPark" ({ cls := "FountainPark", name := "fed", desc := "()D" } : Jvm.MethodName) ({ cls := "FountainPark", name := "fed", desc := "()D" } : Jvm.MethodName)) ∈ lw_all := lw_g (lw_at lw_m4 82 rfl) rfl
theorem q895 : (Jvm.Cond.code ({ cls := "FountainPark", name := "fed", desc := "()D" } : Jvm.MethodName) prog_1_method_48_code (1 : Nat) (Option.some Jvm.ClassFile.FieldType.double)) ∈ lw_all := lw_g (lw_at lw_m4 83 rfl) rfl
theorem q896 : (Jvm.Cond.methodLink "FountainPark" (349 : Nat) ({ cls := "FountainPark", name := "fedTold", desc := "()D" } : Jvm.MethodName)) ∈ lw_all := lw_g (lw_at lw_m4 84 rfl) rfl
theorem q897 : (Jvm.Cond.privateMethod ({ cls := "FountainPark", name := "fedTold", desc := "()D" } : Jvm.MethodName)) ∈ lw_tbl := lw_at lw_m4 85 rfl
theorem q898 : (Jvm.Cond.instanceMethod ({ cls := "FountainPark", name := "fedTold", desc := "()D" } : Jvm.MethodName)) ∈ lw_all := lw_g (lw_at lw_m4 86 rfl) rfl
theorem q899 : (Jvm.Cond.code ({ cls := "FountainPark", name := "fedTold", desc := "()D" } : Jvm.MethodName) prog_1_method_47_code (1 : Nat) (Option.some Jvm.ClassFile.FieldType.double)) ∈ lw_all := lw_g (lw_at lw_m4 87 rfl) rfl
theorem q901 : (Jvm.Cond.instanceMethod ({ cls := "FountainPark", name := "digest", desc := "()J" } : Jvm.MethodName)) ∈ lw_all := lw_g (lw_at lw_m4 89 rfl) rfl
theorem q902 : (Jvm.Cond.selects "FountainPark" ({ cls := "FountainPark", name := "digest", desc := "()J" } : Jvm.MethodName) ({ cls := "FountainPark", name := "digest", desc := "()J" } : Jvm.MethodName)) ∈ lw_all := lw_g (lw_at lw_m4 90 rfl) rfl
theorem q903 : (Jvm.Cond.code ({ cls := "FountainPark", name := "digest", desc := "()J" } : Jvm.MethodName) prog_1_method_52_code (3 : Nat) (Option.some Jvm.ClassFile.FieldType.long)) ∈ lw_all := lw_g (lw_at lw_m4 91 rfl) rfl
theorem q904 : (Jvm.Cond.constantLong "FountainPark" (363 : Nat) (2851 : Int64)) ∈ lw_all := lw_g (lw_at lw_m4 92 rfl) rfl
theorem q905 : (Jvm.Cond.methodLink "FountainPark" (326 : Nat) ({ cls := "FountainPark", name := "countTold", desc := "(I)I" } : Jvm.MethodName)) ∈ lw_all := lw_g (lw_at lw_m4 93 rfl) rfl
theorem q906 : (Jvm.Cond.privateMethod ({ cls := "FountainPark", name := "countTold", desc := "(I)I" } : Jvm.MethodName)) ∈ lw_tbl := lw_at lw_m4 94 rfl
theorem q907 : (Jvm.Cond.instanceMethod ({ cls := "FountainPark", name := "countTold", desc := "(I)I" } : Jvm.MethodName)) ∈ lw_all := lw_g (lw_at lw_m4 95 rfl) rfl
theorem q908 : (Jvm.Cond.code ({ cls := "FountainPark", name := "countTold", desc := "(I)I" } : Jvm.MethodName) prog_1_method_34_code (2 : Nat) (Option.some Jvm.ClassFile.FieldType.int)) ∈ lw_all := lw_g (lw_at lw_m4 96 rfl) rfl
theorem q909 : (Jvm.Cond.methodLink "FountainPark" (95 : Nat) ({ cls := "FountainPark$Park", name := "many", desc := "(Z)I" } : Jvm.MethodName)) ∈ lw_all := lw_g (lw_at lw_m4 97 rfl) rfl
theorem q921 : (Jvm.Cond.methodLink "FountainPark" (266 : Nat) ({ cls := "FountainPark$Park", name := "jobs", desc := "()I" } : Jvm.MethodName)) ∈ lw_all := lw_g (lw_at lw_m4 109 rfl) rfl
theorem q929 : (Jvm.Cond.methodLink "FountainPark" (160 : Nat) ({ cls := "java/util/TreeSet", name := "size", desc := "()I" } : Jvm.MethodName)) ∈ lw_all := lw_g (lw_at lw_m4 117 rfl) rfl
theorem q942 : (Jvm.Cond.methodLink "FountainPark" (35 : Nat) ({ cls := "java/util/ArrayList", name := "size", desc := "()I" } : Jvm.MethodName)) ∈ lw_all := lw_g (lw_at lw_m4 130 rfl) rfl
theorem q946 : (Jvm.Cond.methodLink "FountainPark" (359 : Nat) ({ cls := "FountainPark", name := "mix", desc := "(J)V" } : Jvm.MethodName)) ∈ lw_all := lw_g (lw_at lw_m4 134 rfl) rfl
theorem q947 : (Jvm.Cond.privateMethod ({ cls := "FountainPark", name := "mix", desc := "(J)V" } : Jvm.MethodName)) ∈ lw_tbl := lw_at lw_m4 135 rfl
theorem q948 : (Jvm.Cond.instanceMethod ({ cls := "FountainPark", name := "mix", desc := "(J)V" } : Jvm.MethodName)) ∈ lw_all := lw_g (lw_at lw_m4 136 rfl) rfl
theorem q949 : (Jvm.Cond.code ({ cls := "FountainPark", name := "mix", desc := "(J)V" } : Jvm.MethodName) prog_1_method_49_code (3 : Nat) (Option.none : Option Jvm.ClassFile.FieldType)) ∈ lw_all := lw_g (lw_at lw_m4 137 rfl) rfl
theorem q950 : (Jvm.Cond.constantLong "FountainPark" (353 : Nat) (31 : Int64)) ∈ lw_all := lw_g (lw_at lw_m4 138 rfl) rfl
theorem q951 : (Jvm.Cond.methodLink "FountainPark" (262 : Nat) ({ cls := "FountainPark", name := "fountainTold", desc := "(II)I" } : Jvm.MethodName)) ∈ lw_all := lw_g (lw_at lw_m4 139 rfl) rfl
theorem q952 : (Jvm.Cond.privateMethod ({ cls := "FountainPark", name := "fountainTold", desc := "(II)I" } : Jvm.MethodName)) ∈ lw_tbl := lw_at lw_m4 140 rfl
theorem q953 : (Jvm.Cond.instanceMethod ({ cls := "FountainPark", name := "fountainTold", desc := "(II)I" } : Jvm.MethodName)) ∈ lw_all := lw_g (lw_at lw_m4 141 rfl) rfl
theorem q954 : (Jvm.Cond.code ({ cls := "FountainPark", name := "fountainTold", desc := "(II)I" } : Jvm.MethodName) prog_1_method_26_code (4 : Nat) (Option.some Jvm.ClassFile.FieldType.int)) ∈ lw_all := lw_g (lw_at lw_m4 142 rfl) rfl
theorem q955 : (Jvm.Cond.methodLink "FountainPark" (238 : Nat) ({ cls := "FountainPark$Park", name := "why", desc := "(I)I" } : Jvm.MethodName)) ∈ lw_all := lw_g (lw_at lw_m4 143 rfl) rfl
theorem q956 : (Jvm.Cond.methodLink "FountainPark" (343 : Nat) ({ cls := "FountainPark", name := "daysTold", desc := "(I)I" } : Jvm.MethodName)) ∈ lw_all := lw_g (lw_at lw_m4 144 rfl) rfl
theorem q957 : (Jvm.Cond.privateMethod ({ cls := "FountainPark", name := "daysTold", desc := "(I)I" } : Jvm.MethodName)) ∈ lw_tbl := lw_at lw_m4 145 rfl
theorem q958 : (Jvm.Cond.instanceMethod ({ cls := "FountainPark", name := "daysTold", desc := "(I)I" } : Jvm.MethodName)) ∈ lw_all := lw_g (lw_at lw_m4 146 rfl) rfl
theorem q959 : (Jvm.Cond.code ({ cls := "FountainPark", name := "daysTold", desc := "(I)I" } : Jvm.MethodName) prog_1_method_43_code (3 : Nat) (Option.some Jvm.ClassFile.FieldType.int)) ∈ lw_all := lw_g (lw_at lw_m4 147 rfl) rfl
theorem q960 : (Jvm.Cond.methodLink "FountainPark" (43 : Nat) ({ cls := "FountainPark$Park", name := "become", desc := "(LFountainPark$Park;)V" } : Jvm.MethodName)) ∈ lw_all := lw_g (lw_at lw_m4 148 rfl) rfl
theorem q1459 : (Jvm.Cond.methodLink "FountainPark" (338 : Nat) ({ cls := "FountainPark$Fountain", name := "isUsedUp", desc := "()Z" } : Jvm.MethodName)) ∈ lw_all := lw_g (lw_at lw_m6 167 rfl) rfl
theorem q1460 : (Jvm.Cond.methodLink "FountainPark" (341 : Nat) ({ cls := "FountainPark$Park", name := "pass", desc := "()V" } : Jvm.MethodName)) ∈ lw_all := lw_g (lw_at lw_m6 168 rfl) rfl
theorem q1549 : (Jvm.Cond.selects "FountainPark" ({ cls := "java/lang/Object", name := "getClass", desc := "()Ljava/lang/Class;" } : Jvm.MethodName) ({ cls := "java/lang/Object", name := "getClass", desc := "()Ljava/lang/Class;" } : Jvm.MethodName)) ∈ lw_all := lw_g (lw_at lw_m7 17 rfl) rfl
theorem q1628 : (Jvm.Cond.laysStatic "FountainPark" "NEEDS" "[I") ∈ lw_tbl := lw_at lw_m7 96 rfl
theorem q1705 : (Jvm.Cond.methodLink "FountainPark" (365 : Nat) ({ cls := "FountainPark", name := "mixRows", desc := "()V" } : Jvm.MethodName)) ∈ lw_all := lw_g (lw_at lw_m7 173 rfl) rfl
theorem q1706 : (Jvm.Cond.privateMethod ({ cls := "FountainPark", name := "mixRows", desc := "()V" } : Jvm.MethodName)) ∈ lw_tbl := lw_at lw_m7 174 rfl
theorem q1707 : (Jvm.Cond.instanceMethod ({ cls := "FountainPark", name := "mixRows", desc := "()V" } : Jvm.MethodName)) ∈ lw_all := lw_g (lw_at lw_m7 175 rfl) rfl
theorem q1708 : (Jvm.Cond.code ({ cls := "FountainPark", name := "mixRows", desc := "()V" } : Jvm.MethodName) prog_1_method_50_code (2 : Nat) (Option.none : Option Jvm.ClassFile.FieldType)) ∈ lw_all := lw_g (lw_at lw_m7 176 rfl) rfl
theorem q1709 : (Jvm.Cond.methodLink "FountainPark" (292 : Nat) ({ cls := "FountainPark", name := "jobTold", desc := "(II)I" } : Jvm.MethodName)) ∈ lw_all := lw_g (lw_at lw_m7 177 rfl) rfl
theorem q1710 : (Jvm.Cond.privateMethod ({ cls := "FountainPark", name := "jobTold", desc := "(II)I" } : Jvm.MethodName)) ∈ lw_tbl := lw_at lw_m7 178 rfl
theorem q1711 : (Jvm.Cond.instanceMethod ({ cls := "FountainPark", name := "jobTold", desc := "(II)I" } : Jvm.MethodName)) ∈ lw_all := lw_g (lw_at lw_m7 179 rfl) rfl
theorem q1712 : (Jvm.Cond.code ({ cls := "FountainPark", name := "jobTold", desc := "(II)I" } : Jvm.MethodName) prog_1_method_28_code (4 : Nat) (Option.some Jvm.ClassFile.FieldType.int)) ∈ lw_all := lw_g (lw_at lw_m7 180 rfl) rfl
theorem q1713 : (Jvm.Cond.methodLink "FountainPark" (267 : Nat) ({ cls := "FountainPark$Park", name := "layJobs", desc := "()V" } : Jvm.MethodName)) ∈ lw_all := lw_g (lw_at lw_m7 181 rfl) rfl
theorem q1714 : (Jvm.Cond.methodLink "FountainPark" (274 : Nat) ({ cls := "java/util/PriorityQueue", name := "poll", desc := "()Ljava/lang/Object;" } : Jvm.MethodName)) ∈ lw_all := lw_g (lw_at lw_m7 182 rfl) rfl
theorem q1715 : (Jvm.Cond.classLink "FountainPark" (279 : Nat) "FountainPark$Job") ∈ lw_all := lw_g (lw_at lw_m7 183 rfl) rfl
theorem q1716 : (Jvm.Cond.fieldLink "FountainPark" (286 : Nat) "FountainPark" "NEEDS" "[I") ∈ lw_all := lw_g (lw_at lw_m7 184 rfl) rfl
theorem q1717 : (Jvm.Cond.methodLink "FountainPark" (128 : Nat) ({ cls := "java/util/TreeMap", name := "size", desc := "()I" } : Jvm.MethodName)) ∈ lw_all := lw_g (lw_at lw_m7 185 rfl) rfl
theorem q1718 : (Jvm.Cond.methodLink "FountainPark" (304 : Nat) ({ cls := "FountainPark", name := "frostTold", desc := "(II)I" } : Jvm.MethodName)) ∈ lw_all := lw_g (lw_at lw_m7 186 rfl) rfl
theorem q1719 : (Jvm.Cond.privateMethod ({ cls := "FountainPark", name := "frostTold", desc := "(II)I" } : Jvm.MethodName)) ∈ lw_tbl := lw_at lw_m7 187 rfl
theorem q1720 : (Jvm.Cond.instanceMethod ({ cls := "FountainPark", name := "frostTold", desc := "(II)I" } : Jvm.MethodName)) ∈ lw_all := lw_g (lw_at lw_m7 188 rfl) rfl
theorem q1721 : (Jvm.Cond.code ({ cls := "FountainPark", name := "frostTold", desc := "(II)I" } : Jvm.MethodName) prog_1_method_30_code (6 : Nat) (Option.some Jvm.ClassFile.FieldType.int)) ∈ lw_all := lw_g (lw_at lw_m7 189 rfl) rfl
theorem q1722 : (Jvm.Cond.methodLink "FountainPark" (295 : Nat) ({ cls := "java/util/TreeMap", name := "keySet", desc := "()Ljava/util/Set;" } : Jvm.MethodName)) ∈ lw_all := lw_g (lw_at lw_m7 190 rfl) rfl
theorem q1723 : (Jvm.Cond.interfaceEntry "FountainPark" (299 : Nat)) ∈ lw_tbl := lw_at lw_m7 191 rfl
theorem q1724 : (Jvm.Cond.methodLink "FountainPark" (299 : Nat) ({ cls := "java/util/Set", name := "iterator", desc := "()Ljava/util/Iterator;" } : Jvm.MethodName)) ∈ lw_all := lw_g (lw_at lw_m7 192 rfl) rfl
theorem q1725 : (Jvm.Cond.interfaceEntry "FountainPark" (171 : Nat)) ∈ lw_tbl := lw_at lw_m7 193 rfl
theorem q1726 : (Jvm.Cond.methodLink "FountainPark" (171 : Nat) ({ cls := "java/util/Iterator", name := "hasNext", desc := "()Z" } : Jvm.MethodName)) ∈ lw_all := lw_g (lw_at lw_m7 194 rfl) rfl
theorem q1727 : (Jvm.Cond.interfaceEntry "FountainPark" (177 : Nat)) ∈ lw_tbl := lw_at lw_m7 195 rfl
theorem q1728 : (Jvm.Cond.methodLink "FountainPark" (177 : Nat) ({ cls := "java/util/Iterator", name := "next", desc := "()Ljava/lang/Object;" } : Jvm.MethodName)) ∈ lw_all := lw_g (lw_at lw_m7 196 rfl) rfl
theorem q1729 : (Jvm.Cond.classLink "FountainPark" (132 : Nat) "java/lang/Integer") ∈ lw_all := lw_g (lw_at lw_m7 197 rfl) rfl
theorem q1730 : (Jvm.Cond.methodLink "FountainPark" (302 : Nat) ({ cls := "java/util/TreeMap", name := "get", desc := "(Ljava/lang/Object;)Ljava/lang/Object;" } : Jvm.MethodName)) ∈ lw_all := lw_g (lw_at lw_m7 198 rfl) rfl
theorem q1731 : (Jvm.Cond.methodLink "FountainPark" (150 : Nat) ({ cls := "java/lang/Integer", name := "intValue", desc := "()I" } : Jvm.MethodName)) ∈ lw_all := lw_g (lw_at lw_m7 199 rfl) rfl
theorem q1732 : (Jvm.Cond.methodLink "FountainPark" (310 : Nat) ({ cls := "FountainPark", name := "outingTold", desc := "(II)I" } : Jvm.MethodName)) ∈ lw_all := lw_g (lw_at lw_m7 200 rfl) rfl
theorem q1733 : (Jvm.Cond.privateMethod ({ cls := "FountainPark", name := "outingTold", desc := "(II)I" } : Jvm.MethodName)) ∈ lw_tbl := lw_at lw_m7 201 rfl
theorem q1734 : (Jvm.Cond.instanceMethod ({ cls := "FountainPark", name := "outingTold", desc := "(II)I" } : Jvm.MethodName)) ∈ lw_all := lw_g (lw_at lw_m7 202 rfl) rfl
theorem q1735 : (Jvm.Cond.code ({ cls := "FountainPark", name := "outingTold", desc := "(II)I" } : Jvm.MethodName) prog_1_method_32_code (6 : Nat) (Option.some Jvm.ClassFile.FieldType.int)) ∈ lw_all := lw_g (lw_at lw_m7 203 rfl) rfl
theorem q1736 : (Jvm.Cond.methodLink "FountainPark" (167 : Nat) ({ cls := "java/util/TreeSet", name := "iterator", desc := "()Ljava/util/Iterator;" } : Jvm.MethodName)) ∈ lw_all := lw_g (lw_at lw_m7 204 rfl) rfl
theorem q1737 : (Jvm.Cond.classLink "FountainPark" (181 : Nat) "FountainPark$Outing") ∈ lw_all := lw_g (lw_at lw_m7 205 rfl) rfl
theorem q1738 : (Jvm.Cond.methodLink "FountainPark" (368 : Nat) ({ cls := "FountainPark", name := "mixTries", desc := "()V" } : Jvm.MethodName)) ∈ lw_all := lw_g (lw_at lw_m7 206 rfl) rfl
theorem q1739 : (Jvm.Cond.privateMethod ({ cls := "FountainPark", name := "mixTries", desc := "()V" } : Jvm.MethodName)) ∈ lw_tbl := lw_at lw_m7 207 rfl
theorem q1740 : (Jvm.Cond.instanceMethod ({ cls := "FountainPark", name := "mixTries", desc := "()V" } : Jvm.MethodName)) ∈ lw_all := lw_g (lw_at lw_m7 208 rfl) rfl
theorem q1741 : (Jvm.Cond.code ({ cls := "FountainPark", name := "mixTries", desc := "()V" } : Jvm.MethodName) prog_1_method_51_code (2 : Nat) (Option.none : Option Jvm.ClassFile.FieldType)) ∈ lw_all := lw_g (lw_at lw_m7 209 rfl) rfl
theorem q1742 : (Jvm.Cond.methodLink "FountainPark" (329 : Nat) ({ cls := "FountainPark", name := "passedTold", desc := "(II)I" } : Jvm.MethodName)) ∈ lw_all := lw_g (lw_at lw_m7 210 rfl) rfl
theorem q1743 : (Jvm.Cond.privateMethod ({ cls := "FountainPark", name := "passedTold", desc := "(II)I" } : Jvm.MethodName)) ∈ lw_tbl := lw_at lw_m7 211 rfl
theorem q1744 : (Jvm.Cond.instanceMethod ({ cls := "FountainPark", name := "passedTold", desc := "(II)I" } : Jvm.MethodName)) ∈ lw_all := lw_g (lw_at lw_m7 212 rfl) rfl
theorem q1745 : (Jvm.Cond.code ({ cls := "FountainPark", name := "passedTold", desc := "(II)I" } : Jvm.MethodName) prog_1_method_37_code (4 : Nat) (Option.some Jvm.ClassFile.FieldType.int)) ∈ lw_all := lw_g (lw_at lw_m7 213 rfl) rfl
theorem q1746 : (Jvm.Cond.methodLink "FountainPark" (205 : Nat) ({ cls := "FountainPark$Park", name := "pass", desc := "(I)I" } : Jvm.MethodName)) ∈ lw_all := lw_g (lw_at lw_m7 214 rfl) rfl
theorem q1751 : (Jvm.Cond.methodLink "FountainPark" (332 : Nat) ({ cls := "FountainPark", name := "outingMore", desc := "(II)I" } : Jvm.MethodName)) ∈ lw_all := lw_g (lw_at lw_m7 219 rfl) rfl
theorem q1752 : (Jvm.Cond.privateMethod ({ cls := "FountainPark", name := "outingMore", desc := "(II)I" } : Jvm.MethodName)) ∈ lw_tbl := lw_at lw_m7 220 rfl
theorem q1753 : (Jvm.Cond.instanceMethod ({ cls := "FountainPark", name := "outingMore", desc := "(II)I" } : Jvm.MethodName)) ∈ lw_all := lw_g (lw_at lw_m7 221 rfl) rfl
theorem q1754 : (Jvm.Cond.code ({ cls := "FountainPark", name := "outingMore", desc := "(II)I" } : Jvm.MethodName) prog_1_method_39_code (4 : Nat) (Option.some Jvm.ClassFile.FieldType.int)) ∈ lw_all := lw_g (lw_at lw_m7 222 rfl) rfl
theorem q1755 : (Jvm.Cond.methodLink "FountainPark" (163 : Nat) ({ cls := "FountainPark$Park", name := "plan", desc := "(III)V" } : Jvm.MethodName)) ∈ lw_all := lw_g (lw_at lw_m7 223 rfl) rfl
theorem q1766 : (Jvm.Cond.fieldLinkNest "FountainPark" (183 : Nat) "FountainPark$Outing" "day" "I" "FountainPark") ∈ lw_tbl := lw_at lw_m7 234 rfl
theorem q1769 : (Jvm.Cond.fieldLinkNest "FountainPark" (184 : Nat) "FountainPark$Outing" "children" "I" "FountainPark") ∈ lw_tbl := lw_at lw_m7 237 rfl
theorem q1772 : (Jvm.Cond.fieldLinkNest "FountainPark" (307 : Nat) "FountainPark$Outing" "gate" "I" "FountainPark") ∈ lw_tbl := lw_at lw_m8 0 rfl
theorem q1783 : (Jvm.Cond.methodLink "FountainPark" (335 : Nat) ({ cls := "FountainPark", name := "gateTold", desc := "(I)I" } : Jvm.MethodName)) ∈ lw_all := lw_g (lw_at lw_m8 11 rfl) rfl
theorem q1784 : (Jvm.Cond.privateMethod ({ cls := "FountainPark", name := "gateTold", desc := "(I)I" } : Jvm.MethodName)) ∈ lw_tbl := lw_at lw_m8 12 rfl
theorem q1785 : (Jvm.Cond.instanceMethod ({ cls := "FountainPark", name := "gateTold", desc := "(I)I" } : Jvm.MethodName)) ∈ lw_all := lw_g (lw_at lw_m8 13 rfl) rfl
theorem q1786 : (Jvm.Cond.code ({ cls := "FountainPark", name := "gateTold", desc := "(I)I" } : Jvm.MethodName) prog_1_method_41_code (6 : Nat) (Option.some Jvm.ClassFile.FieldType.int)) ∈ lw_all := lw_g (lw_at lw_m8 14 rfl) rfl
theorem q1787 : (Jvm.Cond.methodLink "FountainPark" (346 : Nat) ({ cls := "FountainPark", name := "orderTold", desc := "(I)I" } : Jvm.MethodName)) ∈ lw_all := lw_g (lw_at lw_m8 15 rfl) rfl
theorem q1788 : (Jvm.Cond.privateMethod ({ cls := "FountainPark", name := "orderTold", desc := "(I)I" } : Jvm.MethodName)) ∈ lw_tbl := lw_at lw_m8 16 rfl
theorem q1789 : (Jvm.Cond.instanceMethod ({ cls := "FountainPark", name := "orderTold", desc := "(I)I" } : Jvm.MethodName)) ∈ lw_all := lw_g (lw_at lw_m8 17 rfl) rfl
theorem q1790 : (Jvm.Cond.code ({ cls := "FountainPark", name := "orderTold", desc := "(I)I" } : Jvm.MethodName) prog_1_method_45_code (8 : Nat) (Option.some Jvm.ClassFile.FieldType.int)) ∈ lw_all := lw_g (lw_at lw_m8 18 rfl) rfl
theorem q1791 : (Jvm.Cond.methodLink "FountainPark" (371 : Nat) ({ cls := "java/lang/Double", name := "doubleToLongBits", desc := "(D)J" } : Jvm.MethodName)) ∈ lw_all := lw_g (lw_at lw_m8 19 rfl) rfl
theorem q1801 : (Jvm.Cond.methodLink "FountainPark" (377 : Nat) ({ cls := "java/lang/StringBuilder", name := "charAt", desc := "(I)C" } : Jvm.MethodName)) ∈ lw_all := lw_g (lw_at lw_m8 29 rfl) rfl
theorem q1811 : (Jvm.Cond.instanceMethod ({ cls := "FountainPark", name := "build", desc := "(IIIZ)I" } : Jvm.MethodName)) ∈ lw_all := lw_g (lw_at lw_m8 39 rfl) rfl
theorem q1812 : (Jvm.Cond.selects "FountainPark" ({ cls := "FountainPark", name := "build", desc := "(IIIZ)I" } : Jvm.MethodName) ({ cls := "FountainPark", name := "build", desc := "(IIIZ)I" } : Jvm.MethodName)) ∈ lw_all := lw_g (lw_at lw_m8 40 rfl) rfl
theorem q1813 : (Jvm.Cond.code ({ cls := "FountainPark", name := "build", desc := "(IIIZ)I" } : Jvm.MethodName) prog_1_method_10_code (5 : Nat) (Option.some Jvm.ClassFile.FieldType.int)) ∈ lw_all := lw_g (lw_at lw_m8 41 rfl) rfl
theorem q1814 : (Jvm.Cond.methodLink "FountainPark" (64 : Nat) ({ cls := "FountainPark", name := "isPlace", desc := "(I)Z" } : Jvm.MethodName)) ∈ lw_all := lw_g (lw_at lw_m8 42 rfl) rfl
theorem q1815 : (Jvm.Cond.methodLink "FountainPark" (68 : Nat) ({ cls := "FountainPark", name := "needIndex", desc := "(Z)V" } : Jvm.MethodName)) ∈ lw_all := lw_g (lw_at lw_m8 43 rfl) rfl
theorem q1816 : (Jvm.Cond.static ({ cls := "FountainPark", name := "needIndex", desc := "(Z)V" } : Jvm.MethodName)) ∈ lw_all := lw_g (lw_at lw_m8 44 rfl) rfl
theorem q1817 : (Jvm.Cond.code ({ cls := "FountainPark", name := "needIndex", desc := "(Z)V" } : Jvm.MethodName) prog_1_method_5_code (1 : Nat) (Option.none : Option Jvm.ClassFile.FieldType)) ∈ lw_all := lw_g (lw_at lw_m8 45 rfl) rfl
theorem q1818 : (Jvm.Cond.classLink "FountainPark" (54 : Nat) "java/lang/IndexOutOfBoundsException") ∈ lw_all := lw_g (lw_at lw_m8 46 rfl) rfl
theorem q1827 : (Jvm.Cond.methodLink "FountainPark" (56 : Nat) ({ cls := "java/lang/IndexOutOfBoundsException", name := "<init>", desc := "()V" } : Jvm.MethodName)) ∈ lw_all := lw_g (lw_at lw_m8 55 rfl) rfl
theorem q1833 : (Jvm.Cond.methodLink "FountainPark" (85 : Nat) ({ cls := "FountainPark", name := "need", desc := "(Z)V" } : Jvm.MethodName)) ∈ lw_all := lw_g (lw_at lw_m8 61 rfl) rfl
theorem q1834 : (Jvm.Cond.static ({ cls := "FountainPark", name := "need", desc := "(Z)V" } : Jvm.MethodName)) ∈ lw_all := lw_g (lw_at lw_m8 62 rfl) rfl
theorem q1835 : (Jvm.Cond.code ({ cls := "FountainPark", name := "need", desc := "(Z)V" } : Jvm.MethodName) prog_1_method_4_code (1 : Nat) (Option.none : Option Jvm.ClassFile.FieldType)) ∈ lw_all := lw_g (lw_at lw_m8 63 rfl) rfl
theorem q1836 : (Jvm.Cond.classLink "FountainPark" (51 : Nat) "java/lang/IllegalArgumentException") ∈ lw_all := lw_g (lw_at lw_m8 64 rfl) rfl
theorem q1837 : (Jvm.Cond.methodLink "FountainPark" (53 : Nat) ({ cls := "java/lang/IllegalArgumentException", name := "<init>", desc := "()V" } : Jvm.MethodName)) ∈ lw_all := lw_g (lw_at lw_m8 65 rfl) rfl
theorem q1838 : (Jvm.Cond.methodLink "FountainPark" (82 : Nat) ({ cls := "FountainPark", name := "needState", desc := "(Z)V" } : Jvm.MethodName)) ∈ lw_all := lw_g (lw_at lw_m8 66 rfl) rfl
theorem q1839 : (Jvm.Cond.static ({ cls := "FountainPark", name := "needState", desc := "(Z)V" } : Jvm.MethodName)) ∈ lw_all := lw_g (lw_at lw_m8 67 rfl) rfl
theorem q1840 : (Jvm.Cond.code ({ cls := "FountainPark", name := "needState", desc := "(Z)V" } : Jvm.MethodName) prog_1_method_6_code (1 : Nat) (Option.none : Option Jvm.ClassFile.FieldType)) ∈ lw_all := lw_g (lw_at lw_m8 68 rfl) rfl
theorem q1841 : (Jvm.Cond.classLink "FountainPark" (57 : Nat) "java/lang/IllegalStateException") ∈ lw_all := lw_g (lw_at lw_m8 69 rfl) rfl
theorem q1850 : (Jvm.Cond.methodLink "FountainPark" (59 : Nat) ({ cls := "java/lang/IllegalStateException", name := "<init>", desc := "()V" } : Jvm.MethodName)) ∈ lw_all := lw_g (lw_at lw_m8 78 rfl) rfl
theorem q1856 : (Jvm.Cond.methodLink "FountainPark" (88 : Nat) ({ cls := "FountainPark", name := "save", desc := "()V" } : Jvm.MethodName)) ∈ lw_all := lw_g (lw_at lw_m8 84 rfl) rfl
theorem q1857 : (Jvm.Cond.privateMethod ({ cls := "FountainPark", name := "save", desc := "()V" } : Jvm.MethodName)) ∈ lw_tbl := lw_at lw_m8 85 rfl
theorem q1858 : (Jvm.Cond.instanceMethod ({ cls := "FountainPark", name := "save", desc := "()V" } : Jvm.MethodName)) ∈ lw_all := lw_g (lw_at lw_m8 86 rfl) rfl
theorem q1859 : (Jvm.Cond.code ({ cls := "FountainPark", name := "save", desc := "()V" } : Jvm.MethodName) prog_1_method_3_code (2 : Nat) (Option.none : Option Jvm.ClassFile.FieldType)) ∈ lw_all := lw_g (lw_at lw_m8 87 rfl) rfl
theorem q1860 : (Jvm.Cond.methodLink "FountainPark" (39 : Nat) ({ cls := "java/util/ArrayList", name := "remove", desc := "(I)Ljava/lang/Object;" } : Jvm.MethodName)) ∈ lw_all := lw_g (lw_at lw_m8 88 rfl) rfl
theorem q1873 : (Jvm.Cond.methodLink "FountainPark" (47 : Nat) ({ cls := "java/util/ArrayList", name := "add", desc := "(Ljava/lang/Object;)Z" } : Jvm.MethodName)) ∈ lw_all := lw_g (lw_at lw_m8 101 rfl) rfl
theorem q1893 : (Jvm.Cond.methodLink "FountainPark" (91 : Nat) ({ cls := "FountainPark$Fountain", name := "build", desc := "(IIZ)V" } : Jvm.MethodName)) ∈ lw_all := lw_g (lw_at lw_m8 121 rfl) rfl
theorem q1904 : (Jvm.Cond.instanceMethod ({ cls := "FountainPark", name := "remove", desc := "(I)I" } : Jvm.MethodName)) ∈ lw_all := lw_g (lw_at lw_m8 132 rfl) rfl
theorem q1905 : (Jvm.Cond.selects "FountainPark" ({ cls := "FountainPark", name := "remove", desc := "(I)I" } : Jvm.MethodName) ({ cls := "FountainPark", name := "remove", desc := "(I)I" } : Jvm.MethodName)) ∈ lw_all := lw_g (lw_at lw_m8 133 rfl) rfl
theorem q1906 : (Jvm.Cond.code ({ cls := "FountainPark", name := "remove", desc := "(I)I" } : Jvm.MethodName) prog_1_method_11_code (4 : Nat) (Option.some Jvm.ClassFile.FieldType.int)) ∈ lw_all := lw_g (lw_at lw_m8 134 rfl) rfl
theorem q1907 : (Jvm.Cond.methodLink "FountainPark" (99 : Nat) ({ cls := "FountainPark", name := "there", desc := "(I)LFountainPark$Fountain;" } : Jvm.MethodName)) ∈ lw_all := lw_g (lw_at lw_m8 135 rfl) rfl
theorem q1908 : (Jvm.Cond.privateMethod ({ cls := "FountainPark", name := "there", desc := "(I)LFountainPark$Fountain;" } : Jvm.MethodName)) ∈ lw_tbl := lw_at lw_m8 136 rfl
theorem q1909 : (Jvm.Cond.instanceMethod ({ cls := "FountainPark", name := "there", desc := "(I)LFountainPark$Fountain;" } : Jvm.MethodName)) ∈ lw_all := lw_g (lw_at lw_m8 137 rfl) rfl
theorem q1910 : (Jvm.Cond.code ({ cls := "FountainPark", name := "there", desc := "(I)LFountainPark$Fountain;" } : Jvm.MethodName) prog_1_method_9_code (2 : Nat) (Option.some (Jvm.ClassFile.FieldType.object "FountainPark$Fountain"))) ∈ lw_all := lw_g (lw_at lw_m8 138 rfl) rfl
theorem q1911 : (Jvm.Cond.methodLink "FountainPark" (103 : Nat) ({ cls := "FountainPark$Fountain", name := "jobs", desc := "()I" } : Jvm.MethodName)) ∈ lw_all := lw_g (lw_at lw_m8 139 rfl) rfl
theorem q1912 : (Jvm.Cond.classLink "FountainPark" (77 : Nat) "FountainPark$Fountain") ∈ lw_all := lw_g (lw_at lw_m8 140 rfl) rfl
theorem q1913 : (Jvm.Cond.methodLinkNest "FountainPark" (106 : Nat) ({ cls := "FountainPark$Fountain", name := "<init>", desc := "()V" } : Jvm.MethodName) "FountainPark") ∈ lw_tbl := lw_at lw_m8 141 rfl
theorem q1914 : (Jvm.Cond.methodLink "FountainPark" (107 : Nat) ({ cls := "FountainPark$Fountain", name := "become", desc := "(LFountainPark$Fountain;)V" } : Jvm.MethodName)) ∈ lw_all := lw_g (lw_at lw_m8 142 rfl) rfl
theorem q1919 : (Jvm.Cond.instanceMethod ({ cls := "FountainPark", name := "drain", desc := "(IZ)I" } : Jvm.MethodName)) ∈ lw_all := lw_g (lw_at lw_m8 147 rfl) rfl
theorem q1920 : (Jvm.Cond.selects "FountainPark" ({ cls := "FountainPark", name := "drain", desc := "(IZ)I" } : Jvm.MethodName) ({ cls := "FountainPark", name := "drain", desc := "(IZ)I" } : Jvm.MethodName)) ∈ lw_all := lw_g (lw_at lw_m8 148 rfl) rfl
theorem q1921 : (Jvm.Cond.code ({ cls := "FountainPark", name := "drain", desc := "(IZ)I" } : Jvm.MethodName) prog_1_method_12_code (5 : Nat) (Option.some Jvm.ClassFile.FieldType.int)) ∈ lw_all := lw_g (lw_at lw_m8 149 rfl) rfl
theorem q1926 : (Jvm.Cond.instanceMethod ({ cls := "FountainPark", name := "heat", desc := "(IZ)I" } : Jvm.MethodName)) ∈ lw_all := lw_g (lw_at lw_m8 154 rfl) rfl
theorem q1927 : (Jvm.Cond.selects "FountainPark" ({ cls := "FountainPark", name := "heat", desc := "(IZ)I" } : Jvm.MethodName) ({ cls := "FountainPark", name := "heat", desc := "(IZ)I" } : Jvm.MethodName)) ∈ lw_all := lw_g (lw_at lw_m8 155 rfl) rfl
theorem q1928 : (Jvm.Cond.code ({ cls := "FountainPark", name := "heat", desc := "(IZ)I" } : Jvm.MethodName) prog_1_method_13_code (5 : Nat) (Option.some Jvm.ClassFile.FieldType.int)) ∈ lw_all := lw_g (lw_at lw_m8 156 rfl) rfl
theorem q1933 : (Jvm.Cond.instanceMethod ({ cls := "FountainPark", name := "frost", desc := "(II)I" } : Jvm.MethodName)) ∈ lw_all := lw_g (lw_at lw_m8 161 rfl) rfl
theorem q1934 : (Jvm.Cond.selects "FountainPark" ({ cls := "FountainPark", name := "frost", desc := "(II)I" } : Jvm.MethodName) ({ cls := "FountainPark", name := "frost", desc := "(II)I" } : Jvm.MethodName)) ∈ lw_all := lw_g (lw_at lw_m8 162 rfl) rfl
theorem q1935 : (Jvm.Cond.code ({ cls := "FountainPark", name := "frost", desc := "(II)I" } : Jvm.MethodName) prog_1_method_14_code (3 : Nat) (Option.some Jvm.ClassFile.FieldType.int)) ∈ lw_all := lw_g (lw_at lw_m8 163 rfl) rfl
theorem q1936 : (Jvm.Cond.methodLink "FountainPark" (120 : Nat) ({ cls := "FountainPark$Park", name := "meets", desc := "(II)Z" } : Jvm.MethodName)) ∈ lw_all := lw_g (lw_at lw_m8 164 rfl) rfl
theorem q1940 : (Jvm.Cond.methodLink "FountainPark" (131 : Nat) ({ cls := "java/lang/Integer", name := "valueOf", desc := "(I)Ljava/lang/Integer;" } : Jvm.MethodName)) ∈ lw_all := lw_g (lw_at lw_m8 168 rfl) rfl
theorem q1941 : (Jvm.Cond.methodLink "FountainPark" (137 : Nat) ({ cls := "java/util/TreeMap", name := "put", desc := "(Ljava/lang/Object;Ljava/lang/Object;)Ljava/lang/Object;" } : Jvm.MethodName)) ∈ lw_all := lw_g (lw_at lw_m8 169 rfl) rfl
theorem q1942 : (Jvm.Cond.methodLink "FountainPark" (141 : Nat) ({ cls := "FountainPark$Park", name := "lookOut", desc := "()V" } : Jvm.MethodName)) ∈ lw_all := lw_g (lw_at lw_m8 170 rfl) rfl
theorem q1947 : (Jvm.Cond.instanceMethod ({ cls := "FountainPark", name := "thaw", desc := "(I)I" } : Jvm.MethodName)) ∈ lw_all := lw_g (lw_at lw_m8 175 rfl) rfl
theorem q1948 : (Jvm.Cond.selects "FountainPark" ({ cls := "FountainPark", name := "thaw", desc := "(I)I" } : Jvm.MethodName) ({ cls := "FountainPark", name := "thaw", desc := "(I)I" } : Jvm.MethodName)) ∈ lw_all := lw_g (lw_at lw_m8 176 rfl) rfl
theorem q1949 : (Jvm.Cond.code ({ cls := "FountainPark", name := "thaw", desc := "(I)I" } : Jvm.MethodName) prog_1_method_15_code (3 : Nat) (Option.some Jvm.ClassFile.FieldType.int)) ∈ lw_all := lw_g (lw_at lw_m8 177 rfl) rfl
theorem q1950 : (Jvm.Cond.methodLink "FountainPark" (144 : Nat) ({ cls := "java/util/TreeMap", name := "containsKey", desc := "(Ljava/lang/Object;)Z" } : Jvm.MethodName)) ∈ lw_all := lw_g (lw_at lw_m8 178 rfl) rfl
theorem q1954 : (Jvm.Cond.methodLink "FountainPark" (147 : Nat) ({ cls := "java/util/TreeMap", name := "remove", desc := "(Ljava/lang/Object;)Ljava/lang/Object;" } : Jvm.MethodName)) ∈ lw_all := lw_g (lw_at lw_m8 182 rfl) rfl
theorem q1959 : (Jvm.Cond.instanceMethod ({ cls := "FountainPark", name := "plan", desc := "(III)I" } : Jvm.MethodName)) ∈ lw_all := lw_g (lw_at lw_m8 187 rfl) rfl
theorem q1960 : (Jvm.Cond.selects "FountainPark" ({ cls := "FountainPark", name := "plan", desc := "(III)I" } : Jvm.MethodName) ({ cls := "FountainPark", name := "plan", desc := "(III)I" } : Jvm.MethodName)) ∈ lw_all := lw_g (lw_at lw_m8 188 rfl) rfl
theorem q1961 : (Jvm.Cond.code ({ cls := "FountainPark", name := "plan", desc := "(III)I" } : Jvm.MethodName) prog_1_method_16_code (4 : Nat) (Option.some Jvm.ClassFile.FieldType.int)) ∈ lw_all := lw_g (lw_at lw_m8 189 rfl) rfl
theorem q1962 : (Jvm.Cond.methodLink "FountainPark" (153 : Nat) ({ cls := "FountainPark", name := "areChildren", desc := "(I)Z" } : Jvm.MethodName)) ∈ lw_all := lw_g (lw_at lw_m8 190 rfl) rfl
theorem q1963 : (Jvm.Cond.static ({ cls := "FountainPark", name := "areChildren", desc := "(I)Z" } : Jvm.MethodName)) ∈ lw_all := lw_g (lw_at lw_m8 191 rfl) rfl
theorem q1964 : (Jvm.Cond.code ({ cls := "FountainPark", name := "areChildren", desc := "(I)Z" } : Jvm.MethodName) prog_1_method_8_code (1 : Nat) (Option.some Jvm.ClassFile.FieldType.boolean)) ∈ lw_all := lw_g (lw_at lw_m8 192 rfl) rfl
theorem q1969 : (Jvm.Cond.instanceMethod ({ cls := "FountainPark", name := "callOff", desc := "(I)I" } : Jvm.MethodName)) ∈ lw_all := lw_g (lw_at lw_m8 197 rfl) rfl
theorem q1970 : (Jvm.Cond.selects "FountainPark" ({ cls := "FountainPark", name := "callOff", desc := "(I)I" } : Jvm.MethodName) ({ cls := "FountainPark", name := "callOff", desc := "(I)I" } : Jvm.MethodName)) ∈ lw_all := lw_g (lw_at lw_m8 198 rfl) rfl
theorem q1971 : (Jvm.Cond.code ({ cls := "FountainPark", name := "callOff", desc := "(I)I" } : Jvm.MethodName) prog_1_method_17_code (6 : Nat) (Option.some Jvm.ClassFile.FieldType.int)) ∈ lw_all := lw_g (lw_at lw_m8 199 rfl) rfl
theorem q1972 : (Jvm.Cond.methodLink "FountainPark" (187 : Nat) ({ cls := "java/util/ArrayList", name := "get", desc := "(I)Ljava/lang/Object;" } : Jvm.MethodName)) ∈ lw_all := lw_g (lw_at lw_m8 200 rfl) rfl
theorem q1980 : (Jvm.Cond.methodLink "FountainPark" (190 : Nat) ({ cls := "java/util/TreeSet", name := "remove", desc := "(Ljava/lang/Object;)Z" } : Jvm.MethodName)) ∈ lw_all := lw_g (lw_at lw_m8 208 rfl) rfl
theorem q1985 : (Jvm.Cond.instanceMethod ({ cls := "FountainPark", name := "set", desc := "(II)I" } : Jvm.MethodName)) ∈ lw_all := lw_g (lw_at lw_m8 213 rfl) rfl
theorem q1986 : (Jvm.Cond.selects "FountainPark" ({ cls := "FountainPark", name := "set", desc := "(II)I" } : Jvm.MethodName) ({ cls := "FountainPark", name := "set", desc := "(II)I" } : Jvm.MethodName)) ∈ lw_all := lw_g (lw_at lw_m8 214 rfl) rfl
theorem q1987 : (Jvm.Cond.code ({ cls := "FountainPark", name := "set", desc := "(II)I" } : Jvm.MethodName) prog_1_method_19_code (4 : Nat) (Option.some Jvm.ClassFile.FieldType.int)) ∈ lw_all := lw_g (lw_at lw_m8 215 rfl) rfl
theorem q1988 : (Jvm.Cond.methodLink "FountainPark" (192 : Nat) ({ cls := "FountainPark", name := "isSetting", desc := "(I)Z" } : Jvm.MethodName)) ∈ lw_all := lw_g (lw_at lw_m8 216 rfl) rfl
theorem q1989 : (Jvm.Cond.static ({ cls := "FountainPark", name := "isSetting", desc := "(I)Z" } : Jvm.MethodName)) ∈ lw_all := lw_g (lw_at lw_m8 217 rfl) rfl
theorem q1990 : (Jvm.Cond.code ({ cls := "FountainPark", name := "isSetting", desc := "(I)Z" } : Jvm.MethodName) prog_1_method_18_code (1 : Nat) (Option.some Jvm.ClassFile.FieldType.boolean)) ∈ lw_all := lw_g (lw_at lw_m8 218 rfl) rfl
theorem q1991 : (Jvm.Cond.fieldLink "FountainPark" (195 : Nat) "FountainPark" "LEAST" "[I") ∈ lw_all := lw_g (lw_at lw_m8 219 rfl) rfl
theorem q1992 : (Jvm.Cond.laysStatic "FountainPark" "LEAST" "[I") ∈ lw_tbl := lw_at lw_m8 220 rfl
theorem q1993 : (Jvm.Cond.fieldLink "FountainPark" (199 : Nat) "FountainPark" "MOST" "[I") ∈ lw_all := lw_g (lw_at lw_m8 221 rfl) rfl
theorem q1994 : (Jvm.Cond.laysStatic "FountainPark" "MOST" "[I") ∈ lw_tbl := lw_at lw_m8 222 rfl
theorem q1999 : (Jvm.Cond.instanceMethod ({ cls := "FountainPark", name := "pass", desc := "(I)I" } : Jvm.MethodName)) ∈ lw_all := lw_g (lw_at lw_m8 227 rfl) rfl
theorem q2000 : (Jvm.Cond.selects "FountainPark" ({ cls := "FountainPark", name := "pass", desc := "(I)I" } : Jvm.MethodName) ({ cls := "FountainPark", name := "pass", desc := "(I)I" } : Jvm.MethodName)) ∈ lw_all := lw_g (lw_at lw_m8 228 rfl) rfl
theorem q2001 : (Jvm.Cond.code ({ cls := "FountainPark", name := "pass", desc := "(I)I" } : Jvm.MethodName) prog_1_method_20_code (2 : Nat) (Option.some Jvm.ClassFile.FieldType.int)) ∈ lw_all := lw_g (lw_at lw_m8 229 rfl) rfl
theorem q2006 : (Jvm.Cond.instanceMethod ({ cls := "FountainPark", name := "append", desc := "(I)I" } : Jvm.MethodName)) ∈ lw_all := lw_g (lw_at lw_m8 234 rfl) rfl
theorem q2007 : (Jvm.Cond.selects "FountainPark" ({ cls := "FountainPark", name := "append", desc := "(I)I" } : Jvm.MethodName) ({ cls := "FountainPark", name := "append", desc := "(I)I" } : Jvm.MethodName)) ∈ lw_all := lw_g (lw_at lw_m8 235 rfl) rfl
theorem q2008 : (Jvm.Cond.code ({ cls := "FountainPark", name := "append", desc := "(I)I" } : Jvm.MethodName) prog_1_method_21_code (2 : Nat) (Option.some Jvm.ClassFile.FieldType.int)) ∈ lw_all := lw_g (lw_at lw_m8 236 rfl) rfl
theorem q2009 : (Jvm.Cond.methodLink "FountainPark" (212 : Nat) ({ cls := "java/lang/StringBuilder", name := "append", desc := "(C)Ljava/lang/StringBuilder;" } : Jvm.MethodName)) ∈ lw_all := lw_g (lw_at lw_m8 237 rfl) rfl
theorem q2030 : (Jvm.Cond.instanceMethod ({ cls := "FountainPark", name := "planAll", desc := "()I" } : Jvm.MethodName)) ∈ lw_all := lw_g (lw_at lw_m9 18 rfl) rfl
theorem q2031 : (Jvm.Cond.selects "FountainPark" ({ cls := "FountainPark", name := "planAll", desc := "()I" } : Jvm.MethodName) ({ cls := "FountainPark", name := "planAll", desc := "()I" } : Jvm.MethodName)) ∈ lw_all := lw_g (lw_at lw_m9 19 rfl) rfl
theorem q2032 : (Jvm.Cond.code ({ cls := "FountainPark", name := "planAll", desc := "()I" } : Jvm.MethodName) prog_1_method_24_code (4 : Nat) (Option.some Jvm.ClassFile.FieldType.int)) ∈ lw_all := lw_g (lw_at lw_m9 20 rfl) rfl
theorem q2037 : (Jvm.Cond.instanceMethod ({ cls := "FountainPark", name := "undo", desc := "()I" } : Jvm.MethodName)) ∈ lw_all := lw_g (lw_at lw_m9 25 rfl) rfl
theorem q2038 : (Jvm.Cond.selects "FountainPark" ({ cls := "FountainPark", name := "undo", desc := "()I" } : Jvm.MethodName) ({ cls := "FountainPark", name := "undo", desc := "()I" } : Jvm.MethodName)) ∈ lw_all := lw_g (lw_at lw_m9 26 rfl) rfl
theorem q2039 : (Jvm.Cond.code ({ cls := "FountainPark", name := "undo", desc := "()I" } : Jvm.MethodName) prog_1_method_25_code (1 : Nat) (Option.some Jvm.ClassFile.FieldType.int)) ∈ lw_all := lw_g (lw_at lw_m9 27 rfl) rfl
theorem q2040 : (Jvm.Cond.methodLink "FountainPark" (235 : Nat) ({ cls := "java/util/ArrayList", name := "isEmpty", desc := "()Z" } : Jvm.MethodName)) ∈ lw_all := lw_g (lw_at lw_m9 28 rfl) rfl
theorem q2048 : (Jvm.Cond.instanceMethod ({ cls := "FountainPark", name := "fountain", desc := "(II)I" } : Jvm.MethodName)) ∈ lw_all := lw_g (lw_at lw_m9 36 rfl) rfl
theorem q2049 : (Jvm.Cond.selects "FountainPark" ({ cls := "FountainPark", name := "fountain", desc := "(II)I" } : Jvm.MethodName) ({ cls := "FountainPark", name := "fountain", desc := "(II)I" } : Jvm.MethodName)) ∈ lw_all := lw_g (lw_at lw_m9 37 rfl) rfl
theorem q2050 : (Jvm.Cond.code ({ cls := "FountainPark", name := "fountain", desc := "(II)I" } : Jvm.MethodName) prog_1_method_27_code (3 : Nat) (Option.some Jvm.ClassFile.FieldType.int)) ∈ lw_all := lw_g (lw_at lw_m9 38 rfl) rfl
theorem q2055 : (Jvm.Cond.instanceMethod ({ cls := "FountainPark", name := "job", desc := "(II)I" } : Jvm.MethodName)) ∈ lw_all := lw_g (lw_at lw_m9 43 rfl) rfl
theorem q2056 : (Jvm.Cond.selects "FountainPark" ({ cls := "FountainPark", name := "job", desc := "(II)I" } : Jvm.MethodName) ({ cls := "FountainPark", name := "job", desc := "(II)I" } : Jvm.MethodName)) ∈ lw_all := lw_g (lw_at lw_m9 44 rfl) rfl
theorem q2057 : (Jvm.Cond.code ({ cls := "FountainPark", name := "job", desc := "(II)I" } : Jvm.MethodName) prog_1_method_29_code (3 : Nat) (Option.some Jvm.ClassFile.FieldType.int)) ∈ lw_all := lw_g (lw_at lw_m9 45 rfl) rfl
theorem q2062 : (Jvm.Cond.instanceMethod ({ cls := "FountainPark", name := "frostOf", desc := "(II)I" } : Jvm.MethodName)) ∈ lw_all := lw_g (lw_at lw_m9 50 rfl) rfl
theorem q2063 : (Jvm.Cond.selects "FountainPark" ({ cls := "FountainPark", name := "frostOf", desc := "(II)I" } : Jvm.MethodName) ({ cls := "FountainPark", name := "frostOf", desc := "(II)I" } : Jvm.MethodName)) ∈ lw_all := lw_g (lw_at lw_m9 51 rfl) rfl
theorem q2064 : (Jvm.Cond.code ({ cls := "FountainPark", name := "frostOf", desc := "(II)I" } : Jvm.MethodName) prog_1_method_31_code (3 : Nat) (Option.some Jvm.ClassFile.FieldType.int)) ∈ lw_all := lw_g (lw_at lw_m9 52 rfl) rfl
theorem q2069 : (Jvm.Cond.instanceMethod ({ cls := "FountainPark", name := "outing", desc := "(II)I" } : Jvm.MethodName)) ∈ lw_all := lw_g (lw_at lw_m9 57 rfl) rfl
theorem q2070 : (Jvm.Cond.selects "FountainPark" ({ cls := "FountainPark", name := "outing", desc := "(II)I" } : Jvm.MethodName) ({ cls := "FountainPark", name := "outing", desc := "(II)I" } : Jvm.MethodName)) ∈ lw_all := lw_g (lw_at lw_m9 58 rfl) rfl
theorem q2071 : (Jvm.Cond.code ({ cls := "FountainPark", name := "outing", desc := "(II)I" } : Jvm.MethodName) prog_1_method_33_code (3 : Nat) (Option.some Jvm.ClassFile.FieldType.int)) ∈ lw_all := lw_g (lw_at lw_m9 59 rfl) rfl
theorem q2076 : (Jvm.Cond.instanceMethod ({ cls := "FountainPark", name := "count", desc := "(I)I" } : Jvm.MethodName)) ∈ lw_all := lw_g (lw_at lw_m9 64 rfl) rfl
theorem q2077 : (Jvm.Cond.selects "FountainPark" ({ cls := "FountainPark", name := "count", desc := "(I)I" } : Jvm.MethodName) ({ cls := "FountainPark", name := "count", desc := "(I)I" } : Jvm.MethodName)) ∈ lw_all := lw_g (lw_at lw_m9 65 rfl) rfl
theorem q2078 : (Jvm.Cond.code ({ cls := "FountainPark", name := "count", desc := "(I)I" } : Jvm.MethodName) prog_1_method_35_code (2 : Nat) (Option.some Jvm.ClassFile.FieldType.int)) ∈ lw_all := lw_g (lw_at lw_m9 66 rfl) rfl
theorem q2083 : (Jvm.Cond.instanceMethod ({ cls := "FountainPark", name := "setting", desc := "(I)I" } : Jvm.MethodName)) ∈ lw_all := lw_g (lw_at lw_m9 71 rfl) rfl
theorem q2084 : (Jvm.Cond.selects "FountainPark" ({ cls := "FountainPark", name := "setting", desc := "(I)I" } : Jvm.MethodName) ({ cls := "FountainPark", name := "setting", desc := "(I)I" } : Jvm.MethodName)) ∈ lw_all := lw_g (lw_at lw_m9 72 rfl) rfl
theorem q2085 : (Jvm.Cond.code ({ cls := "FountainPark", name := "setting", desc := "(I)I" } : Jvm.MethodName) prog_1_method_36_code (2 : Nat) (Option.some Jvm.ClassFile.FieldType.int)) ∈ lw_all := lw_g (lw_at lw_m9 73 rfl) rfl
theorem q2090 : (Jvm.Cond.instanceMethod ({ cls := "FountainPark", name := "ifPassed", desc := "(II)I" } : Jvm.MethodName)) ∈ lw_all := lw_g (lw_at lw_m9 78 rfl) rfl
theorem q2091 : (Jvm.Cond.selects "FountainPark" ({ cls := "FountainPark", name := "ifPassed", desc := "(II)I" } : Jvm.MethodName) ({ cls := "FountainPark", name := "ifPassed", desc := "(II)I" } : Jvm.MethodName)) ∈ lw_all := lw_g (lw_at lw_m9 79 rfl) rfl
theorem q2092 : (Jvm.Cond.code ({ cls := "FountainPark", name := "ifPassed", desc := "(II)I" } : Jvm.MethodName) prog_1_method_38_code (3 : Nat) (Option.some Jvm.ClassFile.FieldType.int)) ∈ lw_all := lw_g (lw_at lw_m9 80 rfl) rfl
theorem q2097 : (Jvm.Cond.instanceMethod ({ cls := "FountainPark", name := "ifOuting", desc := "(II)I" } : Jvm.MethodName)) ∈ lw_all := lw_g (lw_at lw_m9 85 rfl) rfl
theorem q2098 : (Jvm.Cond.selects "FountainPark" ({ cls := "FountainPark", name := "ifOuting", desc := "(II)I" } : Jvm.MethodName) ({ cls := "FountainPark", name := "ifOuting", desc := "(II)I" } : Jvm.MethodName)) ∈ lw_all := lw_g (lw_at lw_m9 86 rfl) rfl
theorem q2099 : (Jvm.Cond.code ({ cls := "FountainPark", name := "ifOuting", desc := "(II)I" } : Jvm.MethodName) prog_1_method_40_code (3 : Nat) (Option.some Jvm.ClassFile.FieldType.int)) ∈ lw_all := lw_g (lw_at lw_m9 87 rfl) rfl
theorem q2104 : (Jvm.Cond.instanceMethod ({ cls := "FountainPark", name := "bestGate", desc := "(I)I" } : Jvm.MethodName)) ∈ lw_all := lw_g (lw_at lw_m9 92 rfl) rfl
theorem q2105 : (Jvm.Cond.selects "FountainPark" ({ cls := "FountainPark", name := "bestGate", desc := "(I)I" } : Jvm.MethodName) ({ cls := "FountainPark", name := "bestGate", desc := "(I)I" } : Jvm.MethodName)) ∈ lw_all := lw_g (lw_at lw_m9 93 rfl) rfl
theorem q2106 : (Jvm.Cond.code ({ cls := "FountainPark", name := "bestGate", desc := "(I)I" } : Jvm.MethodName) prog_1_method_42_code (2 : Nat) (Option.some Jvm.ClassFile.FieldType.int)) ∈ lw_all := lw_g (lw_at lw_m9 94 rfl) rfl
theorem q2111 : (Jvm.Cond.instanceMethod ({ cls := "FountainPark", name := "daysToFilter", desc := "(I)I" } : Jvm.MethodName)) ∈ lw_all := lw_g (lw_at lw_m9 99 rfl) rfl
theorem q2112 : (Jvm.Cond.selects "FountainPark" ({ cls := "FountainPark", name := "daysToFilter", desc := "(I)I" } : Jvm.MethodName) ({ cls := "FountainPark", name := "daysToFilter", desc := "(I)I" } : Jvm.MethodName)) ∈ lw_all := lw_g (lw_at lw_m9 100 rfl) rfl
theorem q2113 : (Jvm.Cond.code ({ cls := "FountainPark", name := "daysToFilter", desc := "(I)I" } : Jvm.MethodName) prog_1_method_44_code (2 : Nat) (Option.some Jvm.ClassFile.FieldType.int)) ∈ lw_all := lw_g (lw_at lw_m9 101 rfl) rfl
theorem q2118 : (Jvm.Cond.instanceMethod ({ cls := "FountainPark", name := "bestOrder", desc := "(I)I" } : Jvm.MethodName)) ∈ lw_all := lw_g (lw_at lw_m9 106 rfl) rfl
theorem q2119 : (Jvm.Cond.selects "FountainPark" ({ cls := "FountainPark", name := "bestOrder", desc := "(I)I" } : Jvm.MethodName) ({ cls := "FountainPark", name := "bestOrder", desc := "(I)I" } : Jvm.MethodName)) ∈ lw_all := lw_g (lw_at lw_m9 107 rfl) rfl
theorem q2120 : (Jvm.Cond.code ({ cls := "FountainPark", name := "bestOrder", desc := "(I)I" } : Jvm.MethodName) prog_1_method_46_code (2 : Nat) (Option.some Jvm.ClassFile.FieldType.int)) ∈ lw_all := lw_g (lw_at lw_m9 108 rfl) rfl
theorem q2534 : (Jvm.Cond.castable "FountainPark" "java/lang/Object") ∈ lw_tbl := lw_at lw_m11 42 rfl
theorem in_X1 : ∀ w ∈ wsX10, w ∈ lw_all := lw_in wsX10 [512, 514, 516, 518, 520] (by decide +kernel) (by decide +kernel)
/-! FountainPark$Park -/
set_option maxRecDepth 100000
def RX2 : String := "FountainPark$Park"
def TX2 : u_T := fun k => match k with
  | 0 => ("FountainPark$Park", "fountains", "[LFountainPark$Fountain;", true)
  | 1 => ("FountainPark$Park", "jobs", "[LFountainPark$Job;", true)
  | 2 => ("FountainPark$Park", "queue", "Ljava/util/PriorityQueue;", true)
  | 3 => ("FountainPark$Park", "frosts", "Ljava/util/TreeMap;", true)
  | 4 => ("FountainPark$Park", "outings", "Ljava/util/TreeSet;", true)
  | 5 => ("FountainPark$Park", "settings", "[I", true)
  | 6 => ("FountainPark$Park", "day", "I", false)
  | 7 => ("FountainPark$Park", "planned", "I", false)
  | 8 => ("FountainPark$Park", "thirsty", "I", false)
  | 9 => ("FountainPark$Park", "children", "I", false)
  | 10 => ("FountainPark$Park", "cost", "I", false)
  | 11 => ("FountainPark$Park", "worked", "I", false)
  | 12 => ("FountainPark$Park", "given", "I", false)
  | _ => ("FountainPark$Park", "isFrosty", "Z", false)
def tyX2 : Nat → FieldType := fun k => match k with
  | 0 => .array (.object "FountainPark$Fountain")
  | 1 => .array (.object "FountainPark$Job")
  | 2 => .object "java/util/PriorityQueue"
  | 3 => .object "java/util/TreeMap"
  | 4 => .object "java/util/TreeSet"
  | 5 => .array .int
  | 6 => .int
  | 7 => .int
  | 8 => .int
  | 9 => .int
  | 10 => .int
  | 11 => .int
  | 12 => .int
  | _ => .boolean
abbrev wsX20 : List Cond := u_ws RX2 TX2 14
set_option maxRecDepth 100000 in
theorem nmX2 : ∀ a, a < 14 → ∀ b, b < 14 → a ≠ b → (TX2 a).2.1 ≠ (TX2 b).2.1 := by decide +kernel
set_option maxRecDepth 100000 in
theorem tyX2_ok : ∀ k, k < 14 → parseFieldDescriptor (TX2 k).2.2.1 = some (tyX2 k) := by decide +kernel
abbrev cX2_init : ByteArray := prog_5_method_1_code
def yX2_init : MethodName := ⟨RX2, "<init>", "()V"⟩
def dkwX2_init_6 : List UInt8 := [132, 1, 1, 167, 255, 198, 177]
abbrev dktX2_init_6 : List UInt8 := dkwX2_init_6 ++ []
def dkwX2_init_5 : List UInt8 := [3, 183, 0, 49, 83, 42, 180, 0, 19, 5, 27, 104, 4, 96, 187, 0, 17, 89, 27, 4, 183, 0, 49, 83]
abbrev dktX2_init_5 : List UInt8 := dkwX2_init_5 ++ dktX2_init_6
def dkwX2_init_4 : List UInt8 := [180, 0, 11, 27, 187, 0, 9, 89, 183, 0, 48, 83, 42, 180, 0, 19, 5, 27, 104, 187, 0, 17, 89, 27]
abbrev dktX2_init_4 : List UInt8 := dkwX2_init_4 ++ dktX2_init_5
def dkwX2_init_3 : List UInt8 := [5, 79, 89, 6, 8, 79, 89, 7, 16, 10, 79, 181, 0, 44, 3, 60, 27, 16, 8, 162, 0, 58, 42]
abbrev dktX2_init_3 : List UInt8 := dkwX2_init_3 ++ dktX2_init_4
def dkwX2_init_2 : List UInt8 := [187, 0, 37, 89, 183, 0, 39, 181, 0, 40, 42, 8, 188, 10, 89, 3, 7, 79, 89, 4, 3, 79, 89, 5]
abbrev dktX2_init_2 : List UInt8 := dkwX2_init_2 ++ dktX2_init_3
def dkwX2_init_1 : List UInt8 := [187, 0, 23, 89, 183, 0, 25, 181, 0, 26, 42, 187, 0, 30, 89, 183, 0, 32, 181, 0, 33, 42]
abbrev dktX2_init_1 : List UInt8 := dkwX2_init_1 ++ dktX2_init_2
def dkwX2_init_0 : List UInt8 := [42, 183, 0, 3, 42, 16, 8, 189, 0, 9, 181, 0, 11, 42, 16, 16, 189, 0, 17, 181, 0, 19, 42]
abbrev dktX2_init_0 : List UInt8 := dkwX2_init_0 ++ dktX2_init_1
theorem dksX2_init_0 : cX2_init.data.toList.drop 0 = dktX2_init_0 := by decide +kernel
theorem dksX2_init_1 : cX2_init.data.toList.drop 23 = dktX2_init_1 := dk_seg dksX2_init_0 23 rfl rfl
theorem dksX2_init_2 : cX2_init.data.toList.drop 45 = dktX2_init_2 := dk_seg dksX2_init_1 22 rfl rfl
theorem dksX2_init_3 : cX2_init.data.toList.drop 69 = dktX2_init_3 := dk_seg dksX2_init_2 24 rfl rfl
theorem dksX2_init_4 : cX2_init.data.toList.drop 92 = dktX2_init_4 := dk_seg dksX2_init_3 23 rfl rfl
theorem dksX2_init_5 : cX2_init.data.toList.drop 116 = dktX2_init_5 := dk_seg dksX2_init_4 24 rfl rfl
theorem dksX2_init_6 : cX2_init.data.toList.drop 140 = dktX2_init_6 := dk_seg dksX2_init_5 24 rfl rfl
theorem dX2_init_0 : decode cX2_init 0 = .ok (.aload_n 0, 1) := dk_42 (dk_at dksX2_init_0 0 rfl rfl)
theorem dX2_init_1 : decode cX2_init 1 = .ok (.invokespecial 3, 3) := dk_183 0 3 (dk_at dksX2_init_0 1 rfl rfl)
theorem dX2_init_4 : decode cX2_init 4 = .ok (.aload_n 0, 1) := dk_42 (dk_at dksX2_init_0 4 rfl rfl)
theorem dX2_init_5 : decode cX2_init 5 = .ok (.bipush 8, 2) := dk_16 8 (dk_at dksX2_init_0 5 rfl rfl)
theorem dX2_init_7 : decode cX2_init 7 = .ok (.anewarray 9, 3) := dk_189 0 9 (dk_at dksX2_init_0 7 rfl rfl)
theorem dX2_init_10 : decode cX2_init 10 = .ok (.putfield 11, 3) := dk_181 0 11 (dk_at dksX2_init_0 10 rfl rfl)
theorem dX2_init_13 : decode cX2_init 13 = .ok (.aload_n 0, 1) := dk_42 (dk_at dksX2_init_0 13 rfl rfl)
theorem dX2_init_14 : decode cX2_init 14 = .ok (.bipush 16, 2) := dk_16 16 (dk_at dksX2_init_0 14 rfl rfl)
theorem dX2_init_16 : decode cX2_init 16 = .ok (.anewarray 17, 3) := dk_189 0 17 (dk_at dksX2_init_0 16 rfl rfl)
theorem dX2_init_19 : decode cX2_init 19 = .ok (.putfield 19, 3) := dk_181 0 19 (dk_at dksX2_init_0 19 rfl rfl)
theorem dX2_init_22 : decode cX2_init 22 = .ok (.aload_n 0, 1) := dk_42 (dk_at dksX2_init_0 22 rfl rfl)
theorem dX2_init_23 : decode cX2_init 23 = .ok (.new 23, 3) := dk_187 0 23 (dk_at dksX2_init_1 0 rfl rfl)
theorem dX2_init_26 : decode cX2_init 26 = .ok (.dup, 1) := dk_89 (dk_at dksX2_init_1 3 rfl rfl)
theorem dX2_init_27 : decode cX2_init 27 = .ok (.invokespecial 25, 3) := dk_183 0 25 (dk_at dksX2_init_1 4 rfl rfl)
theorem dX2_init_30 : decode cX2_init 30 = .ok (.putfield 26, 3) := dk_181 0 26 (dk_at dksX2_init_1 7 rfl rfl)
theorem dX2_init_33 : decode cX2_init 33 = .ok (.aload_n 0, 1) := dk_42 (dk_at dksX2_init_1 10 rfl rfl)
theorem dX2_init_34 : decode cX2_init 34 = .ok (.new 30, 3) := dk_187 0 30 (dk_at dksX2_init_1 11 rfl rfl)
theorem dX2_init_37 : decode cX2_init 37 = .ok (.dup, 1) := dk_89 (dk_at dksX2_init_1 14 rfl rfl)
theorem dX2_init_38 : decode cX2_init 38 = .ok (.invokespecial 32, 3) := dk_183 0 32 (dk_at dksX2_init_1 15 rfl rfl)
theorem dX2_init_41 : decode cX2_init 41 = .ok (.putfield 33, 3) := dk_181 0 33 (dk_at dksX2_init_1 18 rfl rfl)
theorem dX2_init_44 : decode cX2_init 44 = .ok (.aload_n 0, 1) := dk_42 (dk_at dksX2_init_1 21 rfl rfl)
theorem dX2_init_45 : decode cX2_init 45 = .ok (.new 37, 3) := dk_187 0 37 (dk_at dksX2_init_2 0 rfl rfl)
theorem dX2_init_48 : decode cX2_init 48 = .ok (.dup, 1) := dk_89 (dk_at dksX2_init_2 3 rfl rfl)
theorem dX2_init_49 : decode cX2_init 49 = .ok (.invokespecial 39, 3) := dk_183 0 39 (dk_at dksX2_init_2 4 rfl rfl)
theorem dX2_init_52 : decode cX2_init 52 = .ok (.putfield 40, 3) := dk_181 0 40 (dk_at dksX2_init_2 7 rfl rfl)
theorem dX2_init_55 : decode cX2_init 55 = .ok (.aload_n 0, 1) := dk_42 (dk_at dksX2_init_2 10 rfl rfl)
theorem dX2_init_56 : decode cX2_init 56 = .ok (.iconst 5, 1) := dk_8 (dk_at dksX2_init_2 11 rfl rfl)
theorem dX2_init_57 : decode cX2_init 57 = .ok (.newarray .int, 2) := dk_188_10 (dk_at dksX2_init_2 12 rfl rfl)
theorem dX2_init_59 : decode cX2_init 59 = .ok (.dup, 1) := dk_89 (dk_at dksX2_init_2 14 rfl rfl)
theorem dX2_init_60 : decode cX2_init 60 = .ok (.iconst 0, 1) := dk_3 (dk_at dksX2_init_2 15 rfl rfl)
theorem dX2_init_61 : decode cX2_init 61 = .ok (.iconst 4, 1) := dk_7 (dk_at dksX2_init_2 16 rfl rfl)
theorem dX2_init_62 : decode cX2_init 62 = .ok (.iastore, 1) := dk_79 (dk_at dksX2_init_2 17 rfl rfl)
theorem dX2_init_63 : decode cX2_init 63 = .ok (.dup, 1) := dk_89 (dk_at dksX2_init_2 18 rfl rfl)
theorem dX2_init_64 : decode cX2_init 64 = .ok (.iconst 1, 1) := dk_4 (dk_at dksX2_init_2 19 rfl rfl)
theorem dX2_init_65 : decode cX2_init 65 = .ok (.iconst 0, 1) := dk_3 (dk_at dksX2_init_2 20 rfl rfl)
theorem dX2_init_66 : decode cX2_init 66 = .ok (.iastore, 1) := dk_79 (dk_at dksX2_init_2 21 rfl rfl)
theorem dX2_init_67 : decode cX2_init 67 = .ok (.dup, 1) := dk_89 (dk_at dksX2_init_2 22 rfl rfl)
theorem dX2_init_68 : decode cX2_init 68 = .ok (.iconst 2, 1) := dk_5 (dk_at dksX2_init_2 23 rfl rfl)
theorem dX2_init_69 : decode cX2_init 69 = .ok (.iconst 2, 1) := dk_5 (dk_at dksX2_init_3 0 rfl rfl)
theorem dX2_init_70 : decode cX2_init 70 = .ok (.iastore, 1) := dk_79 (dk_at dksX2_init_3 1 rfl rfl)
theorem dX2_init_71 : decode cX2_init 71 = .ok (.dup, 1) := dk_89 (dk_at dksX2_init_3 2 rfl rfl)
theorem dX2_init_72 : decode cX2_init 72 = .ok (.iconst 3, 1) := dk_6 (dk_at dksX2_init_3 3 rfl rfl)
theorem dX2_init_73 : decode cX2_init 73 = .ok (.iconst 5, 1) := dk_8 (dk_at dksX2_init_3 4 rfl rfl)
theorem dX2_init_74 : decode cX2_init 74 = .ok (.iastore, 1) := dk_79 (dk_at dksX2_init_3 5 rfl rfl)
theorem dX2_init_75 : decode cX2_init 75 = .ok (.dup, 1) := dk_89 (dk_at dksX2_init_3 6 rfl rfl)
theorem dX2_init_76 : decode cX2_init 76 = .ok (.iconst 4, 1) := dk_7 (dk_at dksX2_init_3 7 rfl rfl)
theorem dX2_init_77 : decode cX2_init 77 = .ok (.bipush 10, 2) := dk_16 10 (dk_at dksX2_init_3 8 rfl rfl)
theorem dX2_init_79 : decode cX2_init 79 = .ok (.iastore, 1) := dk_79 (dk_at dksX2_init_3 10 rfl rfl)
theorem dX2_init_80 : decode cX2_init 80 = .ok (.putfield 44, 3) := dk_181 0 44 (dk_at dksX2_init_3 11 rfl rfl)
theorem dX2_init_83 : decode cX2_init 83 = .ok (.iconst 0, 1) := dk_3 (dk_at dksX2_init_3 14 rfl rfl)
theorem dX2_init_84 : decode cX2_init 84 = .ok (.istore_n 1, 1) := dk_60 (dk_at dksX2_init_3 15 rfl rfl)
theorem dX2_init_85 : decode cX2_init 85 = .ok (.iload_n 1, 1) := dk_27 (dk_at dksX2_init_3 16 rfl rfl)
theorem dX2_init_86 : decode cX2_init 86 = .ok (.bipush 8, 2) := dk_16 8 (dk_at dksX2_init_3 17 rfl rfl)
theorem dX2_init_88 : decode cX2_init 88 = .ok (.if_icmp .ge 58, 3) := dk_162 0 58 (dk_at dksX2_init_3 19 rfl rfl)
theorem dX2_init_91 : decode cX2_init 91 = .ok (.aload_n 0, 1) := dk_42 (dk_at dksX2_init_3 22 rfl rfl)
theorem dX2_init_92 : decode cX2_init 92 = .ok (.getfield 11, 3) := dk_180 0 11 (dk_at dksX2_init_4 0 rfl rfl)
theorem dX2_init_95 : decode cX2_init 95 = .ok (.iload_n 1, 1) := dk_27 (dk_at dksX2_init_4 3 rfl rfl)
theorem dX2_init_96 : decode cX2_init 96 = .ok (.new 9, 3) := dk_187 0 9 (dk_at dksX2_init_4 4 rfl rfl)
theorem dX2_init_99 : decode cX2_init 99 = .ok (.dup, 1) := dk_89 (dk_at dksX2_init_4 7 rfl rfl)
theorem dX2_init_100 : decode cX2_init 100 = .ok (.invokespecial 48, 3) := dk_183 0 48 (dk_at dksX2_init_4 8 rfl rfl)
theorem dX2_init_103 : decode cX2_init 103 = .ok (.aastore, 1) := dk_83 (dk_at dksX2_init_4 11 rfl rfl)
theorem dX2_init_104 : decode cX2_init 104 = .ok (.aload_n 0, 1) := dk_42 (dk_at dksX2_init_4 12 rfl rfl)
theorem dX2_init_105 : decode cX2_init 105 = .ok (.getfield 19, 3) := dk_180 0 19 (dk_at dksX2_init_4 13 rfl rfl)
theorem dX2_init_108 : decode cX2_init 108 = .ok (.iconst 2, 1) := dk_5 (dk_at dksX2_init_4 16 rfl rfl)
theorem dX2_init_109 : decode cX2_init 109 = .ok (.iload_n 1, 1) := dk_27 (dk_at dksX2_init_4 17 rfl rfl)
theorem dX2_init_110 : decode cX2_init 110 = .ok (.imul, 1) := dk_104 (dk_at dksX2_init_4 18 rfl rfl)
theorem dX2_init_111 : decode cX2_init 111 = .ok (.new 17, 3) := dk_187 0 17 (dk_at dksX2_init_4 19 rfl rfl)
theorem dX2_init_114 : decode cX2_init 114 = .ok (.dup, 1) := dk_89 (dk_at dksX2_init_4 22 rfl rfl)
theorem dX2_init_115 : decode cX2_init 115 = .ok (.iload_n 1, 1) := dk_27 (dk_at dksX2_init_4 23 rfl rfl)
theorem dX2_init_116 : decode cX2_init 116 = .ok (.iconst 0, 1) := dk_3 (dk_at dksX2_init_5 0 rfl rfl)
theorem dX2_init_117 : decode cX2_init 117 = .ok (.invokespecial 49, 3) := dk_183 0 49 (dk_at dksX2_init_5 1 rfl rfl)
theorem dX2_init_120 : decode cX2_init 120 = .ok (.aastore, 1) := dk_83 (dk_at dksX2_init_5 4 rfl rfl)
theorem dX2_init_121 : decode cX2_init 121 = .ok (.aload_n 0, 1) := dk_42 (dk_at dksX2_init_5 5 rfl rfl)
theorem dX2_init_122 : decode cX2_init 122 = .ok (.getfield 19, 3) := dk_180 0 19 (dk_at dksX2_init_5 6 rfl rfl)
theorem dX2_init_125 : decode cX2_init 125 = .ok (.iconst 2, 1) := dk_5 (dk_at dksX2_init_5 9 rfl rfl)
theorem dX2_init_126 : decode cX2_init 126 = .ok (.iload_n 1, 1) := dk_27 (dk_at dksX2_init_5 10 rfl rfl)
theorem dX2_init_127 : decode cX2_init 127 = .ok (.imul, 1) := dk_104 (dk_at dksX2_init_5 11 rfl rfl)
theorem dX2_init_128 : decode cX2_init 128 = .ok (.iconst 1, 1) := dk_4 (dk_at dksX2_init_5 12 rfl rfl)
theorem dX2_init_129 : decode cX2_init 129 = .ok (.iadd, 1) := dk_96 (dk_at dksX2_init_5 13 rfl rfl)
theorem dX2_init_130 : decode cX2_init 130 = .ok (.new 17, 3) := dk_187 0 17 (dk_at dksX2_init_5 14 rfl rfl)
theorem dX2_init_133 : decode cX2_init 133 = .ok (.dup, 1) := dk_89 (dk_at dksX2_init_5 17 rfl rfl)
theorem dX2_init_134 : decode cX2_init 134 = .ok (.iload_n 1, 1) := dk_27 (dk_at dksX2_init_5 18 rfl rfl)
theorem dX2_init_135 : decode cX2_init 135 = .ok (.iconst 1, 1) := dk_4 (dk_at dksX2_init_5 19 rfl rfl)
theorem dX2_init_136 : decode cX2_init 136 = .ok (.invokespecial 49, 3) := dk_183 0 49 (dk_at dksX2_init_5 20 rfl rfl)
theorem dX2_init_139 : decode cX2_init 139 = .ok (.aastore, 1) := dk_83 (dk_at dksX2_init_5 23 rfl rfl)
theorem dX2_init_140 : decode cX2_init 140 = .ok (.iinc 1 1, 3) := dk_132 1 1 (dk_at dksX2_init_6 0 rfl rfl)
theorem dX2_init_143 : decode cX2_init 143 = .ok (.goto (-58), 3) := dk_167 255 198 (dk_at dksX2_init_6 3 rfl rfl)
theorem dX2_init_146 : decode cX2_init 146 = .ok (.return_, 1) := dk_177 (dk_at dksX2_init_6 6 rfl rfl)
abbrev cX2_many : ByteArray := prog_5_method_5_code
def yX2_many : MethodName := ⟨RX2, "many", "(Z)I"⟩
def dkwX2_many_2 : List UInt8 := [96, 61, 132, 3, 1, 167, 255, 207, 28, 172]
abbrev dktX2_many_2 : List UInt8 := dkwX2_many_2 ++ []
def dkwX2_many_1 : List UInt8 := [167, 0, 24, 3, 167, 0, 20, 42, 180, 0, 11, 29, 50, 180, 0, 140, 153, 0, 7, 4, 167, 0, 4, 3]
abbrev dktX2_many_1 : List UInt8 := dkwX2_many_1 ++ dktX2_many_2
def dkwX2_many_0 : List UInt8 := [3, 61, 3, 62, 29, 16, 8, 162, 0, 49, 28, 27, 153, 0, 19, 42, 29, 182, 0, 155, 154, 0, 7, 4]
abbrev dktX2_many_0 : List UInt8 := dkwX2_many_0 ++ dktX2_many_1
theorem dksX2_many_0 : cX2_many.data.toList.drop 0 = dktX2_many_0 := by decide +kernel
theorem dksX2_many_1 : cX2_many.data.toList.drop 24 = dktX2_many_1 := dk_seg dksX2_many_0 24 rfl rfl
theorem dksX2_many_2 : cX2_many.data.toList.drop 48 = dktX2_many_2 := dk_seg dksX2_many_1 24 rfl rfl
theorem dX2_many_0 : decode cX2_many 0 = .ok (.iconst 0, 1) := dk_3 (dk_at dksX2_many_0 0 rfl rfl)
theorem dX2_many_1 : decode cX2_many 1 = .ok (.istore_n 2, 1) := dk_61 (dk_at dksX2_many_0 1 rfl rfl)
theorem dX2_many_2 : decode cX2_many 2 = .ok (.iconst 0, 1) := dk_3 (dk_at dksX2_many_0 2 rfl rfl)
theorem dX2_many_3 : decode cX2_many 3 = .ok (.istore_n 3, 1) := dk_62 (dk_at dksX2_many_0 3 rfl rfl)
theorem dX2_many_4 : decode cX2_many 4 = .ok (.iload_n 3, 1) := dk_29 (dk_at dksX2_many_0 4 rfl rfl)
theorem dX2_many_5 : decode cX2_many 5 = .ok (.bipush 8, 2) := dk_16 8 (dk_at dksX2_many_0 5 rfl rfl)
theorem dX2_many_7 : decode cX2_many 7 = .ok (.if_icmp .ge 49, 3) := dk_162 0 49 (dk_at dksX2_many_0 7 rfl rfl)
theorem dX2_many_10 : decode cX2_many 10 = .ok (.iload_n 2, 1) := dk_28 (dk_at dksX2_many_0 10 rfl rfl)
theorem dX2_many_11 : decode cX2_many 11 = .ok (.iload_n 1, 1) := dk_27 (dk_at dksX2_many_0 11 rfl rfl)
theorem dX2_many_12 : decode cX2_many 12 = .ok (.ifCond .eq 19, 3) := dk_153 0 19 (dk_at dksX2_many_0 12 rfl rfl)
theorem dX2_many_15 : decode cX2_many 15 = .ok (.aload_n 0, 1) := dk_42 (dk_at dksX2_many_0 15 rfl rfl)
theorem dX2_many_16 : decode cX2_many 16 = .ok (.iload_n 3, 1) := dk_29 (dk_at dksX2_many_0 16 rfl rfl)
theorem dX2_many_17 : decode cX2_many 17 = .ok (.invokevirtual 155, 3) := dk_182 0 155 (dk_at dksX2_many_0 17 rfl rfl)
theorem dX2_many_20 : decode cX2_many 20 = .ok (.ifCond .ne 7, 3) := dk_154 0 7 (dk_at dksX2_many_0 20 rfl rfl)
theorem dX2_many_23 : decode cX2_many 23 = .ok (.iconst 1, 1) := dk_4 (dk_at dksX2_many_0 23 rfl rfl)
theorem dX2_many_24 : decode cX2_many 24 = .ok (.goto 24, 3) := dk_167 0 24 (dk_at dksX2_many_1 0 rfl rfl)
theorem dX2_many_27 : decode cX2_many 27 = .ok (.iconst 0, 1) := dk_3 (dk_at dksX2_many_1 3 rfl rfl)
theorem dX2_many_28 : decode cX2_many 28 = .ok (.goto 20, 3) := dk_167 0 20 (dk_at dksX2_many_1 4 rfl rfl)
theorem dX2_many_31 : decode cX2_many 31 = .ok (.aload_n 0, 1) := dk_42 (dk_at dksX2_many_1 7 rfl rfl)
theorem dX2_many_32 : decode cX2_many 32 = .ok (.getfield 11, 3) := dk_180 0 11 (dk_at dksX2_many_1 8 rfl rfl)
theorem dX2_many_35 : decode cX2_many 35 = .ok (.iload_n 3, 1) := dk_29 (dk_at dksX2_many_1 11 rfl rfl)
theorem dX2_many_36 : decode cX2_many 36 = .ok (.aaload, 1) := dk_50 (dk_at dksX2_many_1 12 rfl rfl)
theorem dX2_many_37 : decode cX2_many 37 = .ok (.getfield 140, 3) := dk_180 0 140 (dk_at dksX2_many_1 13 rfl rfl)
theorem dX2_many_40 : decode cX2_many 40 = .ok (.ifCond .eq 7, 3) := dk_153 0 7 (dk_at dksX2_many_1 16 rfl rfl)
theorem dX2_many_43 : decode cX2_many 43 = .ok (.iconst 1, 1) := dk_4 (dk_at dksX2_many_1 19 rfl rfl)
theorem dX2_many_44 : decode cX2_many 44 = .ok (.goto 4, 3) := dk_167 0 4 (dk_at dksX2_many_1 20 rfl rfl)
theorem dX2_many_47 : decode cX2_many 47 = .ok (.iconst 0, 1) := dk_3 (dk_at dksX2_many_1 23 rfl rfl)
theorem dX2_many_48 : decode cX2_many 48 = .ok (.iadd, 1) := dk_96 (dk_at dksX2_many_2 0 rfl rfl)
theorem dX2_many_49 : decode cX2_many 49 = .ok (.istore_n 2, 1) := dk_61 (dk_at dksX2_many_2 1 rfl rfl)
theorem dX2_many_50 : decode cX2_many 50 = .ok (.iinc 3 1, 3) := dk_132 3 1 (dk_at dksX2_many_2 2 rfl rfl)
theorem dX2_many_53 : decode cX2_many 53 = .ok (.goto (-49), 3) := dk_167 255 207 (dk_at dksX2_many_2 5 rfl rfl)
theorem dX2_many_56 : decode cX2_many 56 = .ok (.iload_n 2, 1) := dk_28 (dk_at dksX2_many_2 8 rfl rfl)
theorem dX2_many_57 : decode cX2_many 57 = .ok (.ireturn, 1) := dk_172 (dk_at dksX2_many_2 9 rfl rfl)
abbrev cX2_why : ByteArray := prog_5_method_4_code
def yX2_why : MethodName := ⟨RX2, "why", "(I)I"⟩
def dkwX2_why_2 : List UInt8 := [7, 172, 44, 182, 0, 152, 153, 0, 7, 8, 167, 0, 4, 3, 172]
abbrev dktX2_why_2 : List UInt8 := dkwX2_why_2 ++ []
def dkwX2_why_1 : List UInt8 := [172, 44, 180, 0, 146, 153, 0, 5, 6, 172, 42, 180, 0, 125, 153, 0, 12, 44, 180, 0, 149, 154, 0, 5]
abbrev dktX2_why_1 : List UInt8 := dkwX2_why_1 ++ dktX2_why_2
def dkwX2_why_0 : List UInt8 := [42, 180, 0, 11, 27, 50, 77, 44, 180, 0, 140, 154, 0, 5, 4, 172, 44, 180, 0, 143, 153, 0, 5, 5]
abbrev dktX2_why_0 : List UInt8 := dkwX2_why_0 ++ dktX2_why_1
theorem dksX2_why_0 : cX2_why.data.toList.drop 0 = dktX2_why_0 := by decide +kernel
theorem dksX2_why_1 : cX2_why.data.toList.drop 24 = dktX2_why_1 := dk_seg dksX2_why_0 24 rfl rfl
theorem dksX2_why_2 : cX2_why.data.toList.drop 48 = dktX2_why_2 := dk_seg dksX2_why_1 24 rfl rfl
theorem dX2_why_0 : decode cX2_why 0 = .ok (.aload_n 0, 1) := dk_42 (dk_at dksX2_why_0 0 rfl rfl)
theorem dX2_why_1 : decode cX2_why 1 = .ok (.getfield 11, 3) := dk_180 0 11 (dk_at dksX2_why_0 1 rfl rfl)
theorem dX2_why_4 : decode cX2_why 4 = .ok (.iload_n 1, 1) := dk_27 (dk_at dksX2_why_0 4 rfl rfl)
theorem dX2_why_5 : decode cX2_why 5 = .ok (.aaload, 1) := dk_50 (dk_at dksX2_why_0 5 rfl rfl)
theorem dX2_why_6 : decode cX2_why 6 = .ok (.astore_n 2, 1) := dk_77 (dk_at dksX2_why_0 6 rfl rfl)
theorem dX2_why_7 : decode cX2_why 7 = .ok (.aload_n 2, 1) := dk_44 (dk_at dksX2_why_0 7 rfl rfl)
theorem dX2_why_8 : decode cX2_why 8 = .ok (.getfield 140, 3) := dk_180 0 140 (dk_at dksX2_why_0 8 rfl rfl)
theorem dX2_why_11 : decode cX2_why 11 = .ok (.ifCond .ne 5, 3) := dk_154 0 5 (dk_at dksX2_why_0 11 rfl rfl)
theorem dX2_why_14 : decode cX2_why 14 = .ok (.iconst 1, 1) := dk_4 (dk_at dksX2_why_0 14 rfl rfl)
theorem dX2_why_15 : decode cX2_why 15 = .ok (.ireturn, 1) := dk_172 (dk_at dksX2_why_0 15 rfl rfl)
theorem dX2_why_16 : decode cX2_why 16 = .ok (.aload_n 2, 1) := dk_44 (dk_at dksX2_why_0 16 rfl rfl)
theorem dX2_why_17 : decode cX2_why 17 = .ok (.getfield 143, 3) := dk_180 0 143 (dk_at dksX2_why_0 17 rfl rfl)
theorem dX2_why_20 : decode cX2_why 20 = .ok (.ifCond .eq 5, 3) := dk_153 0 5 (dk_at dksX2_why_0 20 rfl rfl)
theorem dX2_why_23 : decode cX2_why 23 = .ok (.iconst 2, 1) := dk_5 (dk_at dksX2_why_0 23 rfl rfl)
theorem dX2_why_24 : decode cX2_why 24 = .ok (.ireturn, 1) := dk_172 (dk_at dksX2_why_1 0 rfl rfl)
theorem dX2_why_25 : decode cX2_why 25 = .ok (.aload_n 2, 1) := dk_44 (dk_at dksX2_why_1 1 rfl rfl)
theorem dX2_why_26 : decode cX2_why 26 = .ok (.getfield 146, 3) := dk_180 0 146 (dk_at dksX2_why_1 2 rfl rfl)
theorem dX2_why_29 : decode cX2_why 29 = .ok (.ifCond .eq 5, 3) := dk_153 0 5 (dk_at dksX2_why_1 5 rfl rfl)
theorem dX2_why_32 : decode cX2_why 32 = .ok (.iconst 3, 1) := dk_6 (dk_at dksX2_why_1 8 rfl rfl)
theorem dX2_why_33 : decode cX2_why 33 = .ok (.ireturn, 1) := dk_172 (dk_at dksX2_why_1 9 rfl rfl)
theorem dX2_why_34 : decode cX2_why 34 = .ok (.aload_n 0, 1) := dk_42 (dk_at dksX2_why_1 10 rfl rfl)
theorem dX2_why_35 : decode cX2_why 35 = .ok (.getfield 125, 3) := dk_180 0 125 (dk_at dksX2_why_1 11 rfl rfl)
theorem dX2_why_38 : decode cX2_why 38 = .ok (.ifCond .eq 12, 3) := dk_153 0 12 (dk_at dksX2_why_1 14 rfl rfl)
theorem dX2_why_41 : decode cX2_why 41 = .ok (.aload_n 2, 1) := dk_44 (dk_at dksX2_why_1 17 rfl rfl)
theorem dX2_why_42 : decode cX2_why 42 = .ok (.getfield 149, 3) := dk_180 0 149 (dk_at dksX2_why_1 18 rfl rfl)
theorem dX2_why_45 : decode cX2_why 45 = .ok (.ifCond .ne 5, 3) := dk_154 0 5 (dk_at dksX2_why_1 21 rfl rfl)
theorem dX2_why_48 : decode cX2_why 48 = .ok (.iconst 4, 1) := dk_7 (dk_at dksX2_why_2 0 rfl rfl)
theorem dX2_why_49 : decode cX2_why 49 = .ok (.ireturn, 1) := dk_172 (dk_at dksX2_why_2 1 rfl rfl)
theorem dX2_why_50 : decode cX2_why 50 = .ok (.aload_n 2, 1) := dk_44 (dk_at dksX2_why_2 2 rfl rfl)
theorem dX2_why_51 : decode cX2_why 51 = .ok (.invokevirtual 152, 3) := dk_182 0 152 (dk_at dksX2_why_2 3 rfl rfl)
theorem dX2_why_54 : decode cX2_why 54 = .ok (.ifCond .eq 7, 3) := dk_153 0 7 (dk_at dksX2_why_2 6 rfl rfl)
theorem dX2_why_57 : decode cX2_why 57 = .ok (.iconst 5, 1) := dk_8 (dk_at dksX2_why_2 9 rfl rfl)
theorem dX2_why_58 : decode cX2_why 58 = .ok (.goto 4, 3) := dk_167 0 4 (dk_at dksX2_why_2 10 rfl rfl)
theorem dX2_why_61 : decode cX2_why 61 = .ok (.iconst 0, 1) := dk_3 (dk_at dksX2_why_2 13 rfl rfl)
theorem dX2_why_62 : decode cX2_why 62 = .ok (.ireturn, 1) := dk_172 (dk_at dksX2_why_2 14 rfl rfl)
abbrev cX2_jobs : ByteArray := prog_5_method_6_code
def yX2_jobs : MethodName := ⟨RX2, "jobs", "()I"⟩
def dkwX2_jobs_1 : List UInt8 := [58, 5, 27, 25, 5, 182, 0, 159, 96, 60, 132, 4, 1, 167, 255, 233, 27, 172]
abbrev dktX2_jobs_1 : List UInt8 := dkwX2_jobs_1 ++ []
def dkwX2_jobs_0 : List UInt8 := [3, 60, 42, 180, 0, 11, 77, 44, 190, 62, 3, 54, 4, 21, 4, 29, 162, 0, 23, 44, 21, 4, 50]
abbrev dktX2_jobs_0 : List UInt8 := dkwX2_jobs_0 ++ dktX2_jobs_1
theorem dksX2_jobs_0 : cX2_jobs.data.toList.drop 0 = dktX2_jobs_0 := by decide +kernel
theorem dksX2_jobs_1 : cX2_jobs.data.toList.drop 23 = dktX2_jobs_1 := dk_seg dksX2_jobs_0 23 rfl rfl
theorem dX2_jobs_0 : decode cX2_jobs 0 = .ok (.iconst 0, 1) := dk_3 (dk_at dksX2_jobs_0 0 rfl rfl)
theorem dX2_jobs_1 : decode cX2_jobs 1 = .ok (.istore_n 1, 1) := dk_60 (dk_at dksX2_jobs_0 1 rfl rfl)
theorem dX2_jobs_2 : decode cX2_jobs 2 = .ok (.aload_n 0, 1) := dk_42 (dk_at dksX2_jobs_0 2 rfl rfl)
theorem dX2_jobs_3 : decode cX2_jobs 3 = .ok (.getfield 11, 3) := dk_180 0 11 (dk_at dksX2_jobs_0 3 rfl rfl)
theorem dX2_jobs_6 : decode cX2_jobs 6 = .ok (.astore_n 2, 1) := dk_77 (dk_at dksX2_jobs_0 6 rfl rfl)
theorem dX2_jobs_7 : decode cX2_jobs 7 = .ok (.aload_n 2, 1) := dk_44 (dk_at dksX2_jobs_0 7 rfl rfl)
theorem dX2_jobs_8 : decode cX2_jobs 8 = .ok (.arraylength, 1) := dk_190 (dk_at dksX2_jobs_0 8 rfl rfl)
theorem dX2_jobs_9 : decode cX2_jobs 9 = .ok (.istore_n 3, 1) := dk_62 (dk_at dksX2_jobs_0 9 rfl rfl)
theorem dX2_jobs_10 : decode cX2_jobs 10 = .ok (.iconst 0, 1) := dk_3 (dk_at dksX2_jobs_0 10 rfl rfl)
theorem dX2_jobs_11 : decode cX2_jobs 11 = .ok (.istore 4, 2) := dk_54 4 (dk_at dksX2_jobs_0 11 rfl rfl)
theorem dX2_jobs_13 : decode cX2_jobs 13 = .ok (.iload 4, 2) := dk_21 4 (dk_at dksX2_jobs_0 13 rfl rfl)
theorem dX2_jobs_15 : decode cX2_jobs 15 = .ok (.iload_n 3, 1) := dk_29 (dk_at dksX2_jobs_0 15 rfl rfl)
theorem dX2_jobs_16 : decode cX2_jobs 16 = .ok (.if_icmp .ge 23, 3) := dk_162 0 23 (dk_at dksX2_jobs_0 16 rfl rfl)
theorem dX2_jobs_19 : decode cX2_jobs 19 = .ok (.aload_n 2, 1) := dk_44 (dk_at dksX2_jobs_0 19 rfl rfl)
theorem dX2_jobs_20 : decode cX2_jobs 20 = .ok (.iload 4, 2) := dk_21 4 (dk_at dksX2_jobs_0 20 rfl rfl)
theorem dX2_jobs_22 : decode cX2_jobs 22 = .ok (.aaload, 1) := dk_50 (dk_at dksX2_jobs_0 22 rfl rfl)
theorem dX2_jobs_23 : decode cX2_jobs 23 = .ok (.astore 5, 2) := dk_58 5 (dk_at dksX2_jobs_1 0 rfl rfl)
theorem dX2_jobs_25 : decode cX2_jobs 25 = .ok (.iload_n 1, 1) := dk_27 (dk_at dksX2_jobs_1 2 rfl rfl)
theorem dX2_jobs_26 : decode cX2_jobs 26 = .ok (.aload 5, 2) := dk_25 5 (dk_at dksX2_jobs_1 3 rfl rfl)
theorem dX2_jobs_28 : decode cX2_jobs 28 = .ok (.invokevirtual 159, 3) := dk_182 0 159 (dk_at dksX2_jobs_1 5 rfl rfl)
theorem dX2_jobs_31 : decode cX2_jobs 31 = .ok (.iadd, 1) := dk_96 (dk_at dksX2_jobs_1 8 rfl rfl)
theorem dX2_jobs_32 : decode cX2_jobs 32 = .ok (.istore_n 1, 1) := dk_60 (dk_at dksX2_jobs_1 9 rfl rfl)
theorem dX2_jobs_33 : decode cX2_jobs 33 = .ok (.iinc 4 1, 3) := dk_132 4 1 (dk_at dksX2_jobs_1 10 rfl rfl)
theorem dX2_jobs_36 : decode cX2_jobs 36 = .ok (.goto (-23), 3) := dk_167 255 233 (dk_at dksX2_jobs_1 13 rfl rfl)
theorem dX2_jobs_39 : decode cX2_jobs 39 = .ok (.iload_n 1, 1) := dk_27 (dk_at dksX2_jobs_1 16 rfl rfl)
theorem dX2_jobs_40 : decode cX2_jobs 40 = .ok (.ireturn, 1) := dk_172 (dk_at dksX2_jobs_1 17 rfl rfl)
abbrev cX2_become : ByteArray := prog_5_method_2_code
def yX2_become : MethodName := ⟨RX2, "become", "(LFountainPark$Park;)V"⟩
def dkwX2_become_9 : List UInt8 := [180, 0, 125, 181, 0, 125, 177]
abbrev dktX2_become_9 : List UInt8 := dkwX2_become_9 ++ []
def dkwX2_become_8 : List UInt8 := [180, 0, 116, 181, 0, 116, 42, 43, 180, 0, 119, 181, 0, 119, 42, 43, 180, 0, 122, 181, 0, 122, 42, 43]
abbrev dktX2_become_8 : List UInt8 := dkwX2_become_8 ++ dktX2_become_9
def dkwX2_become_7 : List UInt8 := [180, 0, 107, 181, 0, 107, 42, 43, 180, 0, 110, 181, 0, 110, 42, 43, 180, 0, 113, 181, 0, 113, 42, 43]
abbrev dktX2_become_7 : List UInt8 := dkwX2_become_7 ++ dktX2_become_8
def dkwX2_become_6 : List UInt8 := [180, 0, 44, 3, 42, 180, 0, 44, 3, 8, 184, 0, 97, 42, 43, 180, 0, 103, 181, 0, 103, 42, 43]
abbrev dktX2_become_6 : List UInt8 := dkwX2_become_6 ++ dktX2_become_7
def dkwX2_become_5 : List UInt8 := [44, 185, 0, 75, 1, 0, 192, 0, 91, 78, 42, 180, 0, 40, 45, 182, 0, 93, 87, 167, 255, 228, 43]
abbrev dktX2_become_5 : List UInt8 := dkwX2_become_5 ++ dktX2_become_6
def dkwX2_become_4 : List UInt8 := [42, 180, 0, 40, 182, 0, 89, 43, 180, 0, 40, 182, 0, 90, 77, 44, 185, 0, 69, 1, 0, 153, 0, 25]
abbrev dktX2_become_4 : List UInt8 := dkwX2_become_4 ++ dktX2_become_5
def dkwX2_become_3 : List UInt8 := [78, 42, 180, 0, 33, 45, 43, 180, 0, 33, 45, 182, 0, 81, 192, 0, 79, 182, 0, 85, 87, 167, 255, 217]
abbrev dktX2_become_3 : List UInt8 := dkwX2_become_3 ++ dktX2_become_4
def dkwX2_become_2 : List UInt8 := [185, 0, 63, 1, 0, 77, 44, 185, 0, 69, 1, 0, 153, 0, 36, 44, 185, 0, 75, 1, 0, 192, 0, 79]
abbrev dktX2_become_2 : List UInt8 := dkwX2_become_2 ++ dktX2_become_3
def dkwX2_become_1 : List UInt8 := [132, 2, 1, 167, 255, 232, 42, 180, 0, 33, 182, 0, 56, 43, 180, 0, 33, 182, 0, 59]
abbrev dktX2_become_1 : List UInt8 := dkwX2_become_1 ++ dktX2_become_2
def dkwX2_become_0 : List UInt8 := [3, 61, 28, 16, 8, 162, 0, 24, 42, 180, 0, 11, 28, 50, 43, 180, 0, 11, 28, 50, 182, 0, 52]
abbrev dktX2_become_0 : List UInt8 := dkwX2_become_0 ++ dktX2_become_1
theorem dksX2_become_0 : cX2_become.data.toList.drop 0 = dktX2_become_0 := by decide +kernel
theorem dksX2_become_1 : cX2_become.data.toList.drop 23 = dktX2_become_1 := dk_seg dksX2_become_0 23 rfl rfl
theorem dksX2_become_2 : cX2_become.data.toList.drop 43 = dktX2_become_2 := dk_seg dksX2_become_1 20 rfl rfl
theorem dksX2_become_3 : cX2_become.data.toList.drop 67 = dktX2_become_3 := dk_seg dksX2_become_2 24 rfl rfl
theorem dksX2_become_4 : cX2_become.data.toList.drop 91 = dktX2_become_4 := dk_seg dksX2_become_3 24 rfl rfl
theorem dksX2_become_5 : cX2_become.data.toList.drop 115 = dktX2_become_5 := dk_seg dksX2_become_4 24 rfl rfl
theorem dksX2_become_6 : cX2_become.data.toList.drop 138 = dktX2_become_6 := dk_seg dksX2_become_5 23 rfl rfl
theorem dksX2_become_7 : cX2_become.data.toList.drop 161 = dktX2_become_7 := dk_seg dksX2_become_6 23 rfl rfl
theorem dksX2_become_8 : cX2_become.data.toList.drop 185 = dktX2_become_8 := dk_seg dksX2_become_7 24 rfl rfl
theorem dksX2_become_9 : cX2_become.data.toList.drop 209 = dktX2_become_9 := dk_seg dksX2_become_8 24 rfl rfl
theorem dX2_become_0 : decode cX2_become 0 = .ok (.iconst 0, 1) := dk_3 (dk_at dksX2_become_0 0 rfl rfl)
theorem dX2_become_1 : decode cX2_become 1 = .ok (.istore_n 2, 1) := dk_61 (dk_at dksX2_become_0 1 rfl rfl)
theorem dX2_become_2 : decode cX2_become 2 = .ok (.iload_n 2, 1) := dk_28 (dk_at dksX2_become_0 2 rfl rfl)
theorem dX2_become_3 : decode cX2_become 3 = .ok (.bipush 8, 2) := dk_16 8 (dk_at dksX2_become_0 3 rfl rfl)
theorem dX2_become_5 : decode cX2_become 5 = .ok (.if_icmp .ge 24, 3) := dk_162 0 24 (dk_at dksX2_become_0 5 rfl rfl)
theorem dX2_become_8 : decode cX2_become 8 = .ok (.aload_n 0, 1) := dk_42 (dk_at dksX2_become_0 8 rfl rfl)
theorem dX2_become_9 : decode cX2_become 9 = .ok (.getfield 11, 3) := dk_180 0 11 (dk_at dksX2_become_0 9 rfl rfl)
theorem dX2_become_12 : decode cX2_become 12 = .ok (.iload_n 2, 1) := dk_28 (dk_at dksX2_become_0 12 rfl rfl)
theorem dX2_become_13 : decode cX2_become 13 = .ok (.aaload, 1) := dk_50 (dk_at dksX2_become_0 13 rfl rfl)
theorem dX2_become_14 : decode cX2_become 14 = .ok (.aload_n 1, 1) := dk_43 (dk_at dksX2_become_0 14 rfl rfl)
theorem dX2_become_15 : decode cX2_become 15 = .ok (.getfield 11, 3) := dk_180 0 11 (dk_at dksX2_become_0 15 rfl rfl)
theorem dX2_become_18 : decode cX2_become 18 = .ok (.iload_n 2, 1) := dk_28 (dk_at dksX2_become_0 18 rfl rfl)
theorem dX2_become_19 : decode cX2_become 19 = .ok (.aaload, 1) := dk_50 (dk_at dksX2_become_0 19 rfl rfl)
theorem dX2_become_20 : decode cX2_become 20 = .ok (.invokevirtual 52, 3) := dk_182 0 52 (dk_at dksX2_become_0 20 rfl rfl)
theorem dX2_become_23 : decode cX2_become 23 = .ok (.iinc 2 1, 3) := dk_132 2 1 (dk_at dksX2_become_1 0 rfl rfl)
theorem dX2_become_26 : decode cX2_become 26 = .ok (.goto (-24), 3) := dk_167 255 232 (dk_at dksX2_become_1 3 rfl rfl)
theorem dX2_become_29 : decode cX2_become 29 = .ok (.aload_n 0, 1) := dk_42 (dk_at dksX2_become_1 6 rfl rfl)
theorem dX2_become_30 : decode cX2_become 30 = .ok (.getfield 33, 3) := dk_180 0 33 (dk_at dksX2_become_1 7 rfl rfl)
theorem dX2_become_33 : decode cX2_become 33 = .ok (.invokevirtual 56, 3) := dk_182 0 56 (dk_at dksX2_become_1 10 rfl rfl)
theorem dX2_become_36 : decode cX2_become 36 = .ok (.aload_n 1, 1) := dk_43 (dk_at dksX2_become_1 13 rfl rfl)
theorem dX2_become_37 : decode cX2_become 37 = .ok (.getfield 33, 3) := dk_180 0 33 (dk_at dksX2_become_1 14 rfl rfl)
theorem dX2_become_40 : decode cX2_become 40 = .ok (.invokevirtual 59, 3) := dk_182 0 59 (dk_at dksX2_become_1 17 rfl rfl)
theorem dX2_become_43 : decode cX2_become 43 = .ok (.invokeinterface 63 1, 5) := by decide +kernel
theorem dX2_become_48 : decode cX2_become 48 = .ok (.astore_n 2, 1) := dk_77 (dk_at dksX2_become_2 5 rfl rfl)
theorem dX2_become_49 : decode cX2_become 49 = .ok (.aload_n 2, 1) := dk_44 (dk_at dksX2_become_2 6 rfl rfl)
theorem dX2_become_50 : decode cX2_become 50 = .ok (.invokeinterface 69 1, 5) := by decide +kernel
theorem dX2_become_55 : decode cX2_become 55 = .ok (.ifCond .eq 36, 3) := dk_153 0 36 (dk_at dksX2_become_2 12 rfl rfl)
theorem dX2_become_58 : decode cX2_become 58 = .ok (.aload_n 2, 1) := dk_44 (dk_at dksX2_become_2 15 rfl rfl)
theorem dX2_become_59 : decode cX2_become 59 = .ok (.invokeinterface 75 1, 5) := by decide +kernel
theorem dX2_become_64 : decode cX2_become 64 = .ok (.checkcast 79, 3) := dk_192 0 79 (dk_at dksX2_become_2 21 rfl rfl)
theorem dX2_become_67 : decode cX2_become 67 = .ok (.astore_n 3, 1) := dk_78 (dk_at dksX2_become_3 0 rfl rfl)
theorem dX2_become_68 : decode cX2_become 68 = .ok (.aload_n 0, 1) := dk_42 (dk_at dksX2_become_3 1 rfl rfl)
theorem dX2_become_69 : decode cX2_become 69 = .ok (.getfield 33, 3) := dk_180 0 33 (dk_at dksX2_become_3 2 rfl rfl)
theorem dX2_become_72 : decode cX2_become 72 = .ok (.aload_n 3, 1) := dk_45 (dk_at dksX2_become_3 5 rfl rfl)
theorem dX2_become_73 : decode cX2_become 73 = .ok (.aload_n 1, 1) := dk_43 (dk_at dksX2_become_3 6 rfl rfl)
theorem dX2_become_74 : decode cX2_become 74 = .ok (.getfield 33, 3) := dk_180 0 33 (dk_at dksX2_become_3 7 rfl rfl)
theorem dX2_become_77 : decode cX2_become 77 = .ok (.aload_n 3, 1) := dk_45 (dk_at dksX2_become_3 10 rfl rfl)
theorem dX2_become_78 : decode cX2_become 78 = .ok (.invokevirtual 81, 3) := dk_182 0 81 (dk_at dksX2_become_3 11 rfl rfl)
theorem dX2_become_81 : decode cX2_become 81 = .ok (.checkcast 79, 3) := dk_192 0 79 (dk_at dksX2_become_3 14 rfl rfl)
theorem dX2_become_84 : decode cX2_become 84 = .ok (.invokevirtual 85, 3) := dk_182 0 85 (dk_at dksX2_become_3 17 rfl rfl)
theorem dX2_become_87 : decode cX2_become 87 = .ok (.pop, 1) := dk_87 (dk_at dksX2_become_3 20 rfl rfl)
theorem dX2_become_88 : decode cX2_become 88 = .ok (.goto (-39), 3) := dk_167 255 217 (dk_at dksX2_become_3 21 rfl rfl)
theorem dX2_become_91 : decode cX2_become 91 = .ok (.aload_n 0, 1) := dk_42 (dk_at dksX2_become_4 0 rfl rfl)
theorem dX2_become_92 : decode cX2_become 92 = .ok (.getfield 40, 3) := dk_180 0 40 (dk_at dksX2_become_4 1 rfl rfl)
theorem dX2_become_95 : decode cX2_become 95 = .ok (.invokevirtual 89, 3) := dk_182 0 89 (dk_at dksX2_become_4 4 rfl rfl)
theorem dX2_become_98 : decode cX2_become 98 = .ok (.aload_n 1, 1) := dk_43 (dk_at dksX2_become_4 7 rfl rfl)
theorem dX2_become_99 : decode cX2_become 99 = .ok (.getfield 40, 3) := dk_180 0 40 (dk_at dksX2_become_4 8 rfl rfl)
theorem dX2_become_102 : decode cX2_become 102 = .ok (.invokevirtual 90, 3) := dk_182 0 90 (dk_at dksX2_become_4 11 rfl rfl)
theorem dX2_become_105 : decode cX2_become 105 = .ok (.astore_n 2, 1) := dk_77 (dk_at dksX2_become_4 14 rfl rfl)
theorem dX2_become_106 : decode cX2_become 106 = .ok (.aload_n 2, 1) := dk_44 (dk_at dksX2_become_4 15 rfl rfl)
theorem dX2_become_107 : decode cX2_become 107 = .ok (.invokeinterface 69 1, 5) := by decide +kernel
theorem dX2_become_112 : decode cX2_become 112 = .ok (.ifCond .eq 25, 3) := dk_153 0 25 (dk_at dksX2_become_4 21 rfl rfl)
theorem dX2_become_115 : decode cX2_become 115 = .ok (.aload_n 2, 1) := dk_44 (dk_at dksX2_become_5 0 rfl rfl)
theorem dX2_become_116 : decode cX2_become 116 = .ok (.invokeinterface 75 1, 5) := by decide +kernel
theorem dX2_become_121 : decode cX2_become 121 = .ok (.checkcast 91, 3) := dk_192 0 91 (dk_at dksX2_become_5 6 rfl rfl)
theorem dX2_become_124 : decode cX2_become 124 = .ok (.astore_n 3, 1) := dk_78 (dk_at dksX2_become_5 9 rfl rfl)
theorem dX2_become_125 : decode cX2_become 125 = .ok (.aload_n 0, 1) := dk_42 (dk_at dksX2_become_5 10 rfl rfl)
theorem dX2_become_126 : decode cX2_become 126 = .ok (.getfield 40, 3) := dk_180 0 40 (dk_at dksX2_become_5 11 rfl rfl)
theorem dX2_become_129 : decode cX2_become 129 = .ok (.aload_n 3, 1) := dk_45 (dk_at dksX2_become_5 14 rfl rfl)
theorem dX2_become_130 : decode cX2_become 130 = .ok (.invokevirtual 93, 3) := dk_182 0 93 (dk_at dksX2_become_5 15 rfl rfl)
theorem dX2_become_133 : decode cX2_become 133 = .ok (.pop, 1) := dk_87 (dk_at dksX2_become_5 18 rfl rfl)
theorem dX2_become_134 : decode cX2_become 134 = .ok (.goto (-28), 3) := dk_167 255 228 (dk_at dksX2_become_5 19 rfl rfl)
theorem dX2_become_137 : decode cX2_become 137 = .ok (.aload_n 1, 1) := dk_43 (dk_at dksX2_become_5 22 rfl rfl)
theorem dX2_become_138 : decode cX2_become 138 = .ok (.getfield 44, 3) := dk_180 0 44 (dk_at dksX2_become_6 0 rfl rfl)
theorem dX2_become_141 : decode cX2_become 141 = .ok (.iconst 0, 1) := dk_3 (dk_at dksX2_become_6 3 rfl rfl)
theorem dX2_become_142 : decode cX2_become 142 = .ok (.aload_n 0, 1) := dk_42 (dk_at dksX2_become_6 4 rfl rfl)
theorem dX2_become_143 : decode cX2_become 143 = .ok (.getfield 44, 3) := dk_180 0 44 (dk_at dksX2_become_6 5 rfl rfl)
theorem dX2_become_146 : decode cX2_become 146 = .ok (.iconst 0, 1) := dk_3 (dk_at dksX2_become_6 8 rfl rfl)
theorem dX2_become_147 : decode cX2_become 147 = .ok (.iconst 5, 1) := dk_8 (dk_at dksX2_become_6 9 rfl rfl)
theorem dX2_become_148 : decode cX2_become 148 = .ok (.invokestatic 97, 3) := dk_184 0 97 (dk_at dksX2_become_6 10 rfl rfl)
theorem dX2_become_151 : decode cX2_become 151 = .ok (.aload_n 0, 1) := dk_42 (dk_at dksX2_become_6 13 rfl rfl)
theorem dX2_become_152 : decode cX2_become 152 = .ok (.aload_n 1, 1) := dk_43 (dk_at dksX2_become_6 14 rfl rfl)
theorem dX2_become_153 : decode cX2_become 153 = .ok (.getfield 103, 3) := dk_180 0 103 (dk_at dksX2_become_6 15 rfl rfl)
theorem dX2_become_156 : decode cX2_become 156 = .ok (.putfield 103, 3) := dk_181 0 103 (dk_at dksX2_become_6 18 rfl rfl)
theorem dX2_become_159 : decode cX2_become 159 = .ok (.aload_n 0, 1) := dk_42 (dk_at dksX2_become_6 21 rfl rfl)
theorem dX2_become_160 : decode cX2_become 160 = .ok (.aload_n 1, 1) := dk_43 (dk_at dksX2_become_6 22 rfl rfl)
theorem dX2_become_161 : decode cX2_become 161 = .ok (.getfield 107, 3) := dk_180 0 107 (dk_at dksX2_become_7 0 rfl rfl)
theorem dX2_become_164 : decode cX2_become 164 = .ok (.putfield 107, 3) := dk_181 0 107 (dk_at dksX2_become_7 3 rfl rfl)
theorem dX2_become_167 : decode cX2_become 167 = .ok (.aload_n 0, 1) := dk_42 (dk_at dksX2_become_7 6 rfl rfl)
theorem dX2_become_168 : decode cX2_become 168 = .ok (.aload_n 1, 1) := dk_43 (dk_at dksX2_become_7 7 rfl rfl)
theorem dX2_become_169 : decode cX2_become 169 = .ok (.getfield 110, 3) := dk_180 0 110 (dk_at dksX2_become_7 8 rfl rfl)
theorem dX2_become_172 : decode cX2_become 172 = .ok (.putfield 110, 3) := dk_181 0 110 (dk_at dksX2_become_7 11 rfl rfl)
theorem dX2_become_175 : decode cX2_become 175 = .ok (.aload_n 0, 1) := dk_42 (dk_at dksX2_become_7 14 rfl rfl)
theorem dX2_become_176 : decode cX2_become 176 = .ok (.aload_n 1, 1) := dk_43 (dk_at dksX2_become_7 15 rfl rfl)
theorem dX2_become_177 : decode cX2_become 177 = .ok (.getfield 113, 3) := dk_180 0 113 (dk_at dksX2_become_7 16 rfl rfl)
theorem dX2_become_180 : decode cX2_become 180 = .ok (.putfield 113, 3) := dk_181 0 113 (dk_at dksX2_become_7 19 rfl rfl)
theorem dX2_become_183 : decode cX2_become 183 = .ok (.aload_n 0, 1) := dk_42 (dk_at dksX2_become_7 22 rfl rfl)
theorem dX2_become_184 : decode cX2_become 184 = .ok (.aload_n 1, 1) := dk_43 (dk_at dksX2_become_7 23 rfl rfl)
theorem dX2_become_185 : decode cX2_become 185 = .ok (.getfield 116, 3) := dk_180 0 116 (dk_at dksX2_become_8 0 rfl rfl)
theorem dX2_become_188 : decode cX2_become 188 = .ok (.putfield 116, 3) := dk_181 0 116 (dk_at dksX2_become_8 3 rfl rfl)
theorem dX2_become_191 : decode cX2_become 191 = .ok (.aload_n 0, 1) := dk_42 (dk_at dksX2_become_8 6 rfl rfl)
theorem dX2_become_192 : decode cX2_become 192 = .ok (.aload_n 1, 1) := dk_43 (dk_at dksX2_become_8 7 rfl rfl)
theorem dX2_become_193 : decode cX2_become 193 = .ok (.getfield 119, 3) := dk_180 0 119 (dk_at dksX2_become_8 8 rfl rfl)
theorem dX2_become_196 : decode cX2_become 196 = .ok (.putfield 119, 3) := dk_181 0 119 (dk_at dksX2_become_8 11 rfl rfl)
theorem dX2_become_199 : decode cX2_become 199 = .ok (.aload_n 0, 1) := dk_42 (dk_at dksX2_become_8 14 rfl rfl)
theorem dX2_become_200 : decode cX2_become 200 = .ok (.aload_n 1, 1) := dk_43 (dk_at dksX2_become_8 15 rfl rfl)
theorem dX2_become_201 : decode cX2_become 201 = .ok (.getfield 122, 3) := dk_180 0 122 (dk_at dksX2_become_8 16 rfl rfl)
theorem dX2_become_204 : decode cX2_become 204 = .ok (.putfield 122, 3) := dk_181 0 122 (dk_at dksX2_become_8 19 rfl rfl)
theorem dX2_become_207 : decode cX2_become 207 = .ok (.aload_n 0, 1) := dk_42 (dk_at dksX2_become_8 22 rfl rfl)
theorem dX2_become_208 : decode cX2_become 208 = .ok (.aload_n 1, 1) := dk_43 (dk_at dksX2_become_8 23 rfl rfl)
theorem dX2_become_209 : decode cX2_become 209 = .ok (.getfield 125, 3) := dk_180 0 125 (dk_at dksX2_become_9 0 rfl rfl)
theorem dX2_become_212 : decode cX2_become 212 = .ok (.putfield 125, 3) := dk_181 0 125 (dk_at dksX2_become_9 3 rfl rfl)
theorem dX2_become_215 : decode cX2_become 215 = .ok (.return_, 1) := dk_177 (dk_at dksX2_become_9 6 rfl rfl)
abbrev cX2_pass : ByteArray := prog_5_method_13_code
def yX2_pass : MethodName := ⟨RX2, "pass", "()V"⟩
def dkwX2_pass_3 : List UInt8 := [132, 1, 1, 167, 255, 233, 42, 89, 180, 0, 103, 4, 96, 181, 0, 103, 42, 182, 0, 223, 177]
abbrev dktX2_pass_3 : List UInt8 := dkwX2_pass_3 ++ []
def dkwX2_pass_2 : List UInt8 := [3, 60, 27, 16, 8, 162, 0, 23, 42, 27, 7, 42, 180, 0, 44, 6, 46, 104, 182, 0, 210, 87]
abbrev dktX2_pass_2 : List UInt8 := dkwX2_pass_2 ++ dktX2_pass_3
def dkwX2_pass_1 : List UInt8 := [25, 4, 3, 181, 0, 226, 132, 3, 1, 167, 255, 237, 42, 182, 0, 229, 42, 182, 0, 232, 42, 182, 0, 235]
abbrev dktX2_pass_1 : List UInt8 := dkwX2_pass_1 ++ dktX2_pass_2
def dkwX2_pass_0 : List UInt8 := [42, 182, 0, 223, 42, 180, 0, 11, 76, 43, 190, 61, 3, 62, 29, 28, 162, 0, 20, 43, 29, 50, 58, 4]
abbrev dktX2_pass_0 : List UInt8 := dkwX2_pass_0 ++ dktX2_pass_1
theorem dksX2_pass_0 : cX2_pass.data.toList.drop 0 = dktX2_pass_0 := by decide +kernel
theorem dksX2_pass_1 : cX2_pass.data.toList.drop 24 = dktX2_pass_1 := dk_seg dksX2_pass_0 24 rfl rfl
theorem dksX2_pass_2 : cX2_pass.data.toList.drop 48 = dktX2_pass_2 := dk_seg dksX2_pass_1 24 rfl rfl
theorem dksX2_pass_3 : cX2_pass.data.toList.drop 70 = dktX2_pass_3 := dk_seg dksX2_pass_2 22 rfl rfl
theorem dX2_pass_0 : decode cX2_pass 0 = .ok (.aload_n 0, 1) := dk_42 (dk_at dksX2_pass_0 0 rfl rfl)
theorem dX2_pass_1 : decode cX2_pass 1 = .ok (.invokevirtual 223, 3) := dk_182 0 223 (dk_at dksX2_pass_0 1 rfl rfl)
theorem dX2_pass_4 : decode cX2_pass 4 = .ok (.aload_n 0, 1) := dk_42 (dk_at dksX2_pass_0 4 rfl rfl)
theorem dX2_pass_5 : decode cX2_pass 5 = .ok (.getfield 11, 3) := dk_180 0 11 (dk_at dksX2_pass_0 5 rfl rfl)
theorem dX2_pass_8 : decode cX2_pass 8 = .ok (.astore_n 1, 1) := dk_76 (dk_at dksX2_pass_0 8 rfl rfl)
theorem dX2_pass_9 : decode cX2_pass 9 = .ok (.aload_n 1, 1) := dk_43 (dk_at dksX2_pass_0 9 rfl rfl)
theorem dX2_pass_10 : decode cX2_pass 10 = .ok (.arraylength, 1) := dk_190 (dk_at dksX2_pass_0 10 rfl rfl)
theorem dX2_pass_11 : decode cX2_pass 11 = .ok (.istore_n 2, 1) := dk_61 (dk_at dksX2_pass_0 11 rfl rfl)
theorem dX2_pass_12 : decode cX2_pass 12 = .ok (.iconst 0, 1) := dk_3 (dk_at dksX2_pass_0 12 rfl rfl)
theorem dX2_pass_13 : decode cX2_pass 13 = .ok (.istore_n 3, 1) := dk_62 (dk_at dksX2_pass_0 13 rfl rfl)
theorem dX2_pass_14 : decode cX2_pass 14 = .ok (.iload_n 3, 1) := dk_29 (dk_at dksX2_pass_0 14 rfl rfl)
theorem dX2_pass_15 : decode cX2_pass 15 = .ok (.iload_n 2, 1) := dk_28 (dk_at dksX2_pass_0 15 rfl rfl)
theorem dX2_pass_16 : decode cX2_pass 16 = .ok (.if_icmp .ge 20, 3) := dk_162 0 20 (dk_at dksX2_pass_0 16 rfl rfl)
theorem dX2_pass_19 : decode cX2_pass 19 = .ok (.aload_n 1, 1) := dk_43 (dk_at dksX2_pass_0 19 rfl rfl)
theorem dX2_pass_20 : decode cX2_pass 20 = .ok (.iload_n 3, 1) := dk_29 (dk_at dksX2_pass_0 20 rfl rfl)
theorem dX2_pass_21 : decode cX2_pass 21 = .ok (.aaload, 1) := dk_50 (dk_at dksX2_pass_0 21 rfl rfl)
theorem dX2_pass_22 : decode cX2_pass 22 = .ok (.astore 4, 2) := dk_58 4 (dk_at dksX2_pass_0 22 rfl rfl)
theorem dX2_pass_24 : decode cX2_pass 24 = .ok (.aload 4, 2) := dk_25 4 (dk_at dksX2_pass_1 0 rfl rfl)
theorem dX2_pass_26 : decode cX2_pass 26 = .ok (.iconst 0, 1) := dk_3 (dk_at dksX2_pass_1 2 rfl rfl)
theorem dX2_pass_27 : decode cX2_pass 27 = .ok (.putfield 226, 3) := dk_181 0 226 (dk_at dksX2_pass_1 3 rfl rfl)
theorem dX2_pass_30 : decode cX2_pass 30 = .ok (.iinc 3 1, 3) := dk_132 3 1 (dk_at dksX2_pass_1 6 rfl rfl)
theorem dX2_pass_33 : decode cX2_pass 33 = .ok (.goto (-19), 3) := dk_167 255 237 (dk_at dksX2_pass_1 9 rfl rfl)
theorem dX2_pass_36 : decode cX2_pass 36 = .ok (.aload_n 0, 1) := dk_42 (dk_at dksX2_pass_1 12 rfl rfl)
theorem dX2_pass_37 : decode cX2_pass 37 = .ok (.invokevirtual 229, 3) := dk_182 0 229 (dk_at dksX2_pass_1 13 rfl rfl)
theorem dX2_pass_40 : decode cX2_pass 40 = .ok (.aload_n 0, 1) := dk_42 (dk_at dksX2_pass_1 16 rfl rfl)
theorem dX2_pass_41 : decode cX2_pass 41 = .ok (.invokevirtual 232, 3) := dk_182 0 232 (dk_at dksX2_pass_1 17 rfl rfl)
theorem dX2_pass_44 : decode cX2_pass 44 = .ok (.aload_n 0, 1) := dk_42 (dk_at dksX2_pass_1 20 rfl rfl)
theorem dX2_pass_45 : decode cX2_pass 45 = .ok (.invokevirtual 235, 3) := dk_182 0 235 (dk_at dksX2_pass_1 21 rfl rfl)
theorem dX2_pass_48 : decode cX2_pass 48 = .ok (.iconst 0, 1) := dk_3 (dk_at dksX2_pass_2 0 rfl rfl)
theorem dX2_pass_49 : decode cX2_pass 49 = .ok (.istore_n 1, 1) := dk_60 (dk_at dksX2_pass_2 1 rfl rfl)
theorem dX2_pass_50 : decode cX2_pass 50 = .ok (.iload_n 1, 1) := dk_27 (dk_at dksX2_pass_2 2 rfl rfl)
theorem dX2_pass_51 : decode cX2_pass 51 = .ok (.bipush 8, 2) := dk_16 8 (dk_at dksX2_pass_2 3 rfl rfl)
theorem dX2_pass_53 : decode cX2_pass 53 = .ok (.if_icmp .ge 23, 3) := dk_162 0 23 (dk_at dksX2_pass_2 5 rfl rfl)
theorem dX2_pass_56 : decode cX2_pass 56 = .ok (.aload_n 0, 1) := dk_42 (dk_at dksX2_pass_2 8 rfl rfl)
theorem dX2_pass_57 : decode cX2_pass 57 = .ok (.iload_n 1, 1) := dk_27 (dk_at dksX2_pass_2 9 rfl rfl)
theorem dX2_pass_58 : decode cX2_pass 58 = .ok (.iconst 4, 1) := dk_7 (dk_at dksX2_pass_2 10 rfl rfl)
theorem dX2_pass_59 : decode cX2_pass 59 = .ok (.aload_n 0, 1) := dk_42 (dk_at dksX2_pass_2 11 rfl rfl)
theorem dX2_pass_60 : decode cX2_pass 60 = .ok (.getfield 44, 3) := dk_180 0 44 (dk_at dksX2_pass_2 12 rfl rfl)
theorem dX2_pass_63 : decode cX2_pass 63 = .ok (.iconst 3, 1) := dk_6 (dk_at dksX2_pass_2 15 rfl rfl)
theorem dX2_pass_64 : decode cX2_pass 64 = .ok (.iaload, 1) := dk_46 (dk_at dksX2_pass_2 16 rfl rfl)
theorem dX2_pass_65 : decode cX2_pass 65 = .ok (.imul, 1) := dk_104 (dk_at dksX2_pass_2 17 rfl rfl)
theorem dX2_pass_66 : decode cX2_pass 66 = .ok (.invokevirtual 210, 3) := dk_182 0 210 (dk_at dksX2_pass_2 18 rfl rfl)
theorem dX2_pass_69 : decode cX2_pass 69 = .ok (.pop, 1) := dk_87 (dk_at dksX2_pass_2 21 rfl rfl)
theorem dX2_pass_70 : decode cX2_pass 70 = .ok (.iinc 1 1, 3) := dk_132 1 1 (dk_at dksX2_pass_3 0 rfl rfl)
theorem dX2_pass_73 : decode cX2_pass 73 = .ok (.goto (-23), 3) := dk_167 255 233 (dk_at dksX2_pass_3 3 rfl rfl)
theorem dX2_pass_76 : decode cX2_pass 76 = .ok (.aload_n 0, 1) := dk_42 (dk_at dksX2_pass_3 6 rfl rfl)
theorem dX2_pass_77 : decode cX2_pass 77 = .ok (.dup, 1) := dk_89 (dk_at dksX2_pass_3 7 rfl rfl)
theorem dX2_pass_78 : decode cX2_pass 78 = .ok (.getfield 103, 3) := dk_180 0 103 (dk_at dksX2_pass_3 8 rfl rfl)
theorem dX2_pass_81 : decode cX2_pass 81 = .ok (.iconst 1, 1) := dk_4 (dk_at dksX2_pass_3 11 rfl rfl)
theorem dX2_pass_82 : decode cX2_pass 82 = .ok (.iadd, 1) := dk_96 (dk_at dksX2_pass_3 12 rfl rfl)
theorem dX2_pass_83 : decode cX2_pass 83 = .ok (.putfield 103, 3) := dk_181 0 103 (dk_at dksX2_pass_3 13 rfl rfl)
theorem dX2_pass_86 : decode cX2_pass 86 = .ok (.aload_n 0, 1) := dk_42 (dk_at dksX2_pass_3 16 rfl rfl)
theorem dX2_pass_87 : decode cX2_pass 87 = .ok (.invokevirtual 223, 3) := dk_182 0 223 (dk_at dksX2_pass_3 17 rfl rfl)
theorem dX2_pass_90 : decode cX2_pass 90 = .ok (.return_, 1) := dk_177 (dk_at dksX2_pass_3 20 rfl rfl)
abbrev cX2_lookOut : ByteArray := prog_5_method_3_code
def yX2_lookOut : MethodName := ⟨RX2, "lookOut", "()V"⟩
def dkwX2_lookOut_2 : List UInt8 := [3, 181, 0, 125, 177]
abbrev dktX2_lookOut_2 : List UInt8 := dkwX2_lookOut_2 ++ []
def dkwX2_lookOut_1 : List UInt8 := [180, 0, 33, 43, 182, 0, 81, 192, 0, 79, 182, 0, 136, 42, 180, 0, 103, 161, 0, 7, 4, 167, 0, 4]
abbrev dktX2_lookOut_1 : List UInt8 := dkwX2_lookOut_1 ++ dktX2_lookOut_2
def dkwX2_lookOut_0 : List UInt8 := [42, 180, 0, 33, 42, 180, 0, 103, 184, 0, 129, 182, 0, 133, 192, 0, 79, 76, 42, 43, 198, 0, 28, 42]
abbrev dktX2_lookOut_0 : List UInt8 := dkwX2_lookOut_0 ++ dktX2_lookOut_1
theorem dksX2_lookOut_0 : cX2_lookOut.data.toList.drop 0 = dktX2_lookOut_0 := by decide +kernel
theorem dksX2_lookOut_1 : cX2_lookOut.data.toList.drop 24 = dktX2_lookOut_1 := dk_seg dksX2_lookOut_0 24 rfl rfl
theorem dksX2_lookOut_2 : cX2_lookOut.data.toList.drop 48 = dktX2_lookOut_2 := dk_seg dksX2_lookOut_1 24 rfl rfl
theorem dX2_lookOut_0 : decode cX2_lookOut 0 = .ok (.aload_n 0, 1) := dk_42 (dk_at dksX2_lookOut_0 0 rfl rfl)
theorem dX2_lookOut_1 : decode cX2_lookOut 1 = .ok (.getfield 33, 3) := dk_180 0 33 (dk_at dksX2_lookOut_0 1 rfl rfl)
theorem dX2_lookOut_4 : decode cX2_lookOut 4 = .ok (.aload_n 0, 1) := dk_42 (dk_at dksX2_lookOut_0 4 rfl rfl)
theorem dX2_lookOut_5 : decode cX2_lookOut 5 = .ok (.getfield 103, 3) := dk_180 0 103 (dk_at dksX2_lookOut_0 5 rfl rfl)
theorem dX2_lookOut_8 : decode cX2_lookOut 8 = .ok (.invokestatic 129, 3) := dk_184 0 129 (dk_at dksX2_lookOut_0 8 rfl rfl)
theorem dX2_lookOut_11 : decode cX2_lookOut 11 = .ok (.invokevirtual 133, 3) := dk_182 0 133 (dk_at dksX2_lookOut_0 11 rfl rfl)
theorem dX2_lookOut_14 : decode cX2_lookOut 14 = .ok (.checkcast 79, 3) := dk_192 0 79 (dk_at dksX2_lookOut_0 14 rfl rfl)
theorem dX2_lookOut_17 : decode cX2_lookOut 17 = .ok (.astore_n 1, 1) := dk_76 (dk_at dksX2_lookOut_0 17 rfl rfl)
theorem dX2_lookOut_18 : decode cX2_lookOut 18 = .ok (.aload_n 0, 1) := dk_42 (dk_at dksX2_lookOut_0 18 rfl rfl)
theorem dX2_lookOut_19 : decode cX2_lookOut 19 = .ok (.aload_n 1, 1) := dk_43 (dk_at dksX2_lookOut_0 19 rfl rfl)
theorem dX2_lookOut_20 : decode cX2_lookOut 20 = .ok (.ifnull 28, 3) := dk_198 0 28 (dk_at dksX2_lookOut_0 20 rfl rfl)
theorem dX2_lookOut_23 : decode cX2_lookOut 23 = .ok (.aload_n 0, 1) := dk_42 (dk_at dksX2_lookOut_0 23 rfl rfl)
theorem dX2_lookOut_24 : decode cX2_lookOut 24 = .ok (.getfield 33, 3) := dk_180 0 33 (dk_at dksX2_lookOut_1 0 rfl rfl)
theorem dX2_lookOut_27 : decode cX2_lookOut 27 = .ok (.aload_n 1, 1) := dk_43 (dk_at dksX2_lookOut_1 3 rfl rfl)
theorem dX2_lookOut_28 : decode cX2_lookOut 28 = .ok (.invokevirtual 81, 3) := dk_182 0 81 (dk_at dksX2_lookOut_1 4 rfl rfl)
theorem dX2_lookOut_31 : decode cX2_lookOut 31 = .ok (.checkcast 79, 3) := dk_192 0 79 (dk_at dksX2_lookOut_1 7 rfl rfl)
theorem dX2_lookOut_34 : decode cX2_lookOut 34 = .ok (.invokevirtual 136, 3) := dk_182 0 136 (dk_at dksX2_lookOut_1 10 rfl rfl)
theorem dX2_lookOut_37 : decode cX2_lookOut 37 = .ok (.aload_n 0, 1) := dk_42 (dk_at dksX2_lookOut_1 13 rfl rfl)
theorem dX2_lookOut_38 : decode cX2_lookOut 38 = .ok (.getfield 103, 3) := dk_180 0 103 (dk_at dksX2_lookOut_1 14 rfl rfl)
theorem dX2_lookOut_41 : decode cX2_lookOut 41 = .ok (.if_icmp .lt 7, 3) := dk_161 0 7 (dk_at dksX2_lookOut_1 17 rfl rfl)
theorem dX2_lookOut_44 : decode cX2_lookOut 44 = .ok (.iconst 1, 1) := dk_4 (dk_at dksX2_lookOut_1 20 rfl rfl)
theorem dX2_lookOut_45 : decode cX2_lookOut 45 = .ok (.goto 4, 3) := dk_167 0 4 (dk_at dksX2_lookOut_1 21 rfl rfl)
theorem dX2_lookOut_48 : decode cX2_lookOut 48 = .ok (.iconst 0, 1) := dk_3 (dk_at dksX2_lookOut_2 0 rfl rfl)
theorem dX2_lookOut_49 : decode cX2_lookOut 49 = .ok (.putfield 125, 3) := dk_181 0 125 (dk_at dksX2_lookOut_2 1 rfl rfl)
theorem dX2_lookOut_52 : decode cX2_lookOut 52 = .ok (.return_, 1) := dk_177 (dk_at dksX2_lookOut_2 4 rfl rfl)
abbrev cX2_freeze : ByteArray := prog_5_method_8_code
def yX2_freeze : MethodName := ⟨RX2, "freeze", "()V"⟩
def dkwX2_freeze_3 : List UInt8 := [167, 255, 195, 177]
abbrev dktX2_freeze_3 : List UInt8 := dkwX2_freeze_3 ++ []
def dkwX2_freeze_2 : List UInt8 := [154, 0, 20, 25, 4, 180, 0, 143, 154, 0, 12, 25, 4, 42, 180, 0, 103, 182, 0, 176, 132, 3, 1]
abbrev dktX2_freeze_2 : List UInt8 := dkwX2_freeze_2 ++ dktX2_freeze_3
def dkwX2_freeze_1 : List UInt8 := [153, 0, 44, 25, 4, 180, 0, 140, 153, 0, 36, 25, 4, 180, 0, 149, 154, 0, 28, 25, 4, 180, 0, 146]
abbrev dktX2_freeze_1 : List UInt8 := dkwX2_freeze_1 ++ dktX2_freeze_2
def dkwX2_freeze_0 : List UInt8 := [42, 180, 0, 11, 76, 43, 190, 61, 3, 62, 29, 28, 162, 0, 62, 43, 29, 50, 58, 4, 42, 180, 0, 125]
abbrev dktX2_freeze_0 : List UInt8 := dkwX2_freeze_0 ++ dktX2_freeze_1
theorem dksX2_freeze_0 : cX2_freeze.data.toList.drop 0 = dktX2_freeze_0 := by decide +kernel
theorem dksX2_freeze_1 : cX2_freeze.data.toList.drop 24 = dktX2_freeze_1 := dk_seg dksX2_freeze_0 24 rfl rfl
theorem dksX2_freeze_2 : cX2_freeze.data.toList.drop 48 = dktX2_freeze_2 := dk_seg dksX2_freeze_1 24 rfl rfl
theorem dksX2_freeze_3 : cX2_freeze.data.toList.drop 71 = dktX2_freeze_3 := dk_seg dksX2_freeze_2 23 rfl rfl
theorem dX2_freeze_0 : decode cX2_freeze 0 = .ok (.aload_n 0, 1) := dk_42 (dk_at dksX2_freeze_0 0 rfl rfl)
theorem dX2_freeze_1 : decode cX2_freeze 1 = .ok (.getfield 11, 3) := dk_180 0 11 (dk_at dksX2_freeze_0 1 rfl rfl)
theorem dX2_freeze_4 : decode cX2_freeze 4 = .ok (.astore_n 1, 1) := dk_76 (dk_at dksX2_freeze_0 4 rfl rfl)
theorem dX2_freeze_5 : decode cX2_freeze 5 = .ok (.aload_n 1, 1) := dk_43 (dk_at dksX2_freeze_0 5 rfl rfl)
theorem dX2_freeze_6 : decode cX2_freeze 6 = .ok (.arraylength, 1) := dk_190 (dk_at dksX2_freeze_0 6 rfl rfl)
theorem dX2_freeze_7 : decode cX2_freeze 7 = .ok (.istore_n 2, 1) := dk_61 (dk_at dksX2_freeze_0 7 rfl rfl)
theorem dX2_freeze_8 : decode cX2_freeze 8 = .ok (.iconst 0, 1) := dk_3 (dk_at dksX2_freeze_0 8 rfl rfl)
theorem dX2_freeze_9 : decode cX2_freeze 9 = .ok (.istore_n 3, 1) := dk_62 (dk_at dksX2_freeze_0 9 rfl rfl)
theorem dX2_freeze_10 : decode cX2_freeze 10 = .ok (.iload_n 3, 1) := dk_29 (dk_at dksX2_freeze_0 10 rfl rfl)
theorem dX2_freeze_11 : decode cX2_freeze 11 = .ok (.iload_n 2, 1) := dk_28 (dk_at dksX2_freeze_0 11 rfl rfl)
theorem dX2_freeze_12 : decode cX2_freeze 12 = .ok (.if_icmp .ge 62, 3) := dk_162 0 62 (dk_at dksX2_freeze_0 12 rfl rfl)
theorem dX2_freeze_15 : decode cX2_freeze 15 = .ok (.aload_n 1, 1) := dk_43 (dk_at dksX2_freeze_0 15 rfl rfl)
theorem dX2_freeze_16 : decode cX2_freeze 16 = .ok (.iload_n 3, 1) := dk_29 (dk_at dksX2_freeze_0 16 rfl rfl)
theorem dX2_freeze_17 : decode cX2_freeze 17 = .ok (.aaload, 1) := dk_50 (dk_at dksX2_freeze_0 17 rfl rfl)
theorem dX2_freeze_18 : decode cX2_freeze 18 = .ok (.astore 4, 2) := dk_58 4 (dk_at dksX2_freeze_0 18 rfl rfl)
theorem dX2_freeze_20 : decode cX2_freeze 20 = .ok (.aload_n 0, 1) := dk_42 (dk_at dksX2_freeze_0 20 rfl rfl)
theorem dX2_freeze_21 : decode cX2_freeze 21 = .ok (.getfield 125, 3) := dk_180 0 125 (dk_at dksX2_freeze_0 21 rfl rfl)
theorem dX2_freeze_24 : decode cX2_freeze 24 = .ok (.ifCond .eq 44, 3) := dk_153 0 44 (dk_at dksX2_freeze_1 0 rfl rfl)
theorem dX2_freeze_27 : decode cX2_freeze 27 = .ok (.aload 4, 2) := dk_25 4 (dk_at dksX2_freeze_1 3 rfl rfl)
theorem dX2_freeze_29 : decode cX2_freeze 29 = .ok (.getfield 140, 3) := dk_180 0 140 (dk_at dksX2_freeze_1 5 rfl rfl)
theorem dX2_freeze_32 : decode cX2_freeze 32 = .ok (.ifCond .eq 36, 3) := dk_153 0 36 (dk_at dksX2_freeze_1 8 rfl rfl)
theorem dX2_freeze_35 : decode cX2_freeze 35 = .ok (.aload 4, 2) := dk_25 4 (dk_at dksX2_freeze_1 11 rfl rfl)
theorem dX2_freeze_37 : decode cX2_freeze 37 = .ok (.getfield 149, 3) := dk_180 0 149 (dk_at dksX2_freeze_1 13 rfl rfl)
theorem dX2_freeze_40 : decode cX2_freeze 40 = .ok (.ifCond .ne 28, 3) := dk_154 0 28 (dk_at dksX2_freeze_1 16 rfl rfl)
theorem dX2_freeze_43 : decode cX2_freeze 43 = .ok (.aload 4, 2) := dk_25 4 (dk_at dksX2_freeze_1 19 rfl rfl)
theorem dX2_freeze_45 : decode cX2_freeze 45 = .ok (.getfield 146, 3) := dk_180 0 146 (dk_at dksX2_freeze_1 21 rfl rfl)
theorem dX2_freeze_48 : decode cX2_freeze 48 = .ok (.ifCond .ne 20, 3) := dk_154 0 20 (dk_at dksX2_freeze_2 0 rfl rfl)
theorem dX2_freeze_51 : decode cX2_freeze 51 = .ok (.aload 4, 2) := dk_25 4 (dk_at dksX2_freeze_2 3 rfl rfl)
theorem dX2_freeze_53 : decode cX2_freeze 53 = .ok (.getfield 143, 3) := dk_180 0 143 (dk_at dksX2_freeze_2 5 rfl rfl)
theorem dX2_freeze_56 : decode cX2_freeze 56 = .ok (.ifCond .ne 12, 3) := dk_154 0 12 (dk_at dksX2_freeze_2 8 rfl rfl)
theorem dX2_freeze_59 : decode cX2_freeze 59 = .ok (.aload 4, 2) := dk_25 4 (dk_at dksX2_freeze_2 11 rfl rfl)
theorem dX2_freeze_61 : decode cX2_freeze 61 = .ok (.aload_n 0, 1) := dk_42 (dk_at dksX2_freeze_2 13 rfl rfl)
theorem dX2_freeze_62 : decode cX2_freeze 62 = .ok (.getfield 103, 3) := dk_180 0 103 (dk_at dksX2_freeze_2 14 rfl rfl)
theorem dX2_freeze_65 : decode cX2_freeze 65 = .ok (.invokevirtual 176, 3) := dk_182 0 176 (dk_at dksX2_freeze_2 17 rfl rfl)
theorem dX2_freeze_68 : decode cX2_freeze 68 = .ok (.iinc 3 1, 3) := dk_132 3 1 (dk_at dksX2_freeze_2 20 rfl rfl)
theorem dX2_freeze_71 : decode cX2_freeze 71 = .ok (.goto (-61), 3) := dk_167 255 195 (dk_at dksX2_freeze_3 0 rfl rfl)
theorem dX2_freeze_74 : decode cX2_freeze 74 = .ok (.return_, 1) := dk_177 (dk_at dksX2_freeze_3 3 rfl rfl)
abbrev cX2_work : ByteArray := prog_5_method_9_code
def yX2_work : MethodName := ⟨RX2, "work", "()V"⟩
def dkwX2_work_6 : List UInt8 := [46, 178, 0, 189, 44, 180, 0, 168, 46, 160, 0, 11, 45, 44, 180, 0, 168, 182, 0, 200, 167, 255, 107, 177]
abbrev dktX2_work_6 : List UInt8 := dkwX2_work_6 ++ []
def dkwX2_work_5 : List UInt8 := [180, 0, 116, 21, 4, 42, 180, 0, 44, 7, 46, 104, 96, 181, 0, 116, 45, 180, 0, 192, 44, 180, 0, 168]
abbrev dktX2_work_5 : List UInt8 := dkwX2_work_5 ++ dktX2_work_6
def dkwX2_work_4 : List UInt8 := [21, 4, 96, 79, 27, 21, 4, 100, 60, 42, 89, 180, 0, 119, 21, 4, 96, 181, 0, 119, 42, 89]
abbrev dktX2_work_4 : List UInt8 := dkwX2_work_4 ++ dktX2_work_5
def dkwX2_work_3 : List UInt8 := [180, 0, 192, 44, 180, 0, 168, 46, 100, 184, 0, 194, 54, 4, 45, 180, 0, 192, 44, 180, 0, 168, 92, 46]
abbrev dktX2_work_3 : List UInt8 := dkwX2_work_3 ++ dktX2_work_4
def dkwX2_work_2 : List UInt8 := [153, 0, 14, 44, 180, 0, 168, 154, 0, 7, 3, 167, 0, 25, 27, 178, 0, 189, 44, 180, 0, 168, 46, 45]
abbrev dktX2_work_2 : List UInt8 := dkwX2_work_2 ++ dktX2_work_3
def dkwX2_work_1 : List UInt8 := [180, 0, 26, 182, 0, 186, 192, 0, 17, 77, 42, 180, 0, 11, 44, 180, 0, 162, 50, 78, 42, 180, 0, 125]
abbrev dktX2_work_1 : List UInt8 := dkwX2_work_1 ++ dktX2_work_2
def dkwX2_work_0 : List UInt8 := [42, 180, 0, 44, 3, 46, 60, 42, 182, 0, 180, 42, 180, 0, 26, 182, 0, 183, 154, 0, 145, 42]
abbrev dktX2_work_0 : List UInt8 := dkwX2_work_0 ++ dktX2_work_1
theorem dksX2_work_0 : cX2_work.data.toList.drop 0 = dktX2_work_0 := by decide +kernel
theorem dksX2_work_1 : cX2_work.data.toList.drop 22 = dktX2_work_1 := dk_seg dksX2_work_0 22 rfl rfl
theorem dksX2_work_2 : cX2_work.data.toList.drop 46 = dktX2_work_2 := dk_seg dksX2_work_1 24 rfl rfl
theorem dksX2_work_3 : cX2_work.data.toList.drop 70 = dktX2_work_3 := dk_seg dksX2_work_2 24 rfl rfl
theorem dksX2_work_4 : cX2_work.data.toList.drop 94 = dktX2_work_4 := dk_seg dksX2_work_3 24 rfl rfl
theorem dksX2_work_5 : cX2_work.data.toList.drop 116 = dktX2_work_5 := dk_seg dksX2_work_4 22 rfl rfl
theorem dksX2_work_6 : cX2_work.data.toList.drop 140 = dktX2_work_6 := dk_seg dksX2_work_5 24 rfl rfl
theorem dX2_work_0 : decode cX2_work 0 = .ok (.aload_n 0, 1) := dk_42 (dk_at dksX2_work_0 0 rfl rfl)
theorem dX2_work_1 : decode cX2_work 1 = .ok (.getfield 44, 3) := dk_180 0 44 (dk_at dksX2_work_0 1 rfl rfl)
theorem dX2_work_4 : decode cX2_work 4 = .ok (.iconst 0, 1) := dk_3 (dk_at dksX2_work_0 4 rfl rfl)
theorem dX2_work_5 : decode cX2_work 5 = .ok (.iaload, 1) := dk_46 (dk_at dksX2_work_0 5 rfl rfl)
theorem dX2_work_6 : decode cX2_work 6 = .ok (.istore_n 1, 1) := dk_60 (dk_at dksX2_work_0 6 rfl rfl)
theorem dX2_work_7 : decode cX2_work 7 = .ok (.aload_n 0, 1) := dk_42 (dk_at dksX2_work_0 7 rfl rfl)
theorem dX2_work_8 : decode cX2_work 8 = .ok (.invokevirtual 180, 3) := dk_182 0 180 (dk_at dksX2_work_0 8 rfl rfl)
theorem dX2_work_11 : decode cX2_work 11 = .ok (.aload_n 0, 1) := dk_42 (dk_at dksX2_work_0 11 rfl rfl)
theorem dX2_work_12 : decode cX2_work 12 = .ok (.getfield 26, 3) := dk_180 0 26 (dk_at dksX2_work_0 12 rfl rfl)
theorem dX2_work_15 : decode cX2_work 15 = .ok (.invokevirtual 183, 3) := dk_182 0 183 (dk_at dksX2_work_0 15 rfl rfl)
theorem dX2_work_18 : decode cX2_work 18 = .ok (.ifCond .ne 145, 3) := dk_154 0 145 (dk_at dksX2_work_0 18 rfl rfl)
theorem dX2_work_21 : decode cX2_work 21 = .ok (.aload_n 0, 1) := dk_42 (dk_at dksX2_work_0 21 rfl rfl)
theorem dX2_work_22 : decode cX2_work 22 = .ok (.getfield 26, 3) := dk_180 0 26 (dk_at dksX2_work_1 0 rfl rfl)
theorem dX2_work_25 : decode cX2_work 25 = .ok (.invokevirtual 186, 3) := dk_182 0 186 (dk_at dksX2_work_1 3 rfl rfl)
theorem dX2_work_28 : decode cX2_work 28 = .ok (.checkcast 17, 3) := dk_192 0 17 (dk_at dksX2_work_1 6 rfl rfl)
theorem dX2_work_31 : decode cX2_work 31 = .ok (.astore_n 2, 1) := dk_77 (dk_at dksX2_work_1 9 rfl rfl)
theorem dX2_work_32 : decode cX2_work 32 = .ok (.aload_n 0, 1) := dk_42 (dk_at dksX2_work_1 10 rfl rfl)
theorem dX2_work_33 : decode cX2_work 33 = .ok (.getfield 11, 3) := dk_180 0 11 (dk_at dksX2_work_1 11 rfl rfl)
theorem dX2_work_36 : decode cX2_work 36 = .ok (.aload_n 2, 1) := dk_44 (dk_at dksX2_work_1 14 rfl rfl)
theorem dX2_work_37 : decode cX2_work 37 = .ok (.getfield 162, 3) := dk_180 0 162 (dk_at dksX2_work_1 15 rfl rfl)
theorem dX2_work_40 : decode cX2_work 40 = .ok (.aaload, 1) := dk_50 (dk_at dksX2_work_1 18 rfl rfl)
theorem dX2_work_41 : decode cX2_work 41 = .ok (.astore_n 3, 1) := dk_78 (dk_at dksX2_work_1 19 rfl rfl)
theorem dX2_work_42 : decode cX2_work 42 = .ok (.aload_n 0, 1) := dk_42 (dk_at dksX2_work_1 20 rfl rfl)
theorem dX2_work_43 : decode cX2_work 43 = .ok (.getfield 125, 3) := dk_180 0 125 (dk_at dksX2_work_1 21 rfl rfl)
theorem dX2_work_46 : decode cX2_work 46 = .ok (.ifCond .eq 14, 3) := dk_153 0 14 (dk_at dksX2_work_2 0 rfl rfl)
theorem dX2_work_49 : decode cX2_work 49 = .ok (.aload_n 2, 1) := dk_44 (dk_at dksX2_work_2 3 rfl rfl)
theorem dX2_work_50 : decode cX2_work 50 = .ok (.getfield 168, 3) := dk_180 0 168 (dk_at dksX2_work_2 4 rfl rfl)
theorem dX2_work_53 : decode cX2_work 53 = .ok (.ifCond .ne 7, 3) := dk_154 0 7 (dk_at dksX2_work_2 7 rfl rfl)
theorem dX2_work_56 : decode cX2_work 56 = .ok (.iconst 0, 1) := dk_3 (dk_at dksX2_work_2 10 rfl rfl)
theorem dX2_work_57 : decode cX2_work 57 = .ok (.goto 25, 3) := dk_167 0 25 (dk_at dksX2_work_2 11 rfl rfl)
theorem dX2_work_60 : decode cX2_work 60 = .ok (.iload_n 1, 1) := dk_27 (dk_at dksX2_work_2 14 rfl rfl)
theorem dX2_work_61 : decode cX2_work 61 = .ok (.getstatic 189, 3) := dk_178 0 189 (dk_at dksX2_work_2 15 rfl rfl)
theorem dX2_work_64 : decode cX2_work 64 = .ok (.aload_n 2, 1) := dk_44 (dk_at dksX2_work_2 18 rfl rfl)
theorem dX2_work_65 : decode cX2_work 65 = .ok (.getfield 168, 3) := dk_180 0 168 (dk_at dksX2_work_2 19 rfl rfl)
theorem dX2_work_68 : decode cX2_work 68 = .ok (.iaload, 1) := dk_46 (dk_at dksX2_work_2 22 rfl rfl)
theorem dX2_work_69 : decode cX2_work 69 = .ok (.aload_n 3, 1) := dk_45 (dk_at dksX2_work_2 23 rfl rfl)
theorem dX2_work_70 : decode cX2_work 70 = .ok (.getfield 192, 3) := dk_180 0 192 (dk_at dksX2_work_3 0 rfl rfl)
theorem dX2_work_73 : decode cX2_work 73 = .ok (.aload_n 2, 1) := dk_44 (dk_at dksX2_work_3 3 rfl rfl)
theorem dX2_work_74 : decode cX2_work 74 = .ok (.getfield 168, 3) := dk_180 0 168 (dk_at dksX2_work_3 4 rfl rfl)
theorem dX2_work_77 : decode cX2_work 77 = .ok (.iaload, 1) := dk_46 (dk_at dksX2_work_3 7 rfl rfl)
theorem dX2_work_78 : decode cX2_work 78 = .ok (.isub, 1) := dk_100 (dk_at dksX2_work_3 8 rfl rfl)
theorem dX2_work_79 : decode cX2_work 79 = .ok (.invokestatic 194, 3) := dk_184 0 194 (dk_at dksX2_work_3 9 rfl rfl)
theorem dX2_work_82 : decode cX2_work 82 = .ok (.istore 4, 2) := dk_54 4 (dk_at dksX2_work_3 12 rfl rfl)
theorem dX2_work_84 : decode cX2_work 84 = .ok (.aload_n 3, 1) := dk_45 (dk_at dksX2_work_3 14 rfl rfl)
theorem dX2_work_85 : decode cX2_work 85 = .ok (.getfield 192, 3) := dk_180 0 192 (dk_at dksX2_work_3 15 rfl rfl)
theorem dX2_work_88 : decode cX2_work 88 = .ok (.aload_n 2, 1) := dk_44 (dk_at dksX2_work_3 18 rfl rfl)
theorem dX2_work_89 : decode cX2_work 89 = .ok (.getfield 168, 3) := dk_180 0 168 (dk_at dksX2_work_3 19 rfl rfl)
theorem dX2_work_92 : decode cX2_work 92 = .ok (.dup2, 1) := dk_92 (dk_at dksX2_work_3 22 rfl rfl)
theorem dX2_work_93 : decode cX2_work 93 = .ok (.iaload, 1) := dk_46 (dk_at dksX2_work_3 23 rfl rfl)
theorem dX2_work_94 : decode cX2_work 94 = .ok (.iload 4, 2) := dk_21 4 (dk_at dksX2_work_4 0 rfl rfl)
theorem dX2_work_96 : decode cX2_work 96 = .ok (.iadd, 1) := dk_96 (dk_at dksX2_work_4 2 rfl rfl)
theorem dX2_work_97 : decode cX2_work 97 = .ok (.iastore, 1) := dk_79 (dk_at dksX2_work_4 3 rfl rfl)
theorem dX2_work_98 : decode cX2_work 98 = .ok (.iload_n 1, 1) := dk_27 (dk_at dksX2_work_4 4 rfl rfl)
theorem dX2_work_99 : decode cX2_work 99 = .ok (.iload 4, 2) := dk_21 4 (dk_at dksX2_work_4 5 rfl rfl)
theorem dX2_work_101 : decode cX2_work 101 = .ok (.isub, 1) := dk_100 (dk_at dksX2_work_4 7 rfl rfl)
theorem dX2_work_102 : decode cX2_work 102 = .ok (.istore_n 1, 1) := dk_60 (dk_at dksX2_work_4 8 rfl rfl)
theorem dX2_work_103 : decode cX2_work 103 = .ok (.aload_n 0, 1) := dk_42 (dk_at dksX2_work_4 9 rfl rfl)
theorem dX2_work_104 : decode cX2_work 104 = .ok (.dup, 1) := dk_89 (dk_at dksX2_work_4 10 rfl rfl)
theorem dX2_work_105 : decode cX2_work 105 = .ok (.getfield 119, 3) := dk_180 0 119 (dk_at dksX2_work_4 11 rfl rfl)
theorem dX2_work_108 : decode cX2_work 108 = .ok (.iload 4, 2) := dk_21 4 (dk_at dksX2_work_4 14 rfl rfl)
theorem dX2_work_110 : decode cX2_work 110 = .ok (.iadd, 1) := dk_96 (dk_at dksX2_work_4 16 rfl rfl)
theorem dX2_work_111 : decode cX2_work 111 = .ok (.putfield 119, 3) := dk_181 0 119 (dk_at dksX2_work_4 17 rfl rfl)
theorem dX2_work_114 : decode cX2_work 114 = .ok (.aload_n 0, 1) := dk_42 (dk_at dksX2_work_4 20 rfl rfl)
theorem dX2_work_115 : decode cX2_work 115 = .ok (.dup, 1) := dk_89 (dk_at dksX2_work_4 21 rfl rfl)
theorem dX2_work_116 : decode cX2_work 116 = .ok (.getfield 116, 3) := dk_180 0 116 (dk_at dksX2_work_5 0 rfl rfl)
theorem dX2_work_119 : decode cX2_work 119 = .ok (.iload 4, 2) := dk_21 4 (dk_at dksX2_work_5 3 rfl rfl)
theorem dX2_work_121 : decode cX2_work 121 = .ok (.aload_n 0, 1) := dk_42 (dk_at dksX2_work_5 5 rfl rfl)
theorem dX2_work_122 : decode cX2_work 122 = .ok (.getfield 44, 3) := dk_180 0 44 (dk_at dksX2_work_5 6 rfl rfl)
theorem dX2_work_125 : decode cX2_work 125 = .ok (.iconst 4, 1) := dk_7 (dk_at dksX2_work_5 9 rfl rfl)
theorem dX2_work_126 : decode cX2_work 126 = .ok (.iaload, 1) := dk_46 (dk_at dksX2_work_5 10 rfl rfl)
theorem dX2_work_127 : decode cX2_work 127 = .ok (.imul, 1) := dk_104 (dk_at dksX2_work_5 11 rfl rfl)
theorem dX2_work_128 : decode cX2_work 128 = .ok (.iadd, 1) := dk_96 (dk_at dksX2_work_5 12 rfl rfl)
theorem dX2_work_129 : decode cX2_work 129 = .ok (.putfield 116, 3) := dk_181 0 116 (dk_at dksX2_work_5 13 rfl rfl)
theorem dX2_work_132 : decode cX2_work 132 = .ok (.aload_n 3, 1) := dk_45 (dk_at dksX2_work_5 16 rfl rfl)
theorem dX2_work_133 : decode cX2_work 133 = .ok (.getfield 192, 3) := dk_180 0 192 (dk_at dksX2_work_5 17 rfl rfl)
theorem dX2_work_136 : decode cX2_work 136 = .ok (.aload_n 2, 1) := dk_44 (dk_at dksX2_work_5 20 rfl rfl)
theorem dX2_work_137 : decode cX2_work 137 = .ok (.getfield 168, 3) := dk_180 0 168 (dk_at dksX2_work_5 21 rfl rfl)
theorem dX2_work_140 : decode cX2_work 140 = .ok (.iaload, 1) := dk_46 (dk_at dksX2_work_6 0 rfl rfl)
theorem dX2_work_141 : decode cX2_work 141 = .ok (.getstatic 189, 3) := dk_178 0 189 (dk_at dksX2_work_6 1 rfl rfl)
theorem dX2_work_144 : decode cX2_work 144 = .ok (.aload_n 2, 1) := dk_44 (dk_at dksX2_work_6 4 rfl rfl)
theorem dX2_work_145 : decode cX2_work 145 = .ok (.getfield 168, 3) := dk_180 0 168 (dk_at dksX2_work_6 5 rfl rfl)
theorem dX2_work_148 : decode cX2_work 148 = .ok (.iaload, 1) := dk_46 (dk_at dksX2_work_6 8 rfl rfl)
theorem dX2_work_149 : decode cX2_work 149 = .ok (.if_icmp .ne 11, 3) := dk_160 0 11 (dk_at dksX2_work_6 9 rfl rfl)
theorem dX2_work_152 : decode cX2_work 152 = .ok (.aload_n 3, 1) := dk_45 (dk_at dksX2_work_6 12 rfl rfl)
theorem dX2_work_153 : decode cX2_work 153 = .ok (.aload_n 2, 1) := dk_44 (dk_at dksX2_work_6 13 rfl rfl)
theorem dX2_work_154 : decode cX2_work 154 = .ok (.getfield 168, 3) := dk_180 0 168 (dk_at dksX2_work_6 14 rfl rfl)
theorem dX2_work_157 : decode cX2_work 157 = .ok (.invokevirtual 200, 3) := dk_182 0 200 (dk_at dksX2_work_6 17 rfl rfl)
theorem dX2_work_160 : decode cX2_work 160 = .ok (.goto (-149), 3) := dk_167 255 107 (dk_at dksX2_work_6 20 rfl rfl)
theorem dX2_work_163 : decode cX2_work 163 = .ok (.return_, 1) := dk_177 (dk_at dksX2_work_6 23 rfl rfl)
abbrev cX2_layJobs : ByteArray := prog_5_method_7_code
def yX2_layJobs : MethodName := ⟨RX2, "layJobs", "()V"⟩
def dkwX2_layJobs_3 : List UInt8 := [182, 0, 175, 87, 132, 3, 1, 167, 255, 195, 177]
abbrev dktX2_layJobs_3 : List UInt8 := dkwX2_layJobs_3 ++ []
def dkwX2_layJobs_2 : List UInt8 := [21, 5, 2, 159, 0, 24, 42, 180, 0, 26, 25, 4, 42, 180, 0, 44, 4, 46, 21, 5, 182, 0, 171]
abbrev dktX2_layJobs_2 : List UInt8 := dkwX2_layJobs_2 ++ dktX2_layJobs_3
def dkwX2_layJobs_1 : List UInt8 := [50, 58, 4, 42, 180, 0, 11, 25, 4, 180, 0, 162, 50, 180, 0, 165, 25, 4, 180, 0, 168, 46, 54, 5]
abbrev dktX2_layJobs_1 : List UInt8 := dkwX2_layJobs_1 ++ dktX2_layJobs_2
def dkwX2_layJobs_0 : List UInt8 := [42, 180, 0, 26, 182, 0, 161, 42, 180, 0, 19, 76, 43, 190, 61, 3, 62, 29, 28, 162, 0, 62, 43, 29]
abbrev dktX2_layJobs_0 : List UInt8 := dkwX2_layJobs_0 ++ dktX2_layJobs_1
theorem dksX2_layJobs_0 : cX2_layJobs.data.toList.drop 0 = dktX2_layJobs_0 := by decide +kernel
theorem dksX2_layJobs_1 : cX2_layJobs.data.toList.drop 24 = dktX2_layJobs_1 := dk_seg dksX2_layJobs_0 24 rfl rfl
theorem dksX2_layJobs_2 : cX2_layJobs.data.toList.drop 48 = dktX2_layJobs_2 := dk_seg dksX2_layJobs_1 24 rfl rfl
theorem dksX2_layJobs_3 : cX2_layJobs.data.toList.drop 71 = dktX2_layJobs_3 := dk_seg dksX2_layJobs_2 23 rfl rfl
theorem dX2_layJobs_0 : decode cX2_layJobs 0 = .ok (.aload_n 0, 1) := dk_42 (dk_at dksX2_layJobs_0 0 rfl rfl)
theorem dX2_layJobs_1 : decode cX2_layJobs 1 = .ok (.getfield 26, 3) := dk_180 0 26 (dk_at dksX2_layJobs_0 1 rfl rfl)
theorem dX2_layJobs_4 : decode cX2_layJobs 4 = .ok (.invokevirtual 161, 3) := dk_182 0 161 (dk_at dksX2_layJobs_0 4 rfl rfl)
theorem dX2_layJobs_7 : decode cX2_layJobs 7 = .ok (.aload_n 0, 1) := dk_42 (dk_at dksX2_layJobs_0 7 rfl rfl)
theorem dX2_layJobs_8 : decode cX2_layJobs 8 = .ok (.getfield 19, 3) := dk_180 0 19 (dk_at dksX2_layJobs_0 8 rfl rfl)
theorem dX2_layJobs_11 : decode cX2_layJobs 11 = .ok (.astore_n 1, 1) := dk_76 (dk_at dksX2_layJobs_0 11 rfl rfl)
theorem dX2_layJobs_12 : decode cX2_layJobs 12 = .ok (.aload_n 1, 1) := dk_43 (dk_at dksX2_layJobs_0 12 rfl rfl)
theorem dX2_layJobs_13 : decode cX2_layJobs 13 = .ok (.arraylength, 1) := dk_190 (dk_at dksX2_layJobs_0 13 rfl rfl)
theorem dX2_layJobs_14 : decode cX2_layJobs 14 = .ok (.istore_n 2, 1) := dk_61 (dk_at dksX2_layJobs_0 14 rfl rfl)
theorem dX2_layJobs_15 : decode cX2_layJobs 15 = .ok (.iconst 0, 1) := dk_3 (dk_at dksX2_layJobs_0 15 rfl rfl)
theorem dX2_layJobs_16 : decode cX2_layJobs 16 = .ok (.istore_n 3, 1) := dk_62 (dk_at dksX2_layJobs_0 16 rfl rfl)
theorem dX2_layJobs_17 : decode cX2_layJobs 17 = .ok (.iload_n 3, 1) := dk_29 (dk_at dksX2_layJobs_0 17 rfl rfl)
theorem dX2_layJobs_18 : decode cX2_layJobs 18 = .ok (.iload_n 2, 1) := dk_28 (dk_at dksX2_layJobs_0 18 rfl rfl)
theorem dX2_layJobs_19 : decode cX2_layJobs 19 = .ok (.if_icmp .ge 62, 3) := dk_162 0 62 (dk_at dksX2_layJobs_0 19 rfl rfl)
theorem dX2_layJobs_22 : decode cX2_layJobs 22 = .ok (.aload_n 1, 1) := dk_43 (dk_at dksX2_layJobs_0 22 rfl rfl)
theorem dX2_layJobs_23 : decode cX2_layJobs 23 = .ok (.iload_n 3, 1) := dk_29 (dk_at dksX2_layJobs_0 23 rfl rfl)
theorem dX2_layJobs_24 : decode cX2_layJobs 24 = .ok (.aaload, 1) := dk_50 (dk_at dksX2_layJobs_1 0 rfl rfl)
theorem dX2_layJobs_25 : decode cX2_layJobs 25 = .ok (.astore 4, 2) := dk_58 4 (dk_at dksX2_layJobs_1 1 rfl rfl)
theorem dX2_layJobs_27 : decode cX2_layJobs 27 = .ok (.aload_n 0, 1) := dk_42 (dk_at dksX2_layJobs_1 3 rfl rfl)
theorem dX2_layJobs_28 : decode cX2_layJobs 28 = .ok (.getfield 11, 3) := dk_180 0 11 (dk_at dksX2_layJobs_1 4 rfl rfl)
theorem dX2_layJobs_31 : decode cX2_layJobs 31 = .ok (.aload 4, 2) := dk_25 4 (dk_at dksX2_layJobs_1 7 rfl rfl)
theorem dX2_layJobs_33 : decode cX2_layJobs 33 = .ok (.getfield 162, 3) := dk_180 0 162 (dk_at dksX2_layJobs_1 9 rfl rfl)
theorem dX2_layJobs_36 : decode cX2_layJobs 36 = .ok (.aaload, 1) := dk_50 (dk_at dksX2_layJobs_1 12 rfl rfl)
theorem dX2_layJobs_37 : decode cX2_layJobs 37 = .ok (.getfield 165, 3) := dk_180 0 165 (dk_at dksX2_layJobs_1 13 rfl rfl)
theorem dX2_layJobs_40 : decode cX2_layJobs 40 = .ok (.aload 4, 2) := dk_25 4 (dk_at dksX2_layJobs_1 16 rfl rfl)
theorem dX2_layJobs_42 : decode cX2_layJobs 42 = .ok (.getfield 168, 3) := dk_180 0 168 (dk_at dksX2_layJobs_1 18 rfl rfl)
theorem dX2_layJobs_45 : decode cX2_layJobs 45 = .ok (.iaload, 1) := dk_46 (dk_at dksX2_layJobs_1 21 rfl rfl)
theorem dX2_layJobs_46 : decode cX2_layJobs 46 = .ok (.istore 5, 2) := dk_54 5 (dk_at dksX2_layJobs_1 22 rfl rfl)
theorem dX2_layJobs_48 : decode cX2_layJobs 48 = .ok (.iload 5, 2) := dk_21 5 (dk_at dksX2_layJobs_2 0 rfl rfl)
theorem dX2_layJobs_50 : decode cX2_layJobs 50 = .ok (.iconst (-1), 1) := dk_2 (dk_at dksX2_layJobs_2 2 rfl rfl)
theorem dX2_layJobs_51 : decode cX2_layJobs 51 = .ok (.if_icmp .eq 24, 3) := dk_159 0 24 (dk_at dksX2_layJobs_2 3 rfl rfl)
theorem dX2_layJobs_54 : decode cX2_layJobs 54 = .ok (.aload_n 0, 1) := dk_42 (dk_at dksX2_layJobs_2 6 rfl rfl)
theorem dX2_layJobs_55 : decode cX2_layJobs 55 = .ok (.getfield 26, 3) := dk_180 0 26 (dk_at dksX2_layJobs_2 7 rfl rfl)
theorem dX2_layJobs_58 : decode cX2_layJobs 58 = .ok (.aload 4, 2) := dk_25 4 (dk_at dksX2_layJobs_2 10 rfl rfl)
theorem dX2_layJobs_60 : decode cX2_layJobs 60 = .ok (.aload_n 0, 1) := dk_42 (dk_at dksX2_layJobs_2 12 rfl rfl)
theorem dX2_layJobs_61 : decode cX2_layJobs 61 = .ok (.getfield 44, 3) := dk_180 0 44 (dk_at dksX2_layJobs_2 13 rfl rfl)
theorem dX2_layJobs_64 : decode cX2_layJobs 64 = .ok (.iconst 1, 1) := dk_4 (dk_at dksX2_layJobs_2 16 rfl rfl)
theorem dX2_layJobs_65 : decode cX2_layJobs 65 = .ok (.iaload, 1) := dk_46 (dk_at dksX2_layJobs_2 17 rfl rfl)
theorem dX2_layJobs_66 : decode cX2_layJobs 66 = .ok (.iload 5, 2) := dk_21 5 (dk_at dksX2_layJobs_2 18 rfl rfl)
theorem dX2_layJobs_68 : decode cX2_layJobs 68 = .ok (.invokevirtual 171, 3) := dk_182 0 171 (dk_at dksX2_layJobs_2 20 rfl rfl)
theorem dX2_layJobs_71 : decode cX2_layJobs 71 = .ok (.invokevirtual 175, 3) := dk_182 0 175 (dk_at dksX2_layJobs_3 0 rfl rfl)
theorem dX2_layJobs_74 : decode cX2_layJobs 74 = .ok (.pop, 1) := dk_87 (dk_at dksX2_layJobs_3 3 rfl rfl)
theorem dX2_layJobs_75 : decode cX2_layJobs 75 = .ok (.iinc 3 1, 3) := dk_132 3 1 (dk_at dksX2_layJobs_3 4 rfl rfl)
theorem dX2_layJobs_78 : decode cX2_layJobs 78 = .ok (.goto (-61), 3) := dk_167 255 195 (dk_at dksX2_layJobs_3 7 rfl rfl)
theorem dX2_layJobs_81 : decode cX2_layJobs 81 = .ok (.return_, 1) := dk_177 (dk_at dksX2_layJobs_3 10 rfl rfl)
abbrev cX2_serveAll : ByteArray := prog_5_method_12_code
def yX2_serveAll : MethodName := ⟨RX2, "serveAll", "()V"⟩
def dkwX2_serveAll_2 : List UInt8 := [182, 0, 216, 87, 42, 43, 182, 0, 219, 167, 255, 201, 177]
abbrev dktX2_serveAll_2 : List UInt8 := dkwX2_serveAll_2 ++ []
def dkwX2_serveAll_1 : List UInt8 := [180, 0, 103, 160, 0, 31, 42, 180, 0, 40, 182, 0, 212, 192, 0, 91, 76, 42, 180, 0, 40, 43]
abbrev dktX2_serveAll_1 : List UInt8 := dkwX2_serveAll_1 ++ dktX2_serveAll_2
def dkwX2_serveAll_0 : List UInt8 := [42, 180, 0, 40, 182, 0, 211, 154, 0, 51, 42, 180, 0, 40, 182, 0, 212, 192, 0, 91, 180, 0, 215, 42]
abbrev dktX2_serveAll_0 : List UInt8 := dkwX2_serveAll_0 ++ dktX2_serveAll_1
theorem dksX2_serveAll_0 : cX2_serveAll.data.toList.drop 0 = dktX2_serveAll_0 := by decide +kernel
theorem dksX2_serveAll_1 : cX2_serveAll.data.toList.drop 24 = dktX2_serveAll_1 := dk_seg dksX2_serveAll_0 24 rfl rfl
theorem dksX2_serveAll_2 : cX2_serveAll.data.toList.drop 46 = dktX2_serveAll_2 := dk_seg dksX2_serveAll_1 22 rfl rfl
theorem dX2_serveAll_0 : decode cX2_serveAll 0 = .ok (.aload_n 0, 1) := dk_42 (dk_at dksX2_serveAll_0 0 rfl rfl)
theorem dX2_serveAll_1 : decode cX2_serveAll 1 = .ok (.getfield 40, 3) := dk_180 0 40 (dk_at dksX2_serveAll_0 1 rfl rfl)
theorem dX2_serveAll_4 : decode cX2_serveAll 4 = .ok (.invokevirtual 211, 3) := dk_182 0 211 (dk_at dksX2_serveAll_0 4 rfl rfl)
theorem dX2_serveAll_7 : decode cX2_serveAll 7 = .ok (.ifCond .ne 51, 3) := dk_154 0 51 (dk_at dksX2_serveAll_0 7 rfl rfl)
theorem dX2_serveAll_10 : decode cX2_serveAll 10 = .ok (.aload_n 0, 1) := dk_42 (dk_at dksX2_serveAll_0 10 rfl rfl)
theorem dX2_serveAll_11 : decode cX2_serveAll 11 = .ok (.getfield 40, 3) := dk_180 0 40 (dk_at dksX2_serveAll_0 11 rfl rfl)
theorem dX2_serveAll_14 : decode cX2_serveAll 14 = .ok (.invokevirtual 212, 3) := dk_182 0 212 (dk_at dksX2_serveAll_0 14 rfl rfl)
theorem dX2_serveAll_17 : decode cX2_serveAll 17 = .ok (.checkcast 91, 3) := dk_192 0 91 (dk_at dksX2_serveAll_0 17 rfl rfl)
theorem dX2_serveAll_20 : decode cX2_serveAll 20 = .ok (.getfield 215, 3) := dk_180 0 215 (dk_at dksX2_serveAll_0 20 rfl rfl)
theorem dX2_serveAll_23 : decode cX2_serveAll 23 = .ok (.aload_n 0, 1) := dk_42 (dk_at dksX2_serveAll_0 23 rfl rfl)
theorem dX2_serveAll_24 : decode cX2_serveAll 24 = .ok (.getfield 103, 3) := dk_180 0 103 (dk_at dksX2_serveAll_1 0 rfl rfl)
theorem dX2_serveAll_27 : decode cX2_serveAll 27 = .ok (.if_icmp .ne 31, 3) := dk_160 0 31 (dk_at dksX2_serveAll_1 3 rfl rfl)
theorem dX2_serveAll_30 : decode cX2_serveAll 30 = .ok (.aload_n 0, 1) := dk_42 (dk_at dksX2_serveAll_1 6 rfl rfl)
theorem dX2_serveAll_31 : decode cX2_serveAll 31 = .ok (.getfield 40, 3) := dk_180 0 40 (dk_at dksX2_serveAll_1 7 rfl rfl)
theorem dX2_serveAll_34 : decode cX2_serveAll 34 = .ok (.invokevirtual 212, 3) := dk_182 0 212 (dk_at dksX2_serveAll_1 10 rfl rfl)
theorem dX2_serveAll_37 : decode cX2_serveAll 37 = .ok (.checkcast 91, 3) := dk_192 0 91 (dk_at dksX2_serveAll_1 13 rfl rfl)
theorem dX2_serveAll_40 : decode cX2_serveAll 40 = .ok (.astore_n 1, 1) := dk_76 (dk_at dksX2_serveAll_1 16 rfl rfl)
theorem dX2_serveAll_41 : decode cX2_serveAll 41 = .ok (.aload_n 0, 1) := dk_42 (dk_at dksX2_serveAll_1 17 rfl rfl)
theorem dX2_serveAll_42 : decode cX2_serveAll 42 = .ok (.getfield 40, 3) := dk_180 0 40 (dk_at dksX2_serveAll_1 18 rfl rfl)
theorem dX2_serveAll_45 : decode cX2_serveAll 45 = .ok (.aload_n 1, 1) := dk_43 (dk_at dksX2_serveAll_1 21 rfl rfl)
theorem dX2_serveAll_46 : decode cX2_serveAll 46 = .ok (.invokevirtual 216, 3) := dk_182 0 216 (dk_at dksX2_serveAll_2 0 rfl rfl)
theorem dX2_serveAll_49 : decode cX2_serveAll 49 = .ok (.pop, 1) := dk_87 (dk_at dksX2_serveAll_2 3 rfl rfl)
theorem dX2_serveAll_50 : decode cX2_serveAll 50 = .ok (.aload_n 0, 1) := dk_42 (dk_at dksX2_serveAll_2 4 rfl rfl)
theorem dX2_serveAll_51 : decode cX2_serveAll 51 = .ok (.aload_n 1, 1) := dk_43 (dk_at dksX2_serveAll_2 5 rfl rfl)
theorem dX2_serveAll_52 : decode cX2_serveAll 52 = .ok (.invokevirtual 219, 3) := dk_182 0 219 (dk_at dksX2_serveAll_2 6 rfl rfl)
theorem dX2_serveAll_55 : decode cX2_serveAll 55 = .ok (.goto (-55), 3) := dk_167 255 201 (dk_at dksX2_serveAll_2 9 rfl rfl)
theorem dX2_serveAll_58 : decode cX2_serveAll 58 = .ok (.return_, 1) := dk_177 (dk_at dksX2_serveAll_2 12 rfl rfl)
abbrev cX2_serve : ByteArray := prog_5_method_11_code
def yX2_serve : MethodName := ⟨RX2, "serve", "(LFountainPark$Outing;)V"⟩
def dkwX2_serve_5 : List UInt8 := [43, 180, 0, 206, 96, 181, 0, 113, 177]
abbrev dktX2_serve_5 : List UInt8 := dkwX2_serve_5 ++ []
def dkwX2_serve_4 : List UInt8 := [180, 0, 44, 5, 46, 96, 4, 100, 42, 180, 0, 44, 5, 46, 108, 96, 181, 0, 110, 42, 89, 180, 0, 113]
abbrev dktX2_serve_4 : List UInt8 := dkwX2_serve_4 ++ dktX2_serve_5
def dkwX2_serve_3 : List UInt8 := [182, 0, 210, 167, 0, 4, 3, 100, 61, 132, 3, 1, 167, 255, 188, 42, 89, 180, 0, 110, 28, 42]
abbrev dktX2_serve_3 : List UInt8 := dkwX2_serve_3 ++ dktX2_serve_4
def dkwX2_serve_2 : List UInt8 := [158, 0, 28, 43, 180, 0, 207, 29, 96, 16, 8, 162, 0, 17, 42, 43, 180, 0, 207, 29, 96, 28]
abbrev dktX2_serve_2 : List UInt8 := dkwX2_serve_2 ++ dktX2_serve_3
def dkwX2_serve_1 : List UInt8 := [29, 100, 155, 0, 17, 42, 43, 180, 0, 207, 29, 100, 28, 182, 0, 210, 167, 0, 4, 3, 100, 61, 28, 29]
abbrev dktX2_serve_1 : List UInt8 := dkwX2_serve_1 ++ dktX2_serve_2
def dkwX2_serve_0 : List UInt8 := [43, 180, 0, 206, 42, 180, 0, 44, 5, 46, 104, 61, 3, 62, 29, 5, 163, 0, 69, 28, 43, 180, 0, 207]
abbrev dktX2_serve_0 : List UInt8 := dkwX2_serve_0 ++ dktX2_serve_1
theorem dksX2_serve_0 : cX2_serve.data.toList.drop 0 = dktX2_serve_0 := by decide +kernel
theorem dksX2_serve_1 : cX2_serve.data.toList.drop 24 = dktX2_serve_1 := dk_seg dksX2_serve_0 24 rfl rfl
theorem dksX2_serve_2 : cX2_serve.data.toList.drop 48 = dktX2_serve_2 := dk_seg dksX2_serve_1 24 rfl rfl
theorem dksX2_serve_3 : cX2_serve.data.toList.drop 70 = dktX2_serve_3 := dk_seg dksX2_serve_2 22 rfl rfl
theorem dksX2_serve_4 : cX2_serve.data.toList.drop 92 = dktX2_serve_4 := dk_seg dksX2_serve_3 22 rfl rfl
theorem dksX2_serve_5 : cX2_serve.data.toList.drop 116 = dktX2_serve_5 := dk_seg dksX2_serve_4 24 rfl rfl
theorem dX2_serve_0 : decode cX2_serve 0 = .ok (.aload_n 1, 1) := dk_43 (dk_at dksX2_serve_0 0 rfl rfl)
theorem dX2_serve_1 : decode cX2_serve 1 = .ok (.getfield 206, 3) := dk_180 0 206 (dk_at dksX2_serve_0 1 rfl rfl)
theorem dX2_serve_4 : decode cX2_serve 4 = .ok (.aload_n 0, 1) := dk_42 (dk_at dksX2_serve_0 4 rfl rfl)
theorem dX2_serve_5 : decode cX2_serve 5 = .ok (.getfield 44, 3) := dk_180 0 44 (dk_at dksX2_serve_0 5 rfl rfl)
theorem dX2_serve_8 : decode cX2_serve 8 = .ok (.iconst 2, 1) := dk_5 (dk_at dksX2_serve_0 8 rfl rfl)
theorem dX2_serve_9 : decode cX2_serve 9 = .ok (.iaload, 1) := dk_46 (dk_at dksX2_serve_0 9 rfl rfl)
theorem dX2_serve_10 : decode cX2_serve 10 = .ok (.imul, 1) := dk_104 (dk_at dksX2_serve_0 10 rfl rfl)
theorem dX2_serve_11 : decode cX2_serve 11 = .ok (.istore_n 2, 1) := dk_61 (dk_at dksX2_serve_0 11 rfl rfl)
theorem dX2_serve_12 : decode cX2_serve 12 = .ok (.iconst 0, 1) := dk_3 (dk_at dksX2_serve_0 12 rfl rfl)
theorem dX2_serve_13 : decode cX2_serve 13 = .ok (.istore_n 3, 1) := dk_62 (dk_at dksX2_serve_0 13 rfl rfl)
theorem dX2_serve_14 : decode cX2_serve 14 = .ok (.iload_n 3, 1) := dk_29 (dk_at dksX2_serve_0 14 rfl rfl)
theorem dX2_serve_15 : decode cX2_serve 15 = .ok (.iconst 2, 1) := dk_5 (dk_at dksX2_serve_0 15 rfl rfl)
theorem dX2_serve_16 : decode cX2_serve 16 = .ok (.if_icmp .gt 69, 3) := dk_163 0 69 (dk_at dksX2_serve_0 16 rfl rfl)
theorem dX2_serve_19 : decode cX2_serve 19 = .ok (.iload_n 2, 1) := dk_28 (dk_at dksX2_serve_0 19 rfl rfl)
theorem dX2_serve_20 : decode cX2_serve 20 = .ok (.aload_n 1, 1) := dk_43 (dk_at dksX2_serve_0 20 rfl rfl)
theorem dX2_serve_21 : decode cX2_serve 21 = .ok (.getfield 207, 3) := dk_180 0 207 (dk_at dksX2_serve_0 21 rfl rfl)
theorem dX2_serve_24 : decode cX2_serve 24 = .ok (.iload_n 3, 1) := dk_29 (dk_at dksX2_serve_1 0 rfl rfl)
theorem dX2_serve_25 : decode cX2_serve 25 = .ok (.isub, 1) := dk_100 (dk_at dksX2_serve_1 1 rfl rfl)
theorem dX2_serve_26 : decode cX2_serve 26 = .ok (.ifCond .lt 17, 3) := dk_155 0 17 (dk_at dksX2_serve_1 2 rfl rfl)
theorem dX2_serve_29 : decode cX2_serve 29 = .ok (.aload_n 0, 1) := dk_42 (dk_at dksX2_serve_1 5 rfl rfl)
theorem dX2_serve_30 : decode cX2_serve 30 = .ok (.aload_n 1, 1) := dk_43 (dk_at dksX2_serve_1 6 rfl rfl)
theorem dX2_serve_31 : decode cX2_serve 31 = .ok (.getfield 207, 3) := dk_180 0 207 (dk_at dksX2_serve_1 7 rfl rfl)
theorem dX2_serve_34 : decode cX2_serve 34 = .ok (.iload_n 3, 1) := dk_29 (dk_at dksX2_serve_1 10 rfl rfl)
theorem dX2_serve_35 : decode cX2_serve 35 = .ok (.isub, 1) := dk_100 (dk_at dksX2_serve_1 11 rfl rfl)
theorem dX2_serve_36 : decode cX2_serve 36 = .ok (.iload_n 2, 1) := dk_28 (dk_at dksX2_serve_1 12 rfl rfl)
theorem dX2_serve_37 : decode cX2_serve 37 = .ok (.invokevirtual 210, 3) := dk_182 0 210 (dk_at dksX2_serve_1 13 rfl rfl)
theorem dX2_serve_40 : decode cX2_serve 40 = .ok (.goto 4, 3) := dk_167 0 4 (dk_at dksX2_serve_1 16 rfl rfl)
theorem dX2_serve_43 : decode cX2_serve 43 = .ok (.iconst 0, 1) := dk_3 (dk_at dksX2_serve_1 19 rfl rfl)
theorem dX2_serve_44 : decode cX2_serve 44 = .ok (.isub, 1) := dk_100 (dk_at dksX2_serve_1 20 rfl rfl)
theorem dX2_serve_45 : decode cX2_serve 45 = .ok (.istore_n 2, 1) := dk_61 (dk_at dksX2_serve_1 21 rfl rfl)
theorem dX2_serve_46 : decode cX2_serve 46 = .ok (.iload_n 2, 1) := dk_28 (dk_at dksX2_serve_1 22 rfl rfl)
theorem dX2_serve_47 : decode cX2_serve 47 = .ok (.iload_n 3, 1) := dk_29 (dk_at dksX2_serve_1 23 rfl rfl)
theorem dX2_serve_48 : decode cX2_serve 48 = .ok (.ifCond .le 28, 3) := dk_158 0 28 (dk_at dksX2_serve_2 0 rfl rfl)
theorem dX2_serve_51 : decode cX2_serve 51 = .ok (.aload_n 1, 1) := dk_43 (dk_at dksX2_serve_2 3 rfl rfl)
theorem dX2_serve_52 : decode cX2_serve 52 = .ok (.getfield 207, 3) := dk_180 0 207 (dk_at dksX2_serve_2 4 rfl rfl)
theorem dX2_serve_55 : decode cX2_serve 55 = .ok (.iload_n 3, 1) := dk_29 (dk_at dksX2_serve_2 7 rfl rfl)
theorem dX2_serve_56 : decode cX2_serve 56 = .ok (.iadd, 1) := dk_96 (dk_at dksX2_serve_2 8 rfl rfl)
theorem dX2_serve_57 : decode cX2_serve 57 = .ok (.bipush 8, 2) := dk_16 8 (dk_at dksX2_serve_2 9 rfl rfl)
theorem dX2_serve_59 : decode cX2_serve 59 = .ok (.if_icmp .ge 17, 3) := dk_162 0 17 (dk_at dksX2_serve_2 11 rfl rfl)
theorem dX2_serve_62 : decode cX2_serve 62 = .ok (.aload_n 0, 1) := dk_42 (dk_at dksX2_serve_2 14 rfl rfl)
theorem dX2_serve_63 : decode cX2_serve 63 = .ok (.aload_n 1, 1) := dk_43 (dk_at dksX2_serve_2 15 rfl rfl)
theorem dX2_serve_64 : decode cX2_serve 64 = .ok (.getfield 207, 3) := dk_180 0 207 (dk_at dksX2_serve_2 16 rfl rfl)
theorem dX2_serve_67 : decode cX2_serve 67 = .ok (.iload_n 3, 1) := dk_29 (dk_at dksX2_serve_2 19 rfl rfl)
theorem dX2_serve_68 : decode cX2_serve 68 = .ok (.iadd, 1) := dk_96 (dk_at dksX2_serve_2 20 rfl rfl)
theorem dX2_serve_69 : decode cX2_serve 69 = .ok (.iload_n 2, 1) := dk_28 (dk_at dksX2_serve_2 21 rfl rfl)
theorem dX2_serve_70 : decode cX2_serve 70 = .ok (.invokevirtual 210, 3) := dk_182 0 210 (dk_at dksX2_serve_3 0 rfl rfl)
theorem dX2_serve_73 : decode cX2_serve 73 = .ok (.goto 4, 3) := dk_167 0 4 (dk_at dksX2_serve_3 3 rfl rfl)
theorem dX2_serve_76 : decode cX2_serve 76 = .ok (.iconst 0, 1) := dk_3 (dk_at dksX2_serve_3 6 rfl rfl)
theorem dX2_serve_77 : decode cX2_serve 77 = .ok (.isub, 1) := dk_100 (dk_at dksX2_serve_3 7 rfl rfl)
theorem dX2_serve_78 : decode cX2_serve 78 = .ok (.istore_n 2, 1) := dk_61 (dk_at dksX2_serve_3 8 rfl rfl)
theorem dX2_serve_79 : decode cX2_serve 79 = .ok (.iinc 3 1, 3) := dk_132 3 1 (dk_at dksX2_serve_3 9 rfl rfl)
theorem dX2_serve_82 : decode cX2_serve 82 = .ok (.goto (-68), 3) := dk_167 255 188 (dk_at dksX2_serve_3 12 rfl rfl)
theorem dX2_serve_85 : decode cX2_serve 85 = .ok (.aload_n 0, 1) := dk_42 (dk_at dksX2_serve_3 15 rfl rfl)
theorem dX2_serve_86 : decode cX2_serve 86 = .ok (.dup, 1) := dk_89 (dk_at dksX2_serve_3 16 rfl rfl)
theorem dX2_serve_87 : decode cX2_serve 87 = .ok (.getfield 110, 3) := dk_180 0 110 (dk_at dksX2_serve_3 17 rfl rfl)
theorem dX2_serve_90 : decode cX2_serve 90 = .ok (.iload_n 2, 1) := dk_28 (dk_at dksX2_serve_3 20 rfl rfl)
theorem dX2_serve_91 : decode cX2_serve 91 = .ok (.aload_n 0, 1) := dk_42 (dk_at dksX2_serve_3 21 rfl rfl)
theorem dX2_serve_92 : decode cX2_serve 92 = .ok (.getfield 44, 3) := dk_180 0 44 (dk_at dksX2_serve_4 0 rfl rfl)
theorem dX2_serve_95 : decode cX2_serve 95 = .ok (.iconst 2, 1) := dk_5 (dk_at dksX2_serve_4 3 rfl rfl)
theorem dX2_serve_96 : decode cX2_serve 96 = .ok (.iaload, 1) := dk_46 (dk_at dksX2_serve_4 4 rfl rfl)
theorem dX2_serve_97 : decode cX2_serve 97 = .ok (.iadd, 1) := dk_96 (dk_at dksX2_serve_4 5 rfl rfl)
theorem dX2_serve_98 : decode cX2_serve 98 = .ok (.iconst 1, 1) := dk_4 (dk_at dksX2_serve_4 6 rfl rfl)
theorem dX2_serve_99 : decode cX2_serve 99 = .ok (.isub, 1) := dk_100 (dk_at dksX2_serve_4 7 rfl rfl)
theorem dX2_serve_100 : decode cX2_serve 100 = .ok (.aload_n 0, 1) := dk_42 (dk_at dksX2_serve_4 8 rfl rfl)
theorem dX2_serve_101 : decode cX2_serve 101 = .ok (.getfield 44, 3) := dk_180 0 44 (dk_at dksX2_serve_4 9 rfl rfl)
theorem dX2_serve_104 : decode cX2_serve 104 = .ok (.iconst 2, 1) := dk_5 (dk_at dksX2_serve_4 12 rfl rfl)
theorem dX2_serve_105 : decode cX2_serve 105 = .ok (.iaload, 1) := dk_46 (dk_at dksX2_serve_4 13 rfl rfl)
theorem dX2_serve_106 : decode cX2_serve 106 = .ok (.idiv, 1) := dk_108 (dk_at dksX2_serve_4 14 rfl rfl)
theorem dX2_serve_107 : decode cX2_serve 107 = .ok (.iadd, 1) := dk_96 (dk_at dksX2_serve_4 15 rfl rfl)
theorem dX2_serve_108 : decode cX2_serve 108 = .ok (.putfield 110, 3) := dk_181 0 110 (dk_at dksX2_serve_4 16 rfl rfl)
theorem dX2_serve_111 : decode cX2_serve 111 = .ok (.aload_n 0, 1) := dk_42 (dk_at dksX2_serve_4 19 rfl rfl)
theorem dX2_serve_112 : decode cX2_serve 112 = .ok (.dup, 1) := dk_89 (dk_at dksX2_serve_4 20 rfl rfl)
theorem dX2_serve_113 : decode cX2_serve 113 = .ok (.getfield 113, 3) := dk_180 0 113 (dk_at dksX2_serve_4 21 rfl rfl)
theorem dX2_serve_116 : decode cX2_serve 116 = .ok (.aload_n 1, 1) := dk_43 (dk_at dksX2_serve_5 0 rfl rfl)
theorem dX2_serve_117 : decode cX2_serve 117 = .ok (.getfield 206, 3) := dk_180 0 206 (dk_at dksX2_serve_5 1 rfl rfl)
theorem dX2_serve_120 : decode cX2_serve 120 = .ok (.iadd, 1) := dk_96 (dk_at dksX2_serve_5 4 rfl rfl)
theorem dX2_serve_121 : decode cX2_serve 121 = .ok (.putfield 113, 3) := dk_181 0 113 (dk_at dksX2_serve_5 5 rfl rfl)
theorem dX2_serve_124 : decode cX2_serve 124 = .ok (.return_, 1) := dk_177 (dk_at dksX2_serve_5 8 rfl rfl)
abbrev cX2_give : ByteArray := prog_5_method_10_code
def yX2_give : MethodName := ⟨RX2, "give", "(II)I"⟩
def dkwX2_give_1 : List UInt8 := [167, 0, 4, 3, 62, 42, 89, 180, 0, 122, 29, 96, 181, 0, 122, 29, 172]
abbrev dktX2_give_1 : List UInt8 := dkwX2_give_1 ++ []
def dkwX2_give_0 : List UInt8 := [42, 27, 182, 0, 155, 154, 0, 20, 42, 180, 0, 11, 27, 50, 28, 42, 180, 0, 103, 182, 0, 203]
abbrev dktX2_give_0 : List UInt8 := dkwX2_give_0 ++ dktX2_give_1
theorem dksX2_give_0 : cX2_give.data.toList.drop 0 = dktX2_give_0 := by decide +kernel
theorem dksX2_give_1 : cX2_give.data.toList.drop 22 = dktX2_give_1 := dk_seg dksX2_give_0 22 rfl rfl
theorem dX2_give_0 : decode cX2_give 0 = .ok (.aload_n 0, 1) := dk_42 (dk_at dksX2_give_0 0 rfl rfl)
theorem dX2_give_1 : decode cX2_give 1 = .ok (.iload_n 1, 1) := dk_27 (dk_at dksX2_give_0 1 rfl rfl)
theorem dX2_give_2 : decode cX2_give 2 = .ok (.invokevirtual 155, 3) := dk_182 0 155 (dk_at dksX2_give_0 2 rfl rfl)
theorem dX2_give_5 : decode cX2_give 5 = .ok (.ifCond .ne 20, 3) := dk_154 0 20 (dk_at dksX2_give_0 5 rfl rfl)
theorem dX2_give_8 : decode cX2_give 8 = .ok (.aload_n 0, 1) := dk_42 (dk_at dksX2_give_0 8 rfl rfl)
theorem dX2_give_9 : decode cX2_give 9 = .ok (.getfield 11, 3) := dk_180 0 11 (dk_at dksX2_give_0 9 rfl rfl)
theorem dX2_give_12 : decode cX2_give 12 = .ok (.iload_n 1, 1) := dk_27 (dk_at dksX2_give_0 12 rfl rfl)
theorem dX2_give_13 : decode cX2_give 13 = .ok (.aaload, 1) := dk_50 (dk_at dksX2_give_0 13 rfl rfl)
theorem dX2_give_14 : decode cX2_give 14 = .ok (.iload_n 2, 1) := dk_28 (dk_at dksX2_give_0 14 rfl rfl)
theorem dX2_give_15 : decode cX2_give 15 = .ok (.aload_n 0, 1) := dk_42 (dk_at dksX2_give_0 15 rfl rfl)
theorem dX2_give_16 : decode cX2_give 16 = .ok (.getfield 103, 3) := dk_180 0 103 (dk_at dksX2_give_0 16 rfl rfl)
theorem dX2_give_19 : decode cX2_give 19 = .ok (.invokevirtual 203, 3) := dk_182 0 203 (dk_at dksX2_give_0 19 rfl rfl)
theorem dX2_give_22 : decode cX2_give 22 = .ok (.goto 4, 3) := dk_167 0 4 (dk_at dksX2_give_1 0 rfl rfl)
theorem dX2_give_25 : decode cX2_give 25 = .ok (.iconst 0, 1) := dk_3 (dk_at dksX2_give_1 3 rfl rfl)
theorem dX2_give_26 : decode cX2_give 26 = .ok (.istore_n 3, 1) := dk_62 (dk_at dksX2_give_1 4 rfl rfl)
theorem dX2_give_27 : decode cX2_give 27 = .ok (.aload_n 0, 1) := dk_42 (dk_at dksX2_give_1 5 rfl rfl)
theorem dX2_give_28 : decode cX2_give 28 = .ok (.dup, 1) := dk_89 (dk_at dksX2_give_1 6 rfl rfl)
theorem dX2_give_29 : decode cX2_give 29 = .ok (.getfield 122, 3) := dk_180 0 122 (dk_at dksX2_give_1 7 rfl rfl)
theorem dX2_give_32 : decode cX2_give 32 = .ok (.iload_n 3, 1) := dk_29 (dk_at dksX2_give_1 10 rfl rfl)
theorem dX2_give_33 : decode cX2_give 33 = .ok (.iadd, 1) := dk_96 (dk_at dksX2_give_1 11 rfl rfl)
theorem dX2_give_34 : decode cX2_give 34 = .ok (.putfield 122, 3) := dk_181 0 122 (dk_at dksX2_give_1 12 rfl rfl)
theorem dX2_give_37 : decode cX2_give 37 = .ok (.iload_n 3, 1) := dk_29 (dk_at dksX2_give_1 15 rfl rfl)
theorem dX2_give_38 : decode cX2_give 38 = .ok (.ireturn, 1) := dk_172 (dk_at dksX2_give_1 16 rfl rfl)
abbrev cX2_pass_2 : ByteArray := prog_5_method_14_code
def yX2_pass_2 : MethodName := ⟨RX2, "pass", "(I)I"⟩
def dkwX2_pass_2_1 : List UInt8 := [180, 0, 110, 28, 100, 172]
abbrev dktX2_pass_2_1 : List UInt8 := dkwX2_pass_2_1 ++ []
def dkwX2_pass_2_0 : List UInt8 := [42, 180, 0, 110, 61, 3, 62, 29, 27, 162, 0, 13, 42, 182, 0, 238, 132, 3, 1, 167, 255, 244, 42]
abbrev dktX2_pass_2_0 : List UInt8 := dkwX2_pass_2_0 ++ dktX2_pass_2_1
theorem dksX2_pass_2_0 : cX2_pass_2.data.toList.drop 0 = dktX2_pass_2_0 := by decide +kernel
theorem dksX2_pass_2_1 : cX2_pass_2.data.toList.drop 23 = dktX2_pass_2_1 := dk_seg dksX2_pass_2_0 23 rfl rfl
theorem dX2_pass_2_0 : decode cX2_pass_2 0 = .ok (.aload_n 0, 1) := dk_42 (dk_at dksX2_pass_2_0 0 rfl rfl)
theorem dX2_pass_2_1 : decode cX2_pass_2 1 = .ok (.getfield 110, 3) := dk_180 0 110 (dk_at dksX2_pass_2_0 1 rfl rfl)
theorem dX2_pass_2_4 : decode cX2_pass_2 4 = .ok (.istore_n 2, 1) := dk_61 (dk_at dksX2_pass_2_0 4 rfl rfl)
theorem dX2_pass_2_5 : decode cX2_pass_2 5 = .ok (.iconst 0, 1) := dk_3 (dk_at dksX2_pass_2_0 5 rfl rfl)
theorem dX2_pass_2_6 : decode cX2_pass_2 6 = .ok (.istore_n 3, 1) := dk_62 (dk_at dksX2_pass_2_0 6 rfl rfl)
theorem dX2_pass_2_7 : decode cX2_pass_2 7 = .ok (.iload_n 3, 1) := dk_29 (dk_at dksX2_pass_2_0 7 rfl rfl)
theorem dX2_pass_2_8 : decode cX2_pass_2 8 = .ok (.iload_n 1, 1) := dk_27 (dk_at dksX2_pass_2_0 8 rfl rfl)
theorem dX2_pass_2_9 : decode cX2_pass_2 9 = .ok (.if_icmp .ge 13, 3) := dk_162 0 13 (dk_at dksX2_pass_2_0 9 rfl rfl)
theorem dX2_pass_2_12 : decode cX2_pass_2 12 = .ok (.aload_n 0, 1) := dk_42 (dk_at dksX2_pass_2_0 12 rfl rfl)
theorem dX2_pass_2_13 : decode cX2_pass_2 13 = .ok (.invokevirtual 238, 3) := dk_182 0 238 (dk_at dksX2_pass_2_0 13 rfl rfl)
theorem dX2_pass_2_16 : decode cX2_pass_2 16 = .ok (.iinc 3 1, 3) := dk_132 3 1 (dk_at dksX2_pass_2_0 16 rfl rfl)
theorem dX2_pass_2_19 : decode cX2_pass_2 19 = .ok (.goto (-12), 3) := dk_167 255 244 (dk_at dksX2_pass_2_0 19 rfl rfl)
theorem dX2_pass_2_22 : decode cX2_pass_2 22 = .ok (.aload_n 0, 1) := dk_42 (dk_at dksX2_pass_2_0 22 rfl rfl)
theorem dX2_pass_2_23 : decode cX2_pass_2 23 = .ok (.getfield 110, 3) := dk_180 0 110 (dk_at dksX2_pass_2_1 0 rfl rfl)
theorem dX2_pass_2_26 : decode cX2_pass_2 26 = .ok (.iload_n 2, 1) := dk_28 (dk_at dksX2_pass_2_1 3 rfl rfl)
theorem dX2_pass_2_27 : decode cX2_pass_2 27 = .ok (.isub, 1) := dk_100 (dk_at dksX2_pass_2_1 4 rfl rfl)
theorem dX2_pass_2_28 : decode cX2_pass_2 28 = .ok (.ireturn, 1) := dk_172 (dk_at dksX2_pass_2_1 5 rfl rfl)
abbrev cX2_plan : ByteArray := prog_5_method_15_code
def yX2_plan : MethodName := ⟨RX2, "plan", "(III)V"⟩
def dkwX2_plan_1 : List UInt8 := [180, 0, 107, 4, 96, 181, 0, 107, 177]
abbrev dktX2_plan_1 : List UInt8 := dkwX2_plan_1 ++ []
def dkwX2_plan_0 : List UInt8 := [42, 180, 0, 40, 187, 0, 91, 89, 27, 28, 29, 42, 180, 0, 107, 183, 0, 241, 182, 0, 93, 87, 42, 89]
abbrev dktX2_plan_0 : List UInt8 := dkwX2_plan_0 ++ dktX2_plan_1
theorem dksX2_plan_0 : cX2_plan.data.toList.drop 0 = dktX2_plan_0 := by decide +kernel
theorem dksX2_plan_1 : cX2_plan.data.toList.drop 24 = dktX2_plan_1 := dk_seg dksX2_plan_0 24 rfl rfl
theorem dX2_plan_0 : decode cX2_plan 0 = .ok (.aload_n 0, 1) := dk_42 (dk_at dksX2_plan_0 0 rfl rfl)
theorem dX2_plan_1 : decode cX2_plan 1 = .ok (.getfield 40, 3) := dk_180 0 40 (dk_at dksX2_plan_0 1 rfl rfl)
theorem dX2_plan_4 : decode cX2_plan 4 = .ok (.new 91, 3) := dk_187 0 91 (dk_at dksX2_plan_0 4 rfl rfl)
theorem dX2_plan_7 : decode cX2_plan 7 = .ok (.dup, 1) := dk_89 (dk_at dksX2_plan_0 7 rfl rfl)
theorem dX2_plan_8 : decode cX2_plan 8 = .ok (.iload_n 1, 1) := dk_27 (dk_at dksX2_plan_0 8 rfl rfl)
theorem dX2_plan_9 : decode cX2_plan 9 = .ok (.iload_n 2, 1) := dk_28 (dk_at dksX2_plan_0 9 rfl rfl)
theorem dX2_plan_10 : decode cX2_plan 10 = .ok (.iload_n 3, 1) := dk_29 (dk_at dksX2_plan_0 10 rfl rfl)
theorem dX2_plan_11 : decode cX2_plan 11 = .ok (.aload_n 0, 1) := dk_42 (dk_at dksX2_plan_0 11 rfl rfl)
theorem dX2_plan_12 : decode cX2_plan 12 = .ok (.getfield 107, 3) := dk_180 0 107 (dk_at dksX2_plan_0 12 rfl rfl)
theorem dX2_plan_15 : decode cX2_plan 15 = .ok (.invokespecial 241, 3) := dk_183 0 241 (dk_at dksX2_plan_0 15 rfl rfl)
theorem dX2_plan_18 : decode cX2_plan 18 = .ok (.invokevirtual 93, 3) := dk_182 0 93 (dk_at dksX2_plan_0 18 rfl rfl)
theorem dX2_plan_21 : decode cX2_plan 21 = .ok (.pop, 1) := dk_87 (dk_at dksX2_plan_0 21 rfl rfl)
theorem dX2_plan_22 : decode cX2_plan 22 = .ok (.aload_n 0, 1) := dk_42 (dk_at dksX2_plan_0 22 rfl rfl)
theorem dX2_plan_23 : decode cX2_plan 23 = .ok (.dup, 1) := dk_89 (dk_at dksX2_plan_0 23 rfl rfl)
theorem dX2_plan_24 : decode cX2_plan 24 = .ok (.getfield 107, 3) := dk_180 0 107 (dk_at dksX2_plan_1 0 rfl rfl)
theorem dX2_plan_27 : decode cX2_plan 27 = .ok (.iconst 1, 1) := dk_4 (dk_at dksX2_plan_1 3 rfl rfl)
theorem dX2_plan_28 : decode cX2_plan 28 = .ok (.iadd, 1) := dk_96 (dk_at dksX2_plan_1 4 rfl rfl)
theorem dX2_plan_29 : decode cX2_plan 29 = .ok (.putfield 107, 3) := dk_181 0 107 (dk_at dksX2_plan_1 5 rfl rfl)
theorem dX2_plan_32 : decode cX2_plan 32 = .ok (.return_, 1) := dk_177 (dk_at dksX2_plan_1 8 rfl rfl)
abbrev cX2_meets : ByteArray := prog_5_method_16_code
def yX2_meets : MethodName := ⟨RX2, "meets", "(II)Z"⟩
def dkwX2_meets_1 : List UInt8 := [182, 0, 81, 192, 0, 79, 182, 0, 136, 27, 161, 0, 7, 4, 167, 0, 4, 3, 172]
abbrev dktX2_meets_1 : List UInt8 := dkwX2_meets_1 ++ []
def dkwX2_meets_0 : List UInt8 := [42, 180, 0, 33, 28, 184, 0, 129, 182, 0, 133, 192, 0, 79, 78, 45, 198, 0, 25, 42, 180, 0, 33, 45]
abbrev dktX2_meets_0 : List UInt8 := dkwX2_meets_0 ++ dktX2_meets_1
theorem dksX2_meets_0 : cX2_meets.data.toList.drop 0 = dktX2_meets_0 := by decide +kernel
theorem dksX2_meets_1 : cX2_meets.data.toList.drop 24 = dktX2_meets_1 := dk_seg dksX2_meets_0 24 rfl rfl
theorem dX2_meets_0 : decode cX2_meets 0 = .ok (.aload_n 0, 1) := dk_42 (dk_at dksX2_meets_0 0 rfl rfl)
theorem dX2_meets_1 : decode cX2_meets 1 = .ok (.getfield 33, 3) := dk_180 0 33 (dk_at dksX2_meets_0 1 rfl rfl)
theorem dX2_meets_4 : decode cX2_meets 4 = .ok (.iload_n 2, 1) := dk_28 (dk_at dksX2_meets_0 4 rfl rfl)
theorem dX2_meets_5 : decode cX2_meets 5 = .ok (.invokestatic 129, 3) := dk_184 0 129 (dk_at dksX2_meets_0 5 rfl rfl)
theorem dX2_meets_8 : decode cX2_meets 8 = .ok (.invokevirtual 133, 3) := dk_182 0 133 (dk_at dksX2_meets_0 8 rfl rfl)
theorem dX2_meets_11 : decode cX2_meets 11 = .ok (.checkcast 79, 3) := dk_192 0 79 (dk_at dksX2_meets_0 11 rfl rfl)
theorem dX2_meets_14 : decode cX2_meets 14 = .ok (.astore_n 3, 1) := dk_78 (dk_at dksX2_meets_0 14 rfl rfl)
theorem dX2_meets_15 : decode cX2_meets 15 = .ok (.aload_n 3, 1) := dk_45 (dk_at dksX2_meets_0 15 rfl rfl)
theorem dX2_meets_16 : decode cX2_meets 16 = .ok (.ifnull 25, 3) := dk_198 0 25 (dk_at dksX2_meets_0 16 rfl rfl)
theorem dX2_meets_19 : decode cX2_meets 19 = .ok (.aload_n 0, 1) := dk_42 (dk_at dksX2_meets_0 19 rfl rfl)
theorem dX2_meets_20 : decode cX2_meets 20 = .ok (.getfield 33, 3) := dk_180 0 33 (dk_at dksX2_meets_0 20 rfl rfl)
theorem dX2_meets_23 : decode cX2_meets 23 = .ok (.aload_n 3, 1) := dk_45 (dk_at dksX2_meets_0 23 rfl rfl)
theorem dX2_meets_24 : decode cX2_meets 24 = .ok (.invokevirtual 81, 3) := dk_182 0 81 (dk_at dksX2_meets_1 0 rfl rfl)
theorem dX2_meets_27 : decode cX2_meets 27 = .ok (.checkcast 79, 3) := dk_192 0 79 (dk_at dksX2_meets_1 3 rfl rfl)
theorem dX2_meets_30 : decode cX2_meets 30 = .ok (.invokevirtual 136, 3) := dk_182 0 136 (dk_at dksX2_meets_1 6 rfl rfl)
theorem dX2_meets_33 : decode cX2_meets 33 = .ok (.iload_n 1, 1) := dk_27 (dk_at dksX2_meets_1 9 rfl rfl)
theorem dX2_meets_34 : decode cX2_meets 34 = .ok (.if_icmp .lt 7, 3) := dk_161 0 7 (dk_at dksX2_meets_1 10 rfl rfl)
theorem dX2_meets_37 : decode cX2_meets 37 = .ok (.iconst 1, 1) := dk_4 (dk_at dksX2_meets_1 13 rfl rfl)
theorem dX2_meets_38 : decode cX2_meets 38 = .ok (.goto 4, 3) := dk_167 0 4 (dk_at dksX2_meets_1 14 rfl rfl)
theorem dX2_meets_41 : decode cX2_meets 41 = .ok (.iconst 0, 1) := dk_3 (dk_at dksX2_meets_1 17 rfl rfl)
theorem dX2_meets_42 : decode cX2_meets 42 = .ok (.ireturn, 1) := dk_172 (dk_at dksX2_meets_1 18 rfl rfl)
theorem q94 : (Jvm.Cond.initialized "FountainPark$Park") ∈ lw_all := lw_g (lw_at lw_m1 2 rfl) rfl
theorem q150 : (Jvm.Cond.instantiable "FountainPark$Park" (14 : Nat)) ∈ lw_all := lw_g (lw_at lw_m1 58 rfl) rfl
theorem q152 : (Jvm.Cond.instanceMethod ({ cls := "FountainPark$Park", name := "<init>", desc := "()V" } : Jvm.MethodName)) ∈ lw_all := lw_g (lw_at lw_m1 60 rfl) rfl
theorem q153 : (Jvm.Cond.code ({ cls := "FountainPark$Park", name := "<init>", desc := "()V" } : Jvm.MethodName) prog_5_method_1_code (2 : Nat) (Option.none : Option Jvm.ClassFile.FieldType)) ∈ lw_all := lw_g (lw_at lw_m1 61 rfl) rfl
theorem q154 : (Jvm.Cond.methodLink "FountainPark$Park" (3 : Nat) ({ cls := "java/lang/Object", name := "<init>", desc := "()V" } : Jvm.MethodName)) ∈ lw_all := lw_g (lw_at lw_m1 62 rfl) rfl
theorem q155 : (Jvm.Cond.classLink "FountainPark$Park" (9 : Nat) "FountainPark$Fountain") ∈ lw_all := lw_g (lw_at lw_m1 63 rfl) rfl
theorem q157 : (Jvm.Cond.classLink "FountainPark$Park" (17 : Nat) "FountainPark$Job") ∈ lw_all := lw_g (lw_at lw_m1 65 rfl) rfl
theorem q159 : (Jvm.Cond.classLink "FountainPark$Park" (23 : Nat) "java/util/PriorityQueue") ∈ lw_all := lw_g (lw_at lw_m1 67 rfl) rfl
theorem q161 : (Jvm.Cond.methodLink "FountainPark$Park" (25 : Nat) ({ cls := "java/util/PriorityQueue", name := "<init>", desc := "()V" } : Jvm.MethodName)) ∈ lw_all := lw_g (lw_at lw_m1 69 rfl) rfl
theorem q255 : (Jvm.Cond.classLink "FountainPark$Park" (30 : Nat) "java/util/TreeMap") ∈ lw_all := lw_g (lw_at lw_m1 163 rfl) rfl
theorem q257 : (Jvm.Cond.methodLink "FountainPark$Park" (32 : Nat) ({ cls := "java/util/TreeMap", name := "<init>", desc := "()V" } : Jvm.MethodName)) ∈ lw_all := lw_g (lw_at lw_m1 165 rfl) rfl
theorem q290 : (Jvm.Cond.classLink "FountainPark$Park" (37 : Nat) "java/util/TreeSet") ∈ lw_all := lw_g (lw_at lw_m1 198 rfl) rfl
theorem q292 : (Jvm.Cond.methodLink "FountainPark$Park" (39 : Nat) ({ cls := "java/util/TreeSet", name := "<init>", desc := "()V" } : Jvm.MethodName)) ∈ lw_all := lw_g (lw_at lw_m1 200 rfl) rfl
theorem q309 : (Jvm.Cond.methodLinkNest "FountainPark$Park" (48 : Nat) ({ cls := "FountainPark$Fountain", name := "<init>", desc := "()V" } : Jvm.MethodName) "FountainPark") ∈ lw_tbl := lw_at lw_m1 217 rfl
theorem q314 : (Jvm.Cond.fieldLinkNest "FountainPark$Park" (140 : Nat) "FountainPark$Fountain" "isThere" "Z" "FountainPark") ∈ lw_tbl := lw_at lw_m1 222 rfl
theorem q323 : (Jvm.Cond.fieldLinkNest "FountainPark$Park" (149 : Nat) "FountainPark$Fountain" "isHeated" "Z" "FountainPark") ∈ lw_tbl := lw_at lw_m1 231 rfl
theorem q326 : (Jvm.Cond.fieldLinkNest "FountainPark$Park" (146 : Nat) "FountainPark$Fountain" "isDrained" "Z" "FountainPark") ∈ lw_tbl := lw_at lw_m1 234 rfl
theorem q329 : (Jvm.Cond.fieldLinkNest "FountainPark$Park" (143 : Nat) "FountainPark$Fountain" "isBroken" "Z" "FountainPark") ∈ lw_tbl := lw_at lw_m1 237 rfl
theorem q338 : (Jvm.Cond.fieldLinkNest "FountainPark$Park" (226 : Nat) "FountainPark$Fountain" "today" "I" "FountainPark") ∈ lw_tbl := lw_at lw_m2 6 rfl
theorem q340 : (Jvm.Cond.fieldLinkNest "FountainPark$Park" (165 : Nat) "FountainPark$Fountain" "reported" "[I" "FountainPark") ∈ lw_tbl := lw_at lw_m2 8 rfl
theorem q342 : (Jvm.Cond.fieldLinkNest "FountainPark$Park" (192 : Nat) "FountainPark$Fountain" "worked" "[I" "FountainPark") ∈ lw_tbl := lw_at lw_m2 10 rfl
theorem q373 : (Jvm.Cond.methodLink "FountainPark$Park" (49 : Nat) ({ cls := "FountainPark$Job", name := "<init>", desc := "(II)V" } : Jvm.MethodName)) ∈ lw_all := lw_g (lw_at lw_m2 41 rfl) rfl
theorem q378 : (Jvm.Cond.fieldLinkNest "FountainPark$Park" (162 : Nat) "FountainPark$Job" "place" "I" "FountainPark") ∈ lw_tbl := lw_at lw_m2 46 rfl
theorem q381 : (Jvm.Cond.fieldLinkNest "FountainPark$Park" (168 : Nat) "FountainPark$Job" "kind" "I" "FountainPark") ∈ lw_tbl := lw_at lw_m2 49 rfl
theorem q395 : (Jvm.Cond.fieldLink "FountainPark$Park" (11 : Nat) "FountainPark$Park" "fountains" "[LFountainPark$Fountain;") ∈ lw_all := lw_g (lw_at lw_m2 63 rfl) rfl
theorem q397 : (Jvm.Cond.fieldLink "FountainPark$Park" (19 : Nat) "FountainPark$Park" "jobs" "[LFountainPark$Job;") ∈ lw_all := lw_g (lw_at lw_m2 65 rfl) rfl
theorem q398 : (Jvm.Cond.fieldLink "FountainPark$Park" (26 : Nat) "FountainPark$Park" "queue" "Ljava/util/PriorityQueue;") ∈ lw_all := lw_g (lw_at lw_m2 66 rfl) rfl
theorem q400 : (Jvm.Cond.fieldLink "FountainPark$Park" (33 : Nat) "FountainPark$Park" "frosts" "Ljava/util/TreeMap;") ∈ lw_all := lw_g (lw_at lw_m2 68 rfl) rfl
theorem q402 : (Jvm.Cond.fieldLink "FountainPark$Park" (40 : Nat) "FountainPark$Park" "outings" "Ljava/util/TreeSet;") ∈ lw_all := lw_g (lw_at lw_m2 70 rfl) rfl
theorem q404 : (Jvm.Cond.fieldLink "FountainPark$Park" (44 : Nat) "FountainPark$Park" "settings" "[I") ∈ lw_all := lw_g (lw_at lw_m2 72 rfl) rfl
theorem q406 : (Jvm.Cond.fieldLink "FountainPark$Park" (103 : Nat) "FountainPark$Park" "day" "I") ∈ lw_all := lw_g (lw_at lw_m2 74 rfl) rfl
theorem q408 : (Jvm.Cond.fieldLink "FountainPark$Park" (107 : Nat) "FountainPark$Park" "planned" "I") ∈ lw_all := lw_g (lw_at lw_m2 76 rfl) rfl
theorem q409 : (Jvm.Cond.fieldLink "FountainPark$Park" (110 : Nat) "FountainPark$Park" "thirsty" "I") ∈ lw_all := lw_g (lw_at lw_m2 77 rfl) rfl
theorem q411 : (Jvm.Cond.fieldLink "FountainPark$Park" (113 : Nat) "FountainPark$Park" "children" "I") ∈ lw_all := lw_g (lw_at lw_m2 79 rfl) rfl
theorem q413 : (Jvm.Cond.fieldLink "FountainPark$Park" (116 : Nat) "FountainPark$Park" "cost" "I") ∈ lw_all := lw_g (lw_at lw_m2 81 rfl) rfl
theorem q415 : (Jvm.Cond.fieldLink "FountainPark$Park" (119 : Nat) "FountainPark$Park" "worked" "I") ∈ lw_all := lw_g (lw_at lw_m2 83 rfl) rfl
theorem q417 : (Jvm.Cond.fieldLink "FountainPark$Park" (122 : Nat) "FountainPark$Park" "given" "I") ∈ lw_all := lw_g (lw_at lw_m2 85 rfl) rfl
theorem q419 : (Jvm.Cond.fieldLink "FountainPark$Park" (125 : Nat) "FountainPark$Park" "isFrosty" "Z") ∈ lw_all := lw_g (lw_at lw_m2 87 rfl) rfl
theorem q421 : (Jvm.Cond.laysFinal "FountainPark$Park" "FountainPark$Park" "fountains" "[LFountainPark$Fountain;") ∈ lw_all := lw_g (lw_at lw_m2 89 rfl) rfl
theorem q422 : (Jvm.Cond.soleField "FountainPark$Park" "fountains") ∈ lw_all := lw_g (lw_at lw_m2 90 rfl) rfl
theorem q423 : (Jvm.Cond.laysFinal "FountainPark$Park" "FountainPark$Park" "jobs" "[LFountainPark$Job;") ∈ lw_all := lw_g (lw_at lw_m2 91 rfl) rfl
theorem q424 : (Jvm.Cond.soleField "FountainPark$Park" "jobs") ∈ lw_all := lw_g (lw_at lw_m2 92 rfl) rfl
theorem q425 : (Jvm.Cond.laysFinal "FountainPark$Park" "FountainPark$Park" "queue" "Ljava/util/PriorityQueue;") ∈ lw_all := lw_g (lw_at lw_m2 93 rfl) rfl
theorem q426 : (Jvm.Cond.soleField "FountainPark$Park" "queue") ∈ lw_all := lw_g (lw_at lw_m2 94 rfl) rfl
theorem q427 : (Jvm.Cond.laysFinal "FountainPark$Park" "FountainPark$Park" "frosts" "Ljava/util/TreeMap;") ∈ lw_all := lw_g (lw_at lw_m2 95 rfl) rfl
theorem q428 : (Jvm.Cond.soleField "FountainPark$Park" "frosts") ∈ lw_all := lw_g (lw_at lw_m2 96 rfl) rfl
theorem q429 : (Jvm.Cond.laysFinal "FountainPark$Park" "FountainPark$Park" "outings" "Ljava/util/TreeSet;") ∈ lw_all := lw_g (lw_at lw_m2 97 rfl) rfl
theorem q430 : (Jvm.Cond.soleField "FountainPark$Park" "outings") ∈ lw_all := lw_g (lw_at lw_m2 98 rfl) rfl
theorem q431 : (Jvm.Cond.laysFinal "FountainPark$Park" "FountainPark$Park" "settings" "[I") ∈ lw_all := lw_g (lw_at lw_m2 99 rfl) rfl
theorem q432 : (Jvm.Cond.soleField "FountainPark$Park" "settings") ∈ lw_all := lw_g (lw_at lw_m2 100 rfl) rfl
theorem q433 : (Jvm.Cond.lays "FountainPark$Park" "FountainPark$Park" "day" "I") ∈ lw_all := lw_g (lw_at lw_m2 101 rfl) rfl
theorem q434 : (Jvm.Cond.soleField "FountainPark$Park" "day") ∈ lw_all := lw_g (lw_at lw_m2 102 rfl) rfl
theorem q435 : (Jvm.Cond.lays "FountainPark$Park" "FountainPark$Park" "planned" "I") ∈ lw_all := lw_g (lw_at lw_m2 103 rfl) rfl
theorem q436 : (Jvm.Cond.soleField "FountainPark$Park" "planned") ∈ lw_all := lw_g (lw_at lw_m2 104 rfl) rfl
theorem q437 : (Jvm.Cond.lays "FountainPark$Park" "FountainPark$Park" "thirsty" "I") ∈ lw_all := lw_g (lw_at lw_m2 105 rfl) rfl
theorem q438 : (Jvm.Cond.soleField "FountainPark$Park" "thirsty") ∈ lw_all := lw_g (lw_at lw_m2 106 rfl) rfl
theorem q439 : (Jvm.Cond.lays "FountainPark$Park" "FountainPark$Park" "children" "I") ∈ lw_all := lw_g (lw_at lw_m2 107 rfl) rfl
theorem q440 : (Jvm.Cond.soleField "FountainPark$Park" "children") ∈ lw_all := lw_g (lw_at lw_m2 108 rfl) rfl
theorem q441 : (Jvm.Cond.lays "FountainPark$Park" "FountainPark$Park" "cost" "I") ∈ lw_all := lw_g (lw_at lw_m2 109 rfl) rfl
theorem q442 : (Jvm.Cond.soleField "FountainPark$Park" "cost") ∈ lw_all := lw_g (lw_at lw_m2 110 rfl) rfl
theorem q443 : (Jvm.Cond.lays "FountainPark$Park" "FountainPark$Park" "worked" "I") ∈ lw_all := lw_g (lw_at lw_m2 111 rfl) rfl
theorem q444 : (Jvm.Cond.soleField "FountainPark$Park" "worked") ∈ lw_all := lw_g (lw_at lw_m2 112 rfl) rfl
theorem q445 : (Jvm.Cond.lays "FountainPark$Park" "FountainPark$Park" "given" "I") ∈ lw_all := lw_g (lw_at lw_m2 113 rfl) rfl
theorem q446 : (Jvm.Cond.soleField "FountainPark$Park" "given") ∈ lw_all := lw_g (lw_at lw_m2 114 rfl) rfl
theorem q447 : (Jvm.Cond.lays "FountainPark$Park" "FountainPark$Park" "isFrosty" "Z") ∈ lw_all := lw_g (lw_at lw_m2 115 rfl) rfl
theorem q448 : (Jvm.Cond.soleField "FountainPark$Park" "isFrosty") ∈ lw_all := lw_g (lw_at lw_m2 116 rfl) rfl
theorem q449 : (Jvm.Cond.superclass "FountainPark$Park" "java/lang/Object") ∈ lw_all := lw_g (lw_at lw_m2 117 rfl) rfl
theorem q910 : (Jvm.Cond.instanceMethod ({ cls := "FountainPark$Park", name := "many", desc := "(Z)I" } : Jvm.MethodName)) ∈ lw_all := lw_g (lw_at lw_m4 98 rfl) rfl
theorem q911 : (Jvm.Cond.selects "FountainPark$Park" ({ cls := "FountainPark$Park", name := "many", desc := "(Z)I" } : Jvm.MethodName) ({ cls := "FountainPark$Park", name := "many", desc := "(Z)I" } : Jvm.MethodName)) ∈ lw_all := lw_g (lw_at lw_m4 99 rfl) rfl
theorem q912 : (Jvm.Cond.code ({ cls := "FountainPark$Park", name := "many", desc := "(Z)I" } : Jvm.MethodName) prog_5_method_5_code (4 : Nat) (Option.some Jvm.ClassFile.FieldType.int)) ∈ lw_all := lw_g (lw_at lw_m4 100 rfl) rfl
theorem q913 : (Jvm.Cond.methodLink "FountainPark$Park" (155 : Nat) ({ cls := "FountainPark$Park", name := "why", desc := "(I)I" } : Jvm.MethodName)) ∈ lw_all := lw_g (lw_at lw_m4 101 rfl) rfl
theorem q914 : (Jvm.Cond.instanceMethod ({ cls := "FountainPark$Park", name := "why", desc := "(I)I" } : Jvm.MethodName)) ∈ lw_all := lw_g (lw_at lw_m4 102 rfl) rfl
theorem q915 : (Jvm.Cond.selects "FountainPark$Park" ({ cls := "FountainPark$Park", name := "why", desc := "(I)I" } : Jvm.MethodName) ({ cls := "FountainPark$Park", name := "why", desc := "(I)I" } : Jvm.MethodName)) ∈ lw_all := lw_g (lw_at lw_m4 103 rfl) rfl
theorem q916 : (Jvm.Cond.code ({ cls := "FountainPark$Park", name := "why", desc := "(I)I" } : Jvm.MethodName) prog_5_method_4_code (3 : Nat) (Option.some Jvm.ClassFile.FieldType.int)) ∈ lw_all := lw_g (lw_at lw_m4 104 rfl) rfl
theorem q917 : (Jvm.Cond.methodLink "FountainPark$Park" (152 : Nat) ({ cls := "FountainPark$Fountain", name := "isUsedUp", desc := "()Z" } : Jvm.MethodName)) ∈ lw_all := lw_g (lw_at lw_m4 105 rfl) rfl
theorem q922 : (Jvm.Cond.instanceMethod ({ cls := "FountainPark$Park", name := "jobs", desc := "()I" } : Jvm.MethodName)) ∈ lw_all := lw_g (lw_at lw_m4 110 rfl) rfl
theorem q923 : (Jvm.Cond.selects "FountainPark$Park" ({ cls := "FountainPark$Park", name := "jobs", desc := "()I" } : Jvm.MethodName) ({ cls := "FountainPark$Park", name := "jobs", desc := "()I" } : Jvm.MethodName)) ∈ lw_all := lw_g (lw_at lw_m4 111 rfl) rfl
theorem q924 : (Jvm.Cond.code ({ cls := "FountainPark$Park", name := "jobs", desc := "()I" } : Jvm.MethodName) prog_5_method_6_code (6 : Nat) (Option.some Jvm.ClassFile.FieldType.int)) ∈ lw_all := lw_g (lw_at lw_m4 112 rfl) rfl
theorem q925 : (Jvm.Cond.methodLink "FountainPark$Park" (159 : Nat) ({ cls := "FountainPark$Fountain", name := "jobs", desc := "()I" } : Jvm.MethodName)) ∈ lw_all := lw_g (lw_at lw_m4 113 rfl) rfl
theorem q961 : (Jvm.Cond.instanceMethod ({ cls := "FountainPark$Park", name := "become", desc := "(LFountainPark$Park;)V" } : Jvm.MethodName)) ∈ lw_all := lw_g (lw_at lw_m4 149 rfl) rfl
theorem q962 : (Jvm.Cond.selects "FountainPark$Park" ({ cls := "FountainPark$Park", name := "become", desc := "(LFountainPark$Park;)V" } : Jvm.MethodName) ({ cls := "FountainPark$Park", name := "become", desc := "(LFountainPark$Park;)V" } : Jvm.MethodName)) ∈ lw_all := lw_g (lw_at lw_m4 150 rfl) rfl
theorem q963 : (Jvm.Cond.code ({ cls := "FountainPark$Park", name := "become", desc := "(LFountainPark$Park;)V" } : Jvm.MethodName) prog_5_method_2_code (4 : Nat) (Option.none : Option Jvm.ClassFile.FieldType)) ∈ lw_all := lw_g (lw_at lw_m4 151 rfl) rfl
theorem q964 : (Jvm.Cond.methodLink "FountainPark$Park" (52 : Nat) ({ cls := "FountainPark$Fountain", name := "become", desc := "(LFountainPark$Fountain;)V" } : Jvm.MethodName)) ∈ lw_all := lw_g (lw_at lw_m4 152 rfl) rfl
theorem q968 : (Jvm.Cond.methodLink "FountainPark$Park" (56 : Nat) ({ cls := "java/util/TreeMap", name := "clear", desc := "()V" } : Jvm.MethodName)) ∈ lw_all := lw_g (lw_at lw_m4 156 rfl) rfl
theorem q972 : (Jvm.Cond.methodLink "FountainPark$Park" (59 : Nat) ({ cls := "java/util/TreeMap", name := "keySet", desc := "()Ljava/util/Set;" } : Jvm.MethodName)) ∈ lw_all := lw_g (lw_at lw_m4 160 rfl) rfl
theorem q990 : (Jvm.Cond.interfaceEntry "FountainPark$Park" (63 : Nat)) ∈ lw_tbl := lw_at lw_m4 178 rfl
theorem q991 : (Jvm.Cond.methodLink "FountainPark$Park" (63 : Nat) ({ cls := "java/util/Set", name := "iterator", desc := "()Ljava/util/Iterator;" } : Jvm.MethodName)) ∈ lw_all := lw_g (lw_at lw_m4 179 rfl) rfl
theorem q1074 : (Jvm.Cond.interfaceEntry "FountainPark$Park" (69 : Nat)) ∈ lw_tbl := lw_at lw_m5 22 rfl
theorem q1075 : (Jvm.Cond.methodLink "FountainPark$Park" (69 : Nat) ({ cls := "java/util/Iterator", name := "hasNext", desc := "()Z" } : Jvm.MethodName)) ∈ lw_all := lw_g (lw_at lw_m5 23 rfl) rfl
theorem q1087 : (Jvm.Cond.interfaceEntry "FountainPark$Park" (75 : Nat)) ∈ lw_tbl := lw_at lw_m5 35 rfl
theorem q1088 : (Jvm.Cond.methodLink "FountainPark$Park" (75 : Nat) ({ cls := "java/util/Iterator", name := "next", desc := "()Ljava/lang/Object;" } : Jvm.MethodName)) ∈ lw_all := lw_g (lw_at lw_m5 36 rfl) rfl
theorem q1117 : (Jvm.Cond.classLink "FountainPark$Park" (79 : Nat) "java/lang/Integer") ∈ lw_all := lw_g (lw_at lw_m5 65 rfl) rfl
theorem q1118 : (Jvm.Cond.methodLink "FountainPark$Park" (81 : Nat) ({ cls := "java/util/TreeMap", name := "get", desc := "(Ljava/lang/Object;)Ljava/lang/Object;" } : Jvm.MethodName)) ∈ lw_all := lw_g (lw_at lw_m5 66 rfl) rfl
theorem q1357 : (Jvm.Cond.methodLink "FountainPark$Park" (85 : Nat) ({ cls := "java/util/TreeMap", name := "put", desc := "(Ljava/lang/Object;Ljava/lang/Object;)Ljava/lang/Object;" } : Jvm.MethodName)) ∈ lw_all := lw_g (lw_at lw_m6 65 rfl) rfl
theorem q1434 : (Jvm.Cond.methodLink "FountainPark$Park" (89 : Nat) ({ cls := "java/util/TreeSet", name := "clear", desc := "()V" } : Jvm.MethodName)) ∈ lw_all := lw_g (lw_at lw_m6 142 rfl) rfl
theorem q1444 : (Jvm.Cond.methodLink "FountainPark$Park" (90 : Nat) ({ cls := "java/util/TreeSet", name := "iterator", desc := "()Ljava/util/Iterator;" } : Jvm.MethodName)) ∈ lw_all := lw_g (lw_at lw_m6 152 rfl) rfl
theorem q1445 : (Jvm.Cond.classLink "FountainPark$Park" (91 : Nat) "FountainPark$Outing") ∈ lw_all := lw_g (lw_at lw_m6 153 rfl) rfl
theorem q1446 : (Jvm.Cond.methodLink "FountainPark$Park" (93 : Nat) ({ cls := "java/util/TreeSet", name := "add", desc := "(Ljava/lang/Object;)Z" } : Jvm.MethodName)) ∈ lw_all := lw_g (lw_at lw_m6 154 rfl) rfl
theorem q1458 : (Jvm.Cond.methodLink "FountainPark$Park" (97 : Nat) ({ cls := "java/lang/System", name := "arraycopy", desc := "(Ljava/lang/Object;ILjava/lang/Object;II)V" } : Jvm.MethodName)) ∈ lw_all := lw_g (lw_at lw_m6 166 rfl) rfl
theorem q1461 : (Jvm.Cond.instanceMethod ({ cls := "FountainPark$Park", name := "pass", desc := "()V" } : Jvm.MethodName)) ∈ lw_all := lw_g (lw_at lw_m6 169 rfl) rfl
theorem q1462 : (Jvm.Cond.selects "FountainPark$Park" ({ cls := "FountainPark$Park", name := "pass", desc := "()V" } : Jvm.MethodName) ({ cls := "FountainPark$Park", name := "pass", desc := "()V" } : Jvm.MethodName)) ∈ lw_all := lw_g (lw_at lw_m6 170 rfl) rfl
theorem q1463 : (Jvm.Cond.code ({ cls := "FountainPark$Park", name := "pass", desc := "()V" } : Jvm.MethodName) prog_5_method_13_code (5 : Nat) (Option.none : Option Jvm.ClassFile.FieldType)) ∈ lw_all := lw_g (lw_at lw_m6 171 rfl) rfl
theorem q1464 : (Jvm.Cond.methodLink "FountainPark$Park" (223 : Nat) ({ cls := "FountainPark$Park", name := "lookOut", desc := "()V" } : Jvm.MethodName)) ∈ lw_all := lw_g (lw_at lw_m6 172 rfl) rfl
theorem q1465 : (Jvm.Cond.instanceMethod ({ cls := "FountainPark$Park", name := "lookOut", desc := "()V" } : Jvm.MethodName)) ∈ lw_all := lw_g (lw_at lw_m6 173 rfl) rfl
theorem q1466 : (Jvm.Cond.selects "FountainPark$Park" ({ cls := "FountainPark$Park", name := "lookOut", desc := "()V" } : Jvm.MethodName) ({ cls := "FountainPark$Park", name := "lookOut", desc := "()V" } : Jvm.MethodName)) ∈ lw_all := lw_g (lw_at lw_m6 174 rfl) rfl
theorem q1467 : (Jvm.Cond.code ({ cls := "FountainPark$Park", name := "lookOut", desc := "()V" } : Jvm.MethodName) prog_5_method_3_code (2 : Nat) (Option.none : Option Jvm.ClassFile.FieldType)) ∈ lw_all := lw_g (lw_at lw_m6 175 rfl) rfl
theorem q1468 : (Jvm.Cond.methodLink "FountainPark$Park" (129 : Nat) ({ cls := "java/lang/Integer", name := "valueOf", desc := "(I)Ljava/lang/Integer;" } : Jvm.MethodName)) ∈ lw_all := lw_g (lw_at lw_m6 176 rfl) rfl
theorem q1487 : (Jvm.Cond.methodLink "FountainPark$Park" (133 : Nat) ({ cls := "java/util/TreeMap", name := "floorKey", desc := "(Ljava/lang/Object;)Ljava/lang/Object;" } : Jvm.MethodName)) ∈ lw_all := lw_g (lw_at lw_m6 195 rfl) rfl
theorem q1498 : (Jvm.Cond.methodLink "FountainPark$Park" (136 : Nat) ({ cls := "java/lang/Integer", name := "intValue", desc := "()I" } : Jvm.MethodName)) ∈ lw_all := lw_g (lw_at lw_m6 206 rfl) rfl
theorem q1502 : (Jvm.Cond.methodLink "FountainPark$Park" (229 : Nat) ({ cls := "FountainPark$Park", name := "freeze", desc := "()V" } : Jvm.MethodName)) ∈ lw_all := lw_g (lw_at lw_m6 210 rfl) rfl
theorem q1503 : (Jvm.Cond.privateMethod ({ cls := "FountainPark$Park", name := "freeze", desc := "()V" } : Jvm.MethodName)) ∈ lw_tbl := lw_at lw_m6 211 rfl
theorem q1504 : (Jvm.Cond.instanceMethod ({ cls := "FountainPark$Park", name := "freeze", desc := "()V" } : Jvm.MethodName)) ∈ lw_all := lw_g (lw_at lw_m6 212 rfl) rfl
theorem q1505 : (Jvm.Cond.code ({ cls := "FountainPark$Park", name := "freeze", desc := "()V" } : Jvm.MethodName) prog_5_method_8_code (5 : Nat) (Option.none : Option Jvm.ClassFile.FieldType)) ∈ lw_all := lw_g (lw_at lw_m6 213 rfl) rfl
theorem q1506 : (Jvm.Cond.methodLink "FountainPark$Park" (176 : Nat) ({ cls := "FountainPark$Fountain", name := "burst", desc := "(I)V" } : Jvm.MethodName)) ∈ lw_all := lw_g (lw_at lw_m6 214 rfl) rfl
theorem q1514 : (Jvm.Cond.methodLink "FountainPark$Park" (232 : Nat) ({ cls := "FountainPark$Park", name := "work", desc := "()V" } : Jvm.MethodName)) ∈ lw_all := lw_g (lw_at lw_m6 222 rfl) rfl
theorem q1515 : (Jvm.Cond.privateMethod ({ cls := "FountainPark$Park", name := "work", desc := "()V" } : Jvm.MethodName)) ∈ lw_tbl := lw_at lw_m6 223 rfl
theorem q1516 : (Jvm.Cond.instanceMethod ({ cls := "FountainPark$Park", name := "work", desc := "()V" } : Jvm.MethodName)) ∈ lw_all := lw_g (lw_at lw_m6 224 rfl) rfl
theorem q1517 : (Jvm.Cond.code ({ cls := "FountainPark$Park", name := "work", desc := "()V" } : Jvm.MethodName) prog_5_method_9_code (5 : Nat) (Option.none : Option Jvm.ClassFile.FieldType)) ∈ lw_all := lw_g (lw_at lw_m6 225 rfl) rfl
theorem q1518 : (Jvm.Cond.methodLink "FountainPark$Park" (180 : Nat) ({ cls := "FountainPark$Park", name := "layJobs", desc := "()V" } : Jvm.MethodName)) ∈ lw_all := lw_g (lw_at lw_m6 226 rfl) rfl
theorem q1519 : (Jvm.Cond.instanceMethod ({ cls := "FountainPark$Park", name := "layJobs", desc := "()V" } : Jvm.MethodName)) ∈ lw_all := lw_g (lw_at lw_m6 227 rfl) rfl
theorem q1520 : (Jvm.Cond.selects "FountainPark$Park" ({ cls := "FountainPark$Park", name := "layJobs", desc := "()V" } : Jvm.MethodName) ({ cls := "FountainPark$Park", name := "layJobs", desc := "()V" } : Jvm.MethodName)) ∈ lw_all := lw_g (lw_at lw_m6 228 rfl) rfl
theorem q1521 : (Jvm.Cond.code ({ cls := "FountainPark$Park", name := "layJobs", desc := "()V" } : Jvm.MethodName) prog_5_method_7_code (6 : Nat) (Option.none : Option Jvm.ClassFile.FieldType)) ∈ lw_all := lw_g (lw_at lw_m6 229 rfl) rfl
theorem q1522 : (Jvm.Cond.methodLink "FountainPark$Park" (161 : Nat) ({ cls := "java/util/PriorityQueue", name := "clear", desc := "()V" } : Jvm.MethodName)) ∈ lw_all := lw_g (lw_at lw_m6 230 rfl) rfl
theorem q1526 : (Jvm.Cond.methodLink "FountainPark$Park" (171 : Nat) ({ cls := "FountainPark$Job", name := "lay", desc := "(II)LFountainPark$Job;" } : Jvm.MethodName)) ∈ lw_all := lw_g (lw_at lw_m6 234 rfl) rfl
theorem q1530 : (Jvm.Cond.methodLink "FountainPark$Park" (175 : Nat) ({ cls := "java/util/PriorityQueue", name := "add", desc := "(Ljava/lang/Object;)Z" } : Jvm.MethodName)) ∈ lw_all := lw_g (lw_at lw_m6 238 rfl) rfl
theorem q1553 : (Jvm.Cond.selects "FountainPark$Park" ({ cls := "java/lang/Object", name := "getClass", desc := "()Ljava/lang/Class;" } : Jvm.MethodName) ({ cls := "java/lang/Object", name := "getClass", desc := "()Ljava/lang/Class;" } : Jvm.MethodName)) ∈ lw_all := lw_g (lw_at lw_m7 21 rfl) rfl
theorem q1595 : (Jvm.Cond.methodLink "FountainPark$Park" (183 : Nat) ({ cls := "java/util/PriorityQueue", name := "isEmpty", desc := "()Z" } : Jvm.MethodName)) ∈ lw_all := lw_g (lw_at lw_m7 63 rfl) rfl
theorem q1617 : (Jvm.Cond.methodLink "FountainPark$Park" (186 : Nat) ({ cls := "java/util/PriorityQueue", name := "poll", desc := "()Ljava/lang/Object;" } : Jvm.MethodName)) ∈ lw_all := lw_g (lw_at lw_m7 85 rfl) rfl
theorem q1627 : (Jvm.Cond.fieldLinkNest "FountainPark$Park" (189 : Nat) "FountainPark" "NEEDS" "[I" "FountainPark") ∈ lw_tbl := lw_at lw_m7 95 rfl
theorem q1629 : (Jvm.Cond.methodLink "FountainPark$Park" (194 : Nat) ({ cls := "java/lang/Math", name := "min", desc := "(II)I" } : Jvm.MethodName)) ∈ lw_all := lw_g (lw_at lw_m7 97 rfl) rfl
theorem q1630 : (Jvm.Cond.methodLink "FountainPark$Park" (200 : Nat) ({ cls := "FountainPark$Fountain", name := "done", desc := "(I)V" } : Jvm.MethodName)) ∈ lw_all := lw_g (lw_at lw_m7 98 rfl) rfl
theorem q1634 : (Jvm.Cond.methodLink "FountainPark$Park" (235 : Nat) ({ cls := "FountainPark$Park", name := "serveAll", desc := "()V" } : Jvm.MethodName)) ∈ lw_all := lw_g (lw_at lw_m7 102 rfl) rfl
theorem q1635 : (Jvm.Cond.privateMethod ({ cls := "FountainPark$Park", name := "serveAll", desc := "()V" } : Jvm.MethodName)) ∈ lw_tbl := lw_at lw_m7 103 rfl
theorem q1636 : (Jvm.Cond.instanceMethod ({ cls := "FountainPark$Park", name := "serveAll", desc := "()V" } : Jvm.MethodName)) ∈ lw_all := lw_g (lw_at lw_m7 104 rfl) rfl
theorem q1637 : (Jvm.Cond.code ({ cls := "FountainPark$Park", name := "serveAll", desc := "()V" } : Jvm.MethodName) prog_5_method_12_code (2 : Nat) (Option.none : Option Jvm.ClassFile.FieldType)) ∈ lw_all := lw_g (lw_at lw_m7 105 rfl) rfl
theorem q1638 : (Jvm.Cond.methodLink "FountainPark$Park" (211 : Nat) ({ cls := "java/util/TreeSet", name := "isEmpty", desc := "()Z" } : Jvm.MethodName)) ∈ lw_all := lw_g (lw_at lw_m7 106 rfl) rfl
theorem q1655 : (Jvm.Cond.methodLink "FountainPark$Park" (212 : Nat) ({ cls := "java/util/TreeSet", name := "first", desc := "()Ljava/lang/Object;" } : Jvm.MethodName)) ∈ lw_all := lw_g (lw_at lw_m7 123 rfl) rfl
theorem q1670 : (Jvm.Cond.methodLink "FountainPark$Park" (216 : Nat) ({ cls := "java/util/TreeSet", name := "remove", desc := "(Ljava/lang/Object;)Z" } : Jvm.MethodName)) ∈ lw_all := lw_g (lw_at lw_m7 138 rfl) rfl
theorem q1691 : (Jvm.Cond.methodLink "FountainPark$Park" (219 : Nat) ({ cls := "FountainPark$Park", name := "serve", desc := "(LFountainPark$Outing;)V" } : Jvm.MethodName)) ∈ lw_all := lw_g (lw_at lw_m7 159 rfl) rfl
theorem q1692 : (Jvm.Cond.privateMethod ({ cls := "FountainPark$Park", name := "serve", desc := "(LFountainPark$Outing;)V" } : Jvm.MethodName)) ∈ lw_tbl := lw_at lw_m7 160 rfl
theorem q1693 : (Jvm.Cond.instanceMethod ({ cls := "FountainPark$Park", name := "serve", desc := "(LFountainPark$Outing;)V" } : Jvm.MethodName)) ∈ lw_all := lw_g (lw_at lw_m7 161 rfl) rfl
theorem q1694 : (Jvm.Cond.code ({ cls := "FountainPark$Park", name := "serve", desc := "(LFountainPark$Outing;)V" } : Jvm.MethodName) prog_5_method_11_code (4 : Nat) (Option.none : Option Jvm.ClassFile.FieldType)) ∈ lw_all := lw_g (lw_at lw_m7 162 rfl) rfl
theorem q1695 : (Jvm.Cond.methodLink "FountainPark$Park" (210 : Nat) ({ cls := "FountainPark$Park", name := "give", desc := "(II)I" } : Jvm.MethodName)) ∈ lw_all := lw_g (lw_at lw_m7 163 rfl) rfl
theorem q1696 : (Jvm.Cond.privateMethod ({ cls := "FountainPark$Park", name := "give", desc := "(II)I" } : Jvm.MethodName)) ∈ lw_tbl := lw_at lw_m7 164 rfl
theorem q1697 : (Jvm.Cond.instanceMethod ({ cls := "FountainPark$Park", name := "give", desc := "(II)I" } : Jvm.MethodName)) ∈ lw_all := lw_g (lw_at lw_m7 165 rfl) rfl
theorem q1698 : (Jvm.Cond.code ({ cls := "FountainPark$Park", name := "give", desc := "(II)I" } : Jvm.MethodName) prog_5_method_10_code (4 : Nat) (Option.some Jvm.ClassFile.FieldType.int)) ∈ lw_all := lw_g (lw_at lw_m7 166 rfl) rfl
theorem q1699 : (Jvm.Cond.methodLink "FountainPark$Park" (203 : Nat) ({ cls := "FountainPark$Fountain", name := "give", desc := "(II)I" } : Jvm.MethodName)) ∈ lw_all := lw_g (lw_at lw_m7 167 rfl) rfl
theorem q1747 : (Jvm.Cond.instanceMethod ({ cls := "FountainPark$Park", name := "pass", desc := "(I)I" } : Jvm.MethodName)) ∈ lw_all := lw_g (lw_at lw_m7 215 rfl) rfl
theorem q1748 : (Jvm.Cond.selects "FountainPark$Park" ({ cls := "FountainPark$Park", name := "pass", desc := "(I)I" } : Jvm.MethodName) ({ cls := "FountainPark$Park", name := "pass", desc := "(I)I" } : Jvm.MethodName)) ∈ lw_all := lw_g (lw_at lw_m7 216 rfl) rfl
theorem q1749 : (Jvm.Cond.code ({ cls := "FountainPark$Park", name := "pass", desc := "(I)I" } : Jvm.MethodName) prog_5_method_14_code (4 : Nat) (Option.some Jvm.ClassFile.FieldType.int)) ∈ lw_all := lw_g (lw_at lw_m7 217 rfl) rfl
theorem q1750 : (Jvm.Cond.methodLink "FountainPark$Park" (238 : Nat) ({ cls := "FountainPark$Park", name := "pass", desc := "()V" } : Jvm.MethodName)) ∈ lw_all := lw_g (lw_at lw_m7 218 rfl) rfl
theorem q1756 : (Jvm.Cond.instanceMethod ({ cls := "FountainPark$Park", name := "plan", desc := "(III)V" } : Jvm.MethodName)) ∈ lw_all := lw_g (lw_at lw_m7 224 rfl) rfl
theorem q1757 : (Jvm.Cond.selects "FountainPark$Park" ({ cls := "FountainPark$Park", name := "plan", desc := "(III)V" } : Jvm.MethodName) ({ cls := "FountainPark$Park", name := "plan", desc := "(III)V" } : Jvm.MethodName)) ∈ lw_all := lw_g (lw_at lw_m7 225 rfl) rfl
theorem q1758 : (Jvm.Cond.code ({ cls := "FountainPark$Park", name := "plan", desc := "(III)V" } : Jvm.MethodName) prog_5_method_15_code (4 : Nat) (Option.none : Option Jvm.ClassFile.FieldType)) ∈ lw_all := lw_g (lw_at lw_m7 226 rfl) rfl
theorem q1760 : (Jvm.Cond.methodLink "FountainPark$Park" (241 : Nat) ({ cls := "FountainPark$Outing", name := "<init>", desc := "(IIII)V" } : Jvm.MethodName)) ∈ lw_all := lw_g (lw_at lw_m7 228 rfl) rfl
theorem q1765 : (Jvm.Cond.fieldLinkNest "FountainPark$Park" (215 : Nat) "FountainPark$Outing" "day" "I" "FountainPark") ∈ lw_tbl := lw_at lw_m7 233 rfl
theorem q1768 : (Jvm.Cond.fieldLinkNest "FountainPark$Park" (206 : Nat) "FountainPark$Outing" "children" "I" "FountainPark") ∈ lw_tbl := lw_at lw_m7 236 rfl
theorem q1771 : (Jvm.Cond.fieldLinkNest "FountainPark$Park" (207 : Nat) "FountainPark$Outing" "gate" "I" "FountainPark") ∈ lw_tbl := lw_at lw_m7 239 rfl
theorem q1937 : (Jvm.Cond.instanceMethod ({ cls := "FountainPark$Park", name := "meets", desc := "(II)Z" } : Jvm.MethodName)) ∈ lw_all := lw_g (lw_at lw_m8 165 rfl) rfl
theorem q1938 : (Jvm.Cond.selects "FountainPark$Park" ({ cls := "FountainPark$Park", name := "meets", desc := "(II)Z" } : Jvm.MethodName) ({ cls := "FountainPark$Park", name := "meets", desc := "(II)Z" } : Jvm.MethodName)) ∈ lw_all := lw_g (lw_at lw_m8 166 rfl) rfl
theorem q1939 : (Jvm.Cond.code ({ cls := "FountainPark$Park", name := "meets", desc := "(II)Z" } : Jvm.MethodName) prog_5_method_16_code (4 : Nat) (Option.some Jvm.ClassFile.FieldType.boolean)) ∈ lw_all := lw_g (lw_at lw_m8 167 rfl) rfl
theorem q2535 : (Jvm.Cond.castable "FountainPark$Park" "java/lang/Object") ∈ lw_tbl := lw_at lw_m11 43 rfl
theorem in_X2 : ∀ w ∈ wsX20, w ∈ lw_all := lw_in wsX20 [421, 423, 425, 427, 429, 431, 433, 435, 437, 439, 441, 443, 445, 447] (by decide +kernel) (by decide +kernel)
/-! FountainPark$Fountain -/
set_option maxRecDepth 100000
def RX3 : String := "FountainPark$Fountain"
def TX3 : u_T := fun k => match k with
  | 0 => ("FountainPark$Fountain", "isThere", "Z", false)
  | 1 => ("FountainPark$Fountain", "flow", "I", false)
  | 2 => ("FountainPark$Fountain", "filter", "I", false)
  | 3 => ("FountainPark$Fountain", "used", "I", false)
  | 4 => ("FountainPark$Fountain", "isHeated", "Z", false)
  | 5 => ("FountainPark$Fountain", "isDrained", "Z", false)
  | 6 => ("FountainPark$Fountain", "isBroken", "Z", false)
  | 7 => ("FountainPark$Fountain", "given", "I", false)
  | 8 => ("FountainPark$Fountain", "changes", "I", false)
  | 9 => ("FountainPark$Fountain", "bursts", "I", false)
  | 10 => ("FountainPark$Fountain", "today", "I", false)
  | 11 => ("FountainPark$Fountain", "reported", "[I", true)
  | _ => ("FountainPark$Fountain", "worked", "[I", true)
def tyX3 : Nat → FieldType := fun k => match k with
  | 0 => .boolean
  | 1 => .int
  | 2 => .int
  | 3 => .int
  | 4 => .boolean
  | 5 => .boolean
  | 6 => .boolean
  | 7 => .int
  | 8 => .int
  | 9 => .int
  | 10 => .int
  | 11 => .array .int
  | _ => .array .int
abbrev wsX30 : List Cond := u_ws RX3 TX3 13
set_option maxRecDepth 100000 in
theorem nmX3 : ∀ a, a < 13 → ∀ b, b < 13 → a ≠ b → (TX3 a).2.1 ≠ (TX3 b).2.1 := by decide +kernel
set_option maxRecDepth 100000 in
theorem tyX3_ok : ∀ k, k < 13 → parseFieldDescriptor (TX3 k).2.2.1 = some (tyX3 k) := by decide +kernel
abbrev cX3_init : ByteArray := prog_2_method_1_code
def yX3_init : MethodName := ⟨RX3, "<init>", "()V"⟩
def dkwX3_init_1 : List UInt8 := [181, 0, 15, 177]
abbrev dktX3_init_1 : List UInt8 := dkwX3_init_1 ++ []
def dkwX3_init_0 : List UInt8 := [42, 183, 0, 3, 42, 5, 188, 10, 89, 3, 2, 79, 89, 4, 2, 79, 181, 0, 9, 42, 5, 188, 10]
abbrev dktX3_init_0 : List UInt8 := dkwX3_init_0 ++ dktX3_init_1
theorem dksX3_init_0 : cX3_init.data.toList.drop 0 = dktX3_init_0 := by decide +kernel
theorem dksX3_init_1 : cX3_init.data.toList.drop 23 = dktX3_init_1 := dk_seg dksX3_init_0 23 rfl rfl
theorem dX3_init_0 : decode cX3_init 0 = .ok (.aload_n 0, 1) := dk_42 (dk_at dksX3_init_0 0 rfl rfl)
theorem dX3_init_1 : decode cX3_init 1 = .ok (.invokespecial 3, 3) := dk_183 0 3 (dk_at dksX3_init_0 1 rfl rfl)
theorem dX3_init_4 : decode cX3_init 4 = .ok (.aload_n 0, 1) := dk_42 (dk_at dksX3_init_0 4 rfl rfl)
theorem dX3_init_5 : decode cX3_init 5 = .ok (.iconst 2, 1) := dk_5 (dk_at dksX3_init_0 5 rfl rfl)
theorem dX3_init_6 : decode cX3_init 6 = .ok (.newarray .int, 2) := dk_188_10 (dk_at dksX3_init_0 6 rfl rfl)
theorem dX3_init_8 : decode cX3_init 8 = .ok (.dup, 1) := dk_89 (dk_at dksX3_init_0 8 rfl rfl)
theorem dX3_init_9 : decode cX3_init 9 = .ok (.iconst 0, 1) := dk_3 (dk_at dksX3_init_0 9 rfl rfl)
theorem dX3_init_10 : decode cX3_init 10 = .ok (.iconst (-1), 1) := dk_2 (dk_at dksX3_init_0 10 rfl rfl)
theorem dX3_init_11 : decode cX3_init 11 = .ok (.iastore, 1) := dk_79 (dk_at dksX3_init_0 11 rfl rfl)
theorem dX3_init_12 : decode cX3_init 12 = .ok (.dup, 1) := dk_89 (dk_at dksX3_init_0 12 rfl rfl)
theorem dX3_init_13 : decode cX3_init 13 = .ok (.iconst 1, 1) := dk_4 (dk_at dksX3_init_0 13 rfl rfl)
theorem dX3_init_14 : decode cX3_init 14 = .ok (.iconst (-1), 1) := dk_2 (dk_at dksX3_init_0 14 rfl rfl)
theorem dX3_init_15 : decode cX3_init 15 = .ok (.iastore, 1) := dk_79 (dk_at dksX3_init_0 15 rfl rfl)
theorem dX3_init_16 : decode cX3_init 16 = .ok (.putfield 9, 3) := dk_181 0 9 (dk_at dksX3_init_0 16 rfl rfl)
theorem dX3_init_19 : decode cX3_init 19 = .ok (.aload_n 0, 1) := dk_42 (dk_at dksX3_init_0 19 rfl rfl)
theorem dX3_init_20 : decode cX3_init 20 = .ok (.iconst 2, 1) := dk_5 (dk_at dksX3_init_0 20 rfl rfl)
theorem dX3_init_21 : decode cX3_init 21 = .ok (.newarray .int, 2) := dk_188_10 (dk_at dksX3_init_0 21 rfl rfl)
theorem dX3_init_23 : decode cX3_init 23 = .ok (.putfield 15, 3) := dk_181 0 15 (dk_at dksX3_init_1 0 rfl rfl)
theorem dX3_init_26 : decode cX3_init 26 = .ok (.return_, 1) := dk_177 (dk_at dksX3_init_1 3 rfl rfl)
abbrev cX3_isUsedUp : ByteArray := prog_2_method_4_code
def yX3_isUsedUp : MethodName := ⟨RX3, "isUsedUp", "()Z"⟩
def dkwX3_isUsedUp_0 : List UInt8 := [42, 180, 0, 29, 7, 42, 180, 0, 26, 104, 161, 0, 7, 4, 167, 0, 4, 3, 172]
abbrev dktX3_isUsedUp_0 : List UInt8 := dkwX3_isUsedUp_0 ++ []
theorem dksX3_isUsedUp_0 : cX3_isUsedUp.data.toList.drop 0 = dktX3_isUsedUp_0 := by decide +kernel
theorem dX3_isUsedUp_0 : decode cX3_isUsedUp 0 = .ok (.aload_n 0, 1) := dk_42 (dk_at dksX3_isUsedUp_0 0 rfl rfl)
theorem dX3_isUsedUp_1 : decode cX3_isUsedUp 1 = .ok (.getfield 29, 3) := dk_180 0 29 (dk_at dksX3_isUsedUp_0 1 rfl rfl)
theorem dX3_isUsedUp_4 : decode cX3_isUsedUp 4 = .ok (.iconst 4, 1) := dk_7 (dk_at dksX3_isUsedUp_0 4 rfl rfl)
theorem dX3_isUsedUp_5 : decode cX3_isUsedUp 5 = .ok (.aload_n 0, 1) := dk_42 (dk_at dksX3_isUsedUp_0 5 rfl rfl)
theorem dX3_isUsedUp_6 : decode cX3_isUsedUp 6 = .ok (.getfield 26, 3) := dk_180 0 26 (dk_at dksX3_isUsedUp_0 6 rfl rfl)
theorem dX3_isUsedUp_9 : decode cX3_isUsedUp 9 = .ok (.imul, 1) := dk_104 (dk_at dksX3_isUsedUp_0 9 rfl rfl)
theorem dX3_isUsedUp_10 : decode cX3_isUsedUp 10 = .ok (.if_icmp .lt 7, 3) := dk_161 0 7 (dk_at dksX3_isUsedUp_0 10 rfl rfl)
theorem dX3_isUsedUp_13 : decode cX3_isUsedUp 13 = .ok (.iconst 1, 1) := dk_4 (dk_at dksX3_isUsedUp_0 13 rfl rfl)
theorem dX3_isUsedUp_14 : decode cX3_isUsedUp 14 = .ok (.goto 4, 3) := dk_167 0 4 (dk_at dksX3_isUsedUp_0 14 rfl rfl)
theorem dX3_isUsedUp_17 : decode cX3_isUsedUp 17 = .ok (.iconst 0, 1) := dk_3 (dk_at dksX3_isUsedUp_0 17 rfl rfl)
theorem dX3_isUsedUp_18 : decode cX3_isUsedUp 18 = .ok (.ireturn, 1) := dk_172 (dk_at dksX3_isUsedUp_0 18 rfl rfl)
abbrev cX3_jobs : ByteArray := prog_2_method_5_code
def yX3_jobs : MethodName := ⟨RX3, "jobs", "()I"⟩
def dkwX3_jobs_1 : List UInt8 := [160, 0, 7, 3, 167, 0, 4, 4, 96, 172]
abbrev dktX3_jobs_1 : List UInt8 := dkwX3_jobs_1 ++ []
def dkwX3_jobs_0 : List UInt8 := [42, 180, 0, 9, 3, 46, 2, 160, 0, 7, 3, 167, 0, 4, 4, 42, 180, 0, 9, 4, 46, 2]
abbrev dktX3_jobs_0 : List UInt8 := dkwX3_jobs_0 ++ dktX3_jobs_1
theorem dksX3_jobs_0 : cX3_jobs.data.toList.drop 0 = dktX3_jobs_0 := by decide +kernel
theorem dksX3_jobs_1 : cX3_jobs.data.toList.drop 22 = dktX3_jobs_1 := dk_seg dksX3_jobs_0 22 rfl rfl
theorem dX3_jobs_0 : decode cX3_jobs 0 = .ok (.aload_n 0, 1) := dk_42 (dk_at dksX3_jobs_0 0 rfl rfl)
theorem dX3_jobs_1 : decode cX3_jobs 1 = .ok (.getfield 9, 3) := dk_180 0 9 (dk_at dksX3_jobs_0 1 rfl rfl)
theorem dX3_jobs_4 : decode cX3_jobs 4 = .ok (.iconst 0, 1) := dk_3 (dk_at dksX3_jobs_0 4 rfl rfl)
theorem dX3_jobs_5 : decode cX3_jobs 5 = .ok (.iaload, 1) := dk_46 (dk_at dksX3_jobs_0 5 rfl rfl)
theorem dX3_jobs_6 : decode cX3_jobs 6 = .ok (.iconst (-1), 1) := dk_2 (dk_at dksX3_jobs_0 6 rfl rfl)
theorem dX3_jobs_7 : decode cX3_jobs 7 = .ok (.if_icmp .ne 7, 3) := dk_160 0 7 (dk_at dksX3_jobs_0 7 rfl rfl)
theorem dX3_jobs_10 : decode cX3_jobs 10 = .ok (.iconst 0, 1) := dk_3 (dk_at dksX3_jobs_0 10 rfl rfl)
theorem dX3_jobs_11 : decode cX3_jobs 11 = .ok (.goto 4, 3) := dk_167 0 4 (dk_at dksX3_jobs_0 11 rfl rfl)
theorem dX3_jobs_14 : decode cX3_jobs 14 = .ok (.iconst 1, 1) := dk_4 (dk_at dksX3_jobs_0 14 rfl rfl)
theorem dX3_jobs_15 : decode cX3_jobs 15 = .ok (.aload_n 0, 1) := dk_42 (dk_at dksX3_jobs_0 15 rfl rfl)
theorem dX3_jobs_16 : decode cX3_jobs 16 = .ok (.getfield 9, 3) := dk_180 0 9 (dk_at dksX3_jobs_0 16 rfl rfl)
theorem dX3_jobs_19 : decode cX3_jobs 19 = .ok (.iconst 1, 1) := dk_4 (dk_at dksX3_jobs_0 19 rfl rfl)
theorem dX3_jobs_20 : decode cX3_jobs 20 = .ok (.iaload, 1) := dk_46 (dk_at dksX3_jobs_0 20 rfl rfl)
theorem dX3_jobs_21 : decode cX3_jobs 21 = .ok (.iconst (-1), 1) := dk_2 (dk_at dksX3_jobs_0 21 rfl rfl)
theorem dX3_jobs_22 : decode cX3_jobs 22 = .ok (.if_icmp .ne 7, 3) := dk_160 0 7 (dk_at dksX3_jobs_1 0 rfl rfl)
theorem dX3_jobs_25 : decode cX3_jobs 25 = .ok (.iconst 0, 1) := dk_3 (dk_at dksX3_jobs_1 3 rfl rfl)
theorem dX3_jobs_26 : decode cX3_jobs 26 = .ok (.goto 4, 3) := dk_167 0 4 (dk_at dksX3_jobs_1 4 rfl rfl)
theorem dX3_jobs_29 : decode cX3_jobs 29 = .ok (.iconst 1, 1) := dk_4 (dk_at dksX3_jobs_1 7 rfl rfl)
theorem dX3_jobs_30 : decode cX3_jobs 30 = .ok (.iadd, 1) := dk_96 (dk_at dksX3_jobs_1 8 rfl rfl)
theorem dX3_jobs_31 : decode cX3_jobs 31 = .ok (.ireturn, 1) := dk_172 (dk_at dksX3_jobs_1 9 rfl rfl)
abbrev cX3_become : ByteArray := prog_2_method_2_code
def yX3_become : MethodName := ⟨RX3, "become", "(LFountainPark$Fountain;)V"⟩
def dkwX3_become_5 : List UInt8 := [132, 2, 1, 167, 255, 224, 177]
abbrev dktX3_become_5 : List UInt8 := dkwX3_become_5 ++ []
def dkwX3_become_4 : List UInt8 := [180, 0, 9, 28, 43, 180, 0, 9, 28, 46, 79, 42, 180, 0, 15, 28, 43, 180, 0, 15, 28, 46, 79]
abbrev dktX3_become_4 : List UInt8 := dkwX3_become_4 ++ dktX3_become_5
def dkwX3_become_3 : List UInt8 := [42, 43, 180, 0, 47, 181, 0, 47, 42, 43, 180, 0, 50, 181, 0, 50, 3, 61, 28, 5, 162, 0, 33, 42]
abbrev dktX3_become_3 : List UInt8 := dkwX3_become_3 ++ dktX3_become_4
def dkwX3_become_2 : List UInt8 := [42, 43, 180, 0, 38, 181, 0, 38, 42, 43, 180, 0, 41, 181, 0, 41, 42, 43, 180, 0, 44, 181, 0, 44]
abbrev dktX3_become_2 : List UInt8 := dkwX3_become_2 ++ dktX3_become_3
def dkwX3_become_1 : List UInt8 := [42, 43, 180, 0, 29, 181, 0, 29, 42, 43, 180, 0, 32, 181, 0, 32, 42, 43, 180, 0, 35, 181, 0, 35]
abbrev dktX3_become_1 : List UInt8 := dkwX3_become_1 ++ dktX3_become_2
def dkwX3_become_0 : List UInt8 := [42, 43, 180, 0, 18, 181, 0, 18, 42, 43, 180, 0, 22, 181, 0, 22, 42, 43, 180, 0, 26, 181, 0, 26]
abbrev dktX3_become_0 : List UInt8 := dkwX3_become_0 ++ dktX3_become_1
theorem dksX3_become_0 : cX3_become.data.toList.drop 0 = dktX3_become_0 := by decide +kernel
theorem dksX3_become_1 : cX3_become.data.toList.drop 24 = dktX3_become_1 := dk_seg dksX3_become_0 24 rfl rfl
theorem dksX3_become_2 : cX3_become.data.toList.drop 48 = dktX3_become_2 := dk_seg dksX3_become_1 24 rfl rfl
theorem dksX3_become_3 : cX3_become.data.toList.drop 72 = dktX3_become_3 := dk_seg dksX3_become_2 24 rfl rfl
theorem dksX3_become_4 : cX3_become.data.toList.drop 96 = dktX3_become_4 := dk_seg dksX3_become_3 24 rfl rfl
theorem dksX3_become_5 : cX3_become.data.toList.drop 119 = dktX3_become_5 := dk_seg dksX3_become_4 23 rfl rfl
theorem dX3_become_0 : decode cX3_become 0 = .ok (.aload_n 0, 1) := dk_42 (dk_at dksX3_become_0 0 rfl rfl)
theorem dX3_become_1 : decode cX3_become 1 = .ok (.aload_n 1, 1) := dk_43 (dk_at dksX3_become_0 1 rfl rfl)
theorem dX3_become_2 : decode cX3_become 2 = .ok (.getfield 18, 3) := dk_180 0 18 (dk_at dksX3_become_0 2 rfl rfl)
theorem dX3_become_5 : decode cX3_become 5 = .ok (.putfield 18, 3) := dk_181 0 18 (dk_at dksX3_become_0 5 rfl rfl)
theorem dX3_become_8 : decode cX3_become 8 = .ok (.aload_n 0, 1) := dk_42 (dk_at dksX3_become_0 8 rfl rfl)
theorem dX3_become_9 : decode cX3_become 9 = .ok (.aload_n 1, 1) := dk_43 (dk_at dksX3_become_0 9 rfl rfl)
theorem dX3_become_10 : decode cX3_become 10 = .ok (.getfield 22, 3) := dk_180 0 22 (dk_at dksX3_become_0 10 rfl rfl)
theorem dX3_become_13 : decode cX3_become 13 = .ok (.putfield 22, 3) := dk_181 0 22 (dk_at dksX3_become_0 13 rfl rfl)
theorem dX3_become_16 : decode cX3_become 16 = .ok (.aload_n 0, 1) := dk_42 (dk_at dksX3_become_0 16 rfl rfl)
theorem dX3_become_17 : decode cX3_become 17 = .ok (.aload_n 1, 1) := dk_43 (dk_at dksX3_become_0 17 rfl rfl)
theorem dX3_become_18 : decode cX3_become 18 = .ok (.getfield 26, 3) := dk_180 0 26 (dk_at dksX3_become_0 18 rfl rfl)
theorem dX3_become_21 : decode cX3_become 21 = .ok (.putfield 26, 3) := dk_181 0 26 (dk_at dksX3_become_0 21 rfl rfl)
theorem dX3_become_24 : decode cX3_become 24 = .ok (.aload_n 0, 1) := dk_42 (dk_at dksX3_become_1 0 rfl rfl)
theorem dX3_become_25 : decode cX3_become 25 = .ok (.aload_n 1, 1) := dk_43 (dk_at dksX3_become_1 1 rfl rfl)
theorem dX3_become_26 : decode cX3_become 26 = .ok (.getfield 29, 3) := dk_180 0 29 (dk_at dksX3_become_1 2 rfl rfl)
theorem dX3_become_29 : decode cX3_become 29 = .ok (.putfield 29, 3) := dk_181 0 29 (dk_at dksX3_become_1 5 rfl rfl)
theorem dX3_become_32 : decode cX3_become 32 = .ok (.aload_n 0, 1) := dk_42 (dk_at dksX3_become_1 8 rfl rfl)
theorem dX3_become_33 : decode cX3_become 33 = .ok (.aload_n 1, 1) := dk_43 (dk_at dksX3_become_1 9 rfl rfl)
theorem dX3_become_34 : decode cX3_become 34 = .ok (.getfield 32, 3) := dk_180 0 32 (dk_at dksX3_become_1 10 rfl rfl)
theorem dX3_become_37 : decode cX3_become 37 = .ok (.putfield 32, 3) := dk_181 0 32 (dk_at dksX3_become_1 13 rfl rfl)
theorem dX3_become_40 : decode cX3_become 40 = .ok (.aload_n 0, 1) := dk_42 (dk_at dksX3_become_1 16 rfl rfl)
theorem dX3_become_41 : decode cX3_become 41 = .ok (.aload_n 1, 1) := dk_43 (dk_at dksX3_become_1 17 rfl rfl)
theorem dX3_become_42 : decode cX3_become 42 = .ok (.getfield 35, 3) := dk_180 0 35 (dk_at dksX3_become_1 18 rfl rfl)
theorem dX3_become_45 : decode cX3_become 45 = .ok (.putfield 35, 3) := dk_181 0 35 (dk_at dksX3_become_1 21 rfl rfl)
theorem dX3_become_48 : decode cX3_become 48 = .ok (.aload_n 0, 1) := dk_42 (dk_at dksX3_become_2 0 rfl rfl)
theorem dX3_become_49 : decode cX3_become 49 = .ok (.aload_n 1, 1) := dk_43 (dk_at dksX3_become_2 1 rfl rfl)
theorem dX3_become_50 : decode cX3_become 50 = .ok (.getfield 38, 3) := dk_180 0 38 (dk_at dksX3_become_2 2 rfl rfl)
theorem dX3_become_53 : decode cX3_become 53 = .ok (.putfield 38, 3) := dk_181 0 38 (dk_at dksX3_become_2 5 rfl rfl)
theorem dX3_become_56 : decode cX3_become 56 = .ok (.aload_n 0, 1) := dk_42 (dk_at dksX3_become_2 8 rfl rfl)
theorem dX3_become_57 : decode cX3_become 57 = .ok (.aload_n 1, 1) := dk_43 (dk_at dksX3_become_2 9 rfl rfl)
theorem dX3_become_58 : decode cX3_become 58 = .ok (.getfield 41, 3) := dk_180 0 41 (dk_at dksX3_become_2 10 rfl rfl)
theorem dX3_become_61 : decode cX3_become 61 = .ok (.putfield 41, 3) := dk_181 0 41 (dk_at dksX3_become_2 13 rfl rfl)
theorem dX3_become_64 : decode cX3_become 64 = .ok (.aload_n 0, 1) := dk_42 (dk_at dksX3_become_2 16 rfl rfl)
theorem dX3_become_65 : decode cX3_become 65 = .ok (.aload_n 1, 1) := dk_43 (dk_at dksX3_become_2 17 rfl rfl)
theorem dX3_become_66 : decode cX3_become 66 = .ok (.getfield 44, 3) := dk_180 0 44 (dk_at dksX3_become_2 18 rfl rfl)
theorem dX3_become_69 : decode cX3_become 69 = .ok (.putfield 44, 3) := dk_181 0 44 (dk_at dksX3_become_2 21 rfl rfl)
theorem dX3_become_72 : decode cX3_become 72 = .ok (.aload_n 0, 1) := dk_42 (dk_at dksX3_become_3 0 rfl rfl)
theorem dX3_become_73 : decode cX3_become 73 = .ok (.aload_n 1, 1) := dk_43 (dk_at dksX3_become_3 1 rfl rfl)
theorem dX3_become_74 : decode cX3_become 74 = .ok (.getfield 47, 3) := dk_180 0 47 (dk_at dksX3_become_3 2 rfl rfl)
theorem dX3_become_77 : decode cX3_become 77 = .ok (.putfield 47, 3) := dk_181 0 47 (dk_at dksX3_become_3 5 rfl rfl)
theorem dX3_become_80 : decode cX3_become 80 = .ok (.aload_n 0, 1) := dk_42 (dk_at dksX3_become_3 8 rfl rfl)
theorem dX3_become_81 : decode cX3_become 81 = .ok (.aload_n 1, 1) := dk_43 (dk_at dksX3_become_3 9 rfl rfl)
theorem dX3_become_82 : decode cX3_become 82 = .ok (.getfield 50, 3) := dk_180 0 50 (dk_at dksX3_become_3 10 rfl rfl)
theorem dX3_become_85 : decode cX3_become 85 = .ok (.putfield 50, 3) := dk_181 0 50 (dk_at dksX3_become_3 13 rfl rfl)
theorem dX3_become_88 : decode cX3_become 88 = .ok (.iconst 0, 1) := dk_3 (dk_at dksX3_become_3 16 rfl rfl)
theorem dX3_become_89 : decode cX3_become 89 = .ok (.istore_n 2, 1) := dk_61 (dk_at dksX3_become_3 17 rfl rfl)
theorem dX3_become_90 : decode cX3_become 90 = .ok (.iload_n 2, 1) := dk_28 (dk_at dksX3_become_3 18 rfl rfl)
theorem dX3_become_91 : decode cX3_become 91 = .ok (.iconst 2, 1) := dk_5 (dk_at dksX3_become_3 19 rfl rfl)
theorem dX3_become_92 : decode cX3_become 92 = .ok (.if_icmp .ge 33, 3) := dk_162 0 33 (dk_at dksX3_become_3 20 rfl rfl)
theorem dX3_become_95 : decode cX3_become 95 = .ok (.aload_n 0, 1) := dk_42 (dk_at dksX3_become_3 23 rfl rfl)
theorem dX3_become_96 : decode cX3_become 96 = .ok (.getfield 9, 3) := dk_180 0 9 (dk_at dksX3_become_4 0 rfl rfl)
theorem dX3_become_99 : decode cX3_become 99 = .ok (.iload_n 2, 1) := dk_28 (dk_at dksX3_become_4 3 rfl rfl)
theorem dX3_become_100 : decode cX3_become 100 = .ok (.aload_n 1, 1) := dk_43 (dk_at dksX3_become_4 4 rfl rfl)
theorem dX3_become_101 : decode cX3_become 101 = .ok (.getfield 9, 3) := dk_180 0 9 (dk_at dksX3_become_4 5 rfl rfl)
theorem dX3_become_104 : decode cX3_become 104 = .ok (.iload_n 2, 1) := dk_28 (dk_at dksX3_become_4 8 rfl rfl)
theorem dX3_become_105 : decode cX3_become 105 = .ok (.iaload, 1) := dk_46 (dk_at dksX3_become_4 9 rfl rfl)
theorem dX3_become_106 : decode cX3_become 106 = .ok (.iastore, 1) := dk_79 (dk_at dksX3_become_4 10 rfl rfl)
theorem dX3_become_107 : decode cX3_become 107 = .ok (.aload_n 0, 1) := dk_42 (dk_at dksX3_become_4 11 rfl rfl)
theorem dX3_become_108 : decode cX3_become 108 = .ok (.getfield 15, 3) := dk_180 0 15 (dk_at dksX3_become_4 12 rfl rfl)
theorem dX3_become_111 : decode cX3_become 111 = .ok (.iload_n 2, 1) := dk_28 (dk_at dksX3_become_4 15 rfl rfl)
theorem dX3_become_112 : decode cX3_become 112 = .ok (.aload_n 1, 1) := dk_43 (dk_at dksX3_become_4 16 rfl rfl)
theorem dX3_become_113 : decode cX3_become 113 = .ok (.getfield 15, 3) := dk_180 0 15 (dk_at dksX3_become_4 17 rfl rfl)
theorem dX3_become_116 : decode cX3_become 116 = .ok (.iload_n 2, 1) := dk_28 (dk_at dksX3_become_4 20 rfl rfl)
theorem dX3_become_117 : decode cX3_become 117 = .ok (.iaload, 1) := dk_46 (dk_at dksX3_become_4 21 rfl rfl)
theorem dX3_become_118 : decode cX3_become 118 = .ok (.iastore, 1) := dk_79 (dk_at dksX3_become_4 22 rfl rfl)
theorem dX3_become_119 : decode cX3_become 119 = .ok (.iinc 2 1, 3) := dk_132 2 1 (dk_at dksX3_become_5 0 rfl rfl)
theorem dX3_become_122 : decode cX3_become 122 = .ok (.goto (-32), 3) := dk_167 255 224 (dk_at dksX3_become_5 3 rfl rfl)
theorem dX3_become_125 : decode cX3_become 125 = .ok (.return_, 1) := dk_177 (dk_at dksX3_become_5 6 rfl rfl)
abbrev cX3_burst : ByteArray := prog_2_method_7_code
def yX3_burst : MethodName := ⟨RX3, "burst", "(I)V"⟩
def dkwX3_burst_0 : List UInt8 := [42, 4, 181, 0, 38, 42, 89, 180, 0, 47, 4, 96, 181, 0, 47, 42, 3, 27, 182, 0, 58, 177]
abbrev dktX3_burst_0 : List UInt8 := dkwX3_burst_0 ++ []
theorem dksX3_burst_0 : cX3_burst.data.toList.drop 0 = dktX3_burst_0 := by decide +kernel
theorem dX3_burst_0 : decode cX3_burst 0 = .ok (.aload_n 0, 1) := dk_42 (dk_at dksX3_burst_0 0 rfl rfl)
theorem dX3_burst_1 : decode cX3_burst 1 = .ok (.iconst 1, 1) := dk_4 (dk_at dksX3_burst_0 1 rfl rfl)
theorem dX3_burst_2 : decode cX3_burst 2 = .ok (.putfield 38, 3) := dk_181 0 38 (dk_at dksX3_burst_0 2 rfl rfl)
theorem dX3_burst_5 : decode cX3_burst 5 = .ok (.aload_n 0, 1) := dk_42 (dk_at dksX3_burst_0 5 rfl rfl)
theorem dX3_burst_6 : decode cX3_burst 6 = .ok (.dup, 1) := dk_89 (dk_at dksX3_burst_0 6 rfl rfl)
theorem dX3_burst_7 : decode cX3_burst 7 = .ok (.getfield 47, 3) := dk_180 0 47 (dk_at dksX3_burst_0 7 rfl rfl)
theorem dX3_burst_10 : decode cX3_burst 10 = .ok (.iconst 1, 1) := dk_4 (dk_at dksX3_burst_0 10 rfl rfl)
theorem dX3_burst_11 : decode cX3_burst 11 = .ok (.iadd, 1) := dk_96 (dk_at dksX3_burst_0 11 rfl rfl)
theorem dX3_burst_12 : decode cX3_burst 12 = .ok (.putfield 47, 3) := dk_181 0 47 (dk_at dksX3_burst_0 12 rfl rfl)
theorem dX3_burst_15 : decode cX3_burst 15 = .ok (.aload_n 0, 1) := dk_42 (dk_at dksX3_burst_0 15 rfl rfl)
theorem dX3_burst_16 : decode cX3_burst 16 = .ok (.iconst 0, 1) := dk_3 (dk_at dksX3_burst_0 16 rfl rfl)
theorem dX3_burst_17 : decode cX3_burst 17 = .ok (.iload_n 1, 1) := dk_27 (dk_at dksX3_burst_0 17 rfl rfl)
theorem dX3_burst_18 : decode cX3_burst 18 = .ok (.invokevirtual 58, 3) := dk_182 0 58 (dk_at dksX3_burst_0 18 rfl rfl)
theorem dX3_burst_21 : decode cX3_burst 21 = .ok (.return_, 1) := dk_177 (dk_at dksX3_burst_0 21 rfl rfl)
abbrev cX3_report : ByteArray := prog_2_method_6_code
def yX3_report : MethodName := ⟨RX3, "report", "(II)V"⟩
def dkwX3_report_0 : List UInt8 := [42, 180, 0, 9, 27, 28, 79, 42, 180, 0, 15, 27, 3, 79, 177]
abbrev dktX3_report_0 : List UInt8 := dkwX3_report_0 ++ []
theorem dksX3_report_0 : cX3_report.data.toList.drop 0 = dktX3_report_0 := by decide +kernel
theorem dX3_report_0 : decode cX3_report 0 = .ok (.aload_n 0, 1) := dk_42 (dk_at dksX3_report_0 0 rfl rfl)
theorem dX3_report_1 : decode cX3_report 1 = .ok (.getfield 9, 3) := dk_180 0 9 (dk_at dksX3_report_0 1 rfl rfl)
theorem dX3_report_4 : decode cX3_report 4 = .ok (.iload_n 1, 1) := dk_27 (dk_at dksX3_report_0 4 rfl rfl)
theorem dX3_report_5 : decode cX3_report 5 = .ok (.iload_n 2, 1) := dk_28 (dk_at dksX3_report_0 5 rfl rfl)
theorem dX3_report_6 : decode cX3_report 6 = .ok (.iastore, 1) := dk_79 (dk_at dksX3_report_0 6 rfl rfl)
theorem dX3_report_7 : decode cX3_report 7 = .ok (.aload_n 0, 1) := dk_42 (dk_at dksX3_report_0 7 rfl rfl)
theorem dX3_report_8 : decode cX3_report 8 = .ok (.getfield 15, 3) := dk_180 0 15 (dk_at dksX3_report_0 8 rfl rfl)
theorem dX3_report_11 : decode cX3_report 11 = .ok (.iload_n 1, 1) := dk_27 (dk_at dksX3_report_0 11 rfl rfl)
theorem dX3_report_12 : decode cX3_report 12 = .ok (.iconst 0, 1) := dk_3 (dk_at dksX3_report_0 12 rfl rfl)
theorem dX3_report_13 : decode cX3_report 13 = .ok (.iastore, 1) := dk_79 (dk_at dksX3_report_0 13 rfl rfl)
theorem dX3_report_14 : decode cX3_report 14 = .ok (.return_, 1) := dk_177 (dk_at dksX3_report_0 14 rfl rfl)
abbrev cX3_done : ByteArray := prog_2_method_9_code
def yX3_done : MethodName := ⟨RX3, "done", "(I)V"⟩
def dkwX3_done_1 : List UInt8 := [42, 89, 180, 0, 44, 4, 96, 181, 0, 44, 177]
abbrev dktX3_done_1 : List UInt8 := dkwX3_done_1 ++ []
def dkwX3_done_0 : List UInt8 := [42, 180, 0, 9, 27, 2, 79, 27, 154, 0, 11, 42, 3, 181, 0, 38, 167, 0, 18, 42, 3, 181, 0, 29]
abbrev dktX3_done_0 : List UInt8 := dkwX3_done_0 ++ dktX3_done_1
theorem dksX3_done_0 : cX3_done.data.toList.drop 0 = dktX3_done_0 := by decide +kernel
theorem dksX3_done_1 : cX3_done.data.toList.drop 24 = dktX3_done_1 := dk_seg dksX3_done_0 24 rfl rfl
theorem dX3_done_0 : decode cX3_done 0 = .ok (.aload_n 0, 1) := dk_42 (dk_at dksX3_done_0 0 rfl rfl)
theorem dX3_done_1 : decode cX3_done 1 = .ok (.getfield 9, 3) := dk_180 0 9 (dk_at dksX3_done_0 1 rfl rfl)
theorem dX3_done_4 : decode cX3_done 4 = .ok (.iload_n 1, 1) := dk_27 (dk_at dksX3_done_0 4 rfl rfl)
theorem dX3_done_5 : decode cX3_done 5 = .ok (.iconst (-1), 1) := dk_2 (dk_at dksX3_done_0 5 rfl rfl)
theorem dX3_done_6 : decode cX3_done 6 = .ok (.iastore, 1) := dk_79 (dk_at dksX3_done_0 6 rfl rfl)
theorem dX3_done_7 : decode cX3_done 7 = .ok (.iload_n 1, 1) := dk_27 (dk_at dksX3_done_0 7 rfl rfl)
theorem dX3_done_8 : decode cX3_done 8 = .ok (.ifCond .ne 11, 3) := dk_154 0 11 (dk_at dksX3_done_0 8 rfl rfl)
theorem dX3_done_11 : decode cX3_done 11 = .ok (.aload_n 0, 1) := dk_42 (dk_at dksX3_done_0 11 rfl rfl)
theorem dX3_done_12 : decode cX3_done 12 = .ok (.iconst 0, 1) := dk_3 (dk_at dksX3_done_0 12 rfl rfl)
theorem dX3_done_13 : decode cX3_done 13 = .ok (.putfield 38, 3) := dk_181 0 38 (dk_at dksX3_done_0 13 rfl rfl)
theorem dX3_done_16 : decode cX3_done 16 = .ok (.goto 18, 3) := dk_167 0 18 (dk_at dksX3_done_0 16 rfl rfl)
theorem dX3_done_19 : decode cX3_done 19 = .ok (.aload_n 0, 1) := dk_42 (dk_at dksX3_done_0 19 rfl rfl)
theorem dX3_done_20 : decode cX3_done 20 = .ok (.iconst 0, 1) := dk_3 (dk_at dksX3_done_0 20 rfl rfl)
theorem dX3_done_21 : decode cX3_done 21 = .ok (.putfield 29, 3) := dk_181 0 29 (dk_at dksX3_done_0 21 rfl rfl)
theorem dX3_done_24 : decode cX3_done 24 = .ok (.aload_n 0, 1) := dk_42 (dk_at dksX3_done_1 0 rfl rfl)
theorem dX3_done_25 : decode cX3_done 25 = .ok (.dup, 1) := dk_89 (dk_at dksX3_done_1 1 rfl rfl)
theorem dX3_done_26 : decode cX3_done 26 = .ok (.getfield 44, 3) := dk_180 0 44 (dk_at dksX3_done_1 2 rfl rfl)
theorem dX3_done_29 : decode cX3_done 29 = .ok (.iconst 1, 1) := dk_4 (dk_at dksX3_done_1 5 rfl rfl)
theorem dX3_done_30 : decode cX3_done 30 = .ok (.iadd, 1) := dk_96 (dk_at dksX3_done_1 6 rfl rfl)
theorem dX3_done_31 : decode cX3_done 31 = .ok (.putfield 44, 3) := dk_181 0 44 (dk_at dksX3_done_1 7 rfl rfl)
theorem dX3_done_34 : decode cX3_done 34 = .ok (.return_, 1) := dk_177 (dk_at dksX3_done_1 10 rfl rfl)
abbrev cX3_give : ByteArray := prog_2_method_8_code
def yX3_give : MethodName := ⟨RX3, "give", "(II)I"⟩
def dkwX3_give_3 : List UInt8 := [42, 4, 28, 182, 0, 58, 29, 172]
abbrev dktX3_give_3 : List UInt8 := dkwX3_give_3 ++ []
def dkwX3_give_2 : List UInt8 := [181, 0, 29, 42, 89, 180, 0, 41, 29, 96, 181, 0, 41, 29, 158, 0, 16, 42, 182, 0, 68, 153, 0, 9]
abbrev dktX3_give_2 : List UInt8 := dkwX3_give_2 ++ dktX3_give_3
def dkwX3_give_1 : List UInt8 := [184, 0, 62, 184, 0, 62, 62, 42, 89, 180, 0, 50, 29, 96, 181, 0, 50, 42, 89, 180, 0, 29, 29, 96]
abbrev dktX3_give_1 : List UInt8 := dkwX3_give_1 ++ dktX3_give_2
def dkwX3_give_0 : List UInt8 := [27, 7, 42, 180, 0, 22, 104, 42, 180, 0, 50, 100, 7, 42, 180, 0, 26, 104, 42, 180, 0, 29, 100]
abbrev dktX3_give_0 : List UInt8 := dkwX3_give_0 ++ dktX3_give_1
theorem dksX3_give_0 : cX3_give.data.toList.drop 0 = dktX3_give_0 := by decide +kernel
theorem dksX3_give_1 : cX3_give.data.toList.drop 23 = dktX3_give_1 := dk_seg dksX3_give_0 23 rfl rfl
theorem dksX3_give_2 : cX3_give.data.toList.drop 47 = dktX3_give_2 := dk_seg dksX3_give_1 24 rfl rfl
theorem dksX3_give_3 : cX3_give.data.toList.drop 71 = dktX3_give_3 := dk_seg dksX3_give_2 24 rfl rfl
theorem dX3_give_0 : decode cX3_give 0 = .ok (.iload_n 1, 1) := dk_27 (dk_at dksX3_give_0 0 rfl rfl)
theorem dX3_give_1 : decode cX3_give 1 = .ok (.iconst 4, 1) := dk_7 (dk_at dksX3_give_0 1 rfl rfl)
theorem dX3_give_2 : decode cX3_give 2 = .ok (.aload_n 0, 1) := dk_42 (dk_at dksX3_give_0 2 rfl rfl)
theorem dX3_give_3 : decode cX3_give 3 = .ok (.getfield 22, 3) := dk_180 0 22 (dk_at dksX3_give_0 3 rfl rfl)
theorem dX3_give_6 : decode cX3_give 6 = .ok (.imul, 1) := dk_104 (dk_at dksX3_give_0 6 rfl rfl)
theorem dX3_give_7 : decode cX3_give 7 = .ok (.aload_n 0, 1) := dk_42 (dk_at dksX3_give_0 7 rfl rfl)
theorem dX3_give_8 : decode cX3_give 8 = .ok (.getfield 50, 3) := dk_180 0 50 (dk_at dksX3_give_0 8 rfl rfl)
theorem dX3_give_11 : decode cX3_give 11 = .ok (.isub, 1) := dk_100 (dk_at dksX3_give_0 11 rfl rfl)
theorem dX3_give_12 : decode cX3_give 12 = .ok (.iconst 4, 1) := dk_7 (dk_at dksX3_give_0 12 rfl rfl)
theorem dX3_give_13 : decode cX3_give 13 = .ok (.aload_n 0, 1) := dk_42 (dk_at dksX3_give_0 13 rfl rfl)
theorem dX3_give_14 : decode cX3_give 14 = .ok (.getfield 26, 3) := dk_180 0 26 (dk_at dksX3_give_0 14 rfl rfl)
theorem dX3_give_17 : decode cX3_give 17 = .ok (.imul, 1) := dk_104 (dk_at dksX3_give_0 17 rfl rfl)
theorem dX3_give_18 : decode cX3_give 18 = .ok (.aload_n 0, 1) := dk_42 (dk_at dksX3_give_0 18 rfl rfl)
theorem dX3_give_19 : decode cX3_give 19 = .ok (.getfield 29, 3) := dk_180 0 29 (dk_at dksX3_give_0 19 rfl rfl)
theorem dX3_give_22 : decode cX3_give 22 = .ok (.isub, 1) := dk_100 (dk_at dksX3_give_0 22 rfl rfl)
theorem dX3_give_23 : decode cX3_give 23 = .ok (.invokestatic 62, 3) := dk_184 0 62 (dk_at dksX3_give_1 0 rfl rfl)
theorem dX3_give_26 : decode cX3_give 26 = .ok (.invokestatic 62, 3) := dk_184 0 62 (dk_at dksX3_give_1 3 rfl rfl)
theorem dX3_give_29 : decode cX3_give 29 = .ok (.istore_n 3, 1) := dk_62 (dk_at dksX3_give_1 6 rfl rfl)
theorem dX3_give_30 : decode cX3_give 30 = .ok (.aload_n 0, 1) := dk_42 (dk_at dksX3_give_1 7 rfl rfl)
theorem dX3_give_31 : decode cX3_give 31 = .ok (.dup, 1) := dk_89 (dk_at dksX3_give_1 8 rfl rfl)
theorem dX3_give_32 : decode cX3_give 32 = .ok (.getfield 50, 3) := dk_180 0 50 (dk_at dksX3_give_1 9 rfl rfl)
theorem dX3_give_35 : decode cX3_give 35 = .ok (.iload_n 3, 1) := dk_29 (dk_at dksX3_give_1 12 rfl rfl)
theorem dX3_give_36 : decode cX3_give 36 = .ok (.iadd, 1) := dk_96 (dk_at dksX3_give_1 13 rfl rfl)
theorem dX3_give_37 : decode cX3_give 37 = .ok (.putfield 50, 3) := dk_181 0 50 (dk_at dksX3_give_1 14 rfl rfl)
theorem dX3_give_40 : decode cX3_give 40 = .ok (.aload_n 0, 1) := dk_42 (dk_at dksX3_give_1 17 rfl rfl)
theorem dX3_give_41 : decode cX3_give 41 = .ok (.dup, 1) := dk_89 (dk_at dksX3_give_1 18 rfl rfl)
theorem dX3_give_42 : decode cX3_give 42 = .ok (.getfield 29, 3) := dk_180 0 29 (dk_at dksX3_give_1 19 rfl rfl)
theorem dX3_give_45 : decode cX3_give 45 = .ok (.iload_n 3, 1) := dk_29 (dk_at dksX3_give_1 22 rfl rfl)
theorem dX3_give_46 : decode cX3_give 46 = .ok (.iadd, 1) := dk_96 (dk_at dksX3_give_1 23 rfl rfl)
theorem dX3_give_47 : decode cX3_give 47 = .ok (.putfield 29, 3) := dk_181 0 29 (dk_at dksX3_give_2 0 rfl rfl)
theorem dX3_give_50 : decode cX3_give 50 = .ok (.aload_n 0, 1) := dk_42 (dk_at dksX3_give_2 3 rfl rfl)
theorem dX3_give_51 : decode cX3_give 51 = .ok (.dup, 1) := dk_89 (dk_at dksX3_give_2 4 rfl rfl)
theorem dX3_give_52 : decode cX3_give 52 = .ok (.getfield 41, 3) := dk_180 0 41 (dk_at dksX3_give_2 5 rfl rfl)
theorem dX3_give_55 : decode cX3_give 55 = .ok (.iload_n 3, 1) := dk_29 (dk_at dksX3_give_2 8 rfl rfl)
theorem dX3_give_56 : decode cX3_give 56 = .ok (.iadd, 1) := dk_96 (dk_at dksX3_give_2 9 rfl rfl)
theorem dX3_give_57 : decode cX3_give 57 = .ok (.putfield 41, 3) := dk_181 0 41 (dk_at dksX3_give_2 10 rfl rfl)
theorem dX3_give_60 : decode cX3_give 60 = .ok (.iload_n 3, 1) := dk_29 (dk_at dksX3_give_2 13 rfl rfl)
theorem dX3_give_61 : decode cX3_give 61 = .ok (.ifCond .le 16, 3) := dk_158 0 16 (dk_at dksX3_give_2 14 rfl rfl)
theorem dX3_give_64 : decode cX3_give 64 = .ok (.aload_n 0, 1) := dk_42 (dk_at dksX3_give_2 17 rfl rfl)
theorem dX3_give_65 : decode cX3_give 65 = .ok (.invokevirtual 68, 3) := dk_182 0 68 (dk_at dksX3_give_2 18 rfl rfl)
theorem dX3_give_68 : decode cX3_give 68 = .ok (.ifCond .eq 9, 3) := dk_153 0 9 (dk_at dksX3_give_2 21 rfl rfl)
theorem dX3_give_71 : decode cX3_give 71 = .ok (.aload_n 0, 1) := dk_42 (dk_at dksX3_give_3 0 rfl rfl)
theorem dX3_give_72 : decode cX3_give 72 = .ok (.iconst 1, 1) := dk_4 (dk_at dksX3_give_3 1 rfl rfl)
theorem dX3_give_73 : decode cX3_give 73 = .ok (.iload_n 2, 1) := dk_28 (dk_at dksX3_give_3 2 rfl rfl)
theorem dX3_give_74 : decode cX3_give 74 = .ok (.invokevirtual 58, 3) := dk_182 0 58 (dk_at dksX3_give_3 3 rfl rfl)
theorem dX3_give_77 : decode cX3_give 77 = .ok (.iload_n 3, 1) := dk_29 (dk_at dksX3_give_3 6 rfl rfl)
theorem dX3_give_78 : decode cX3_give 78 = .ok (.ireturn, 1) := dk_172 (dk_at dksX3_give_3 7 rfl rfl)
abbrev cX3_build : ByteArray := prog_2_method_3_code
def yX3_build : MethodName := ⟨RX3, "build", "(IIZ)V"⟩
def dkwX3_build_1 : List UInt8 := [181, 0, 26, 42, 29, 181, 0, 32, 177]
abbrev dktX3_build_1 : List UInt8 := dkwX3_build_1 ++ []
def dkwX3_build_0 : List UInt8 := [42, 187, 0, 10, 89, 183, 0, 53, 182, 0, 54, 42, 4, 181, 0, 18, 42, 27, 181, 0, 22, 42, 28]
abbrev dktX3_build_0 : List UInt8 := dkwX3_build_0 ++ dktX3_build_1
theorem dksX3_build_0 : cX3_build.data.toList.drop 0 = dktX3_build_0 := by decide +kernel
theorem dksX3_build_1 : cX3_build.data.toList.drop 23 = dktX3_build_1 := dk_seg dksX3_build_0 23 rfl rfl
theorem dX3_build_0 : decode cX3_build 0 = .ok (.aload_n 0, 1) := dk_42 (dk_at dksX3_build_0 0 rfl rfl)
theorem dX3_build_1 : decode cX3_build 1 = .ok (.new 10, 3) := dk_187 0 10 (dk_at dksX3_build_0 1 rfl rfl)
theorem dX3_build_4 : decode cX3_build 4 = .ok (.dup, 1) := dk_89 (dk_at dksX3_build_0 4 rfl rfl)
theorem dX3_build_5 : decode cX3_build 5 = .ok (.invokespecial 53, 3) := dk_183 0 53 (dk_at dksX3_build_0 5 rfl rfl)
theorem dX3_build_8 : decode cX3_build 8 = .ok (.invokevirtual 54, 3) := dk_182 0 54 (dk_at dksX3_build_0 8 rfl rfl)
theorem dX3_build_11 : decode cX3_build 11 = .ok (.aload_n 0, 1) := dk_42 (dk_at dksX3_build_0 11 rfl rfl)
theorem dX3_build_12 : decode cX3_build 12 = .ok (.iconst 1, 1) := dk_4 (dk_at dksX3_build_0 12 rfl rfl)
theorem dX3_build_13 : decode cX3_build 13 = .ok (.putfield 18, 3) := dk_181 0 18 (dk_at dksX3_build_0 13 rfl rfl)
theorem dX3_build_16 : decode cX3_build 16 = .ok (.aload_n 0, 1) := dk_42 (dk_at dksX3_build_0 16 rfl rfl)
theorem dX3_build_17 : decode cX3_build 17 = .ok (.iload_n 1, 1) := dk_27 (dk_at dksX3_build_0 17 rfl rfl)
theorem dX3_build_18 : decode cX3_build 18 = .ok (.putfield 22, 3) := dk_181 0 22 (dk_at dksX3_build_0 18 rfl rfl)
theorem dX3_build_21 : decode cX3_build 21 = .ok (.aload_n 0, 1) := dk_42 (dk_at dksX3_build_0 21 rfl rfl)
theorem dX3_build_22 : decode cX3_build 22 = .ok (.iload_n 2, 1) := dk_28 (dk_at dksX3_build_0 22 rfl rfl)
theorem dX3_build_23 : decode cX3_build 23 = .ok (.putfield 26, 3) := dk_181 0 26 (dk_at dksX3_build_1 0 rfl rfl)
theorem dX3_build_26 : decode cX3_build 26 = .ok (.aload_n 0, 1) := dk_42 (dk_at dksX3_build_1 3 rfl rfl)
theorem dX3_build_27 : decode cX3_build 27 = .ok (.iload_n 3, 1) := dk_29 (dk_at dksX3_build_1 4 rfl rfl)
theorem dX3_build_28 : decode cX3_build 28 = .ok (.putfield 32, 3) := dk_181 0 32 (dk_at dksX3_build_1 5 rfl rfl)
theorem dX3_build_31 : decode cX3_build 31 = .ok (.return_, 1) := dk_177 (dk_at dksX3_build_1 8 rfl rfl)
theorem q106 : (Jvm.Cond.initialized "FountainPark$Fountain") ∈ lw_all := lw_g (lw_at lw_m1 14 rfl) rfl
theorem q308 : (Jvm.Cond.instantiable "FountainPark$Fountain" (13 : Nat)) ∈ lw_all := lw_g (lw_at lw_m1 216 rfl) rfl
theorem q310 : (Jvm.Cond.instanceMethod ({ cls := "FountainPark$Fountain", name := "<init>", desc := "()V" } : Jvm.MethodName)) ∈ lw_all := lw_g (lw_at lw_m1 218 rfl) rfl
theorem q311 : (Jvm.Cond.code ({ cls := "FountainPark$Fountain", name := "<init>", desc := "()V" } : Jvm.MethodName) prog_2_method_1_code (1 : Nat) (Option.none : Option Jvm.ClassFile.FieldType)) ∈ lw_all := lw_g (lw_at lw_m1 219 rfl) rfl
theorem q312 : (Jvm.Cond.methodLink "FountainPark$Fountain" (3 : Nat) ({ cls := "java/lang/Object", name := "<init>", desc := "()V" } : Jvm.MethodName)) ∈ lw_all := lw_g (lw_at lw_m1 220 rfl) rfl
theorem q313 : (Jvm.Cond.fieldLink "FountainPark$Fountain" (18 : Nat) "FountainPark$Fountain" "isThere" "Z") ∈ lw_all := lw_g (lw_at lw_m1 221 rfl) rfl
theorem q316 : (Jvm.Cond.fieldLink "FountainPark$Fountain" (22 : Nat) "FountainPark$Fountain" "flow" "I") ∈ lw_all := lw_g (lw_at lw_m1 224 rfl) rfl
theorem q318 : (Jvm.Cond.fieldLink "FountainPark$Fountain" (26 : Nat) "FountainPark$Fountain" "filter" "I") ∈ lw_all := lw_g (lw_at lw_m1 226 rfl) rfl
theorem q320 : (Jvm.Cond.fieldLink "FountainPark$Fountain" (29 : Nat) "FountainPark$Fountain" "used" "I") ∈ lw_all := lw_g (lw_at lw_m1 228 rfl) rfl
theorem q322 : (Jvm.Cond.fieldLink "FountainPark$Fountain" (32 : Nat) "FountainPark$Fountain" "isHeated" "Z") ∈ lw_all := lw_g (lw_at lw_m1 230 rfl) rfl
theorem q325 : (Jvm.Cond.fieldLink "FountainPark$Fountain" (35 : Nat) "FountainPark$Fountain" "isDrained" "Z") ∈ lw_all := lw_g (lw_at lw_m1 233 rfl) rfl
theorem q328 : (Jvm.Cond.fieldLink "FountainPark$Fountain" (38 : Nat) "FountainPark$Fountain" "isBroken" "Z") ∈ lw_all := lw_g (lw_at lw_m1 236 rfl) rfl
theorem q331 : (Jvm.Cond.fieldLink "FountainPark$Fountain" (41 : Nat) "FountainPark$Fountain" "given" "I") ∈ lw_all := lw_g (lw_at lw_m1 239 rfl) rfl
theorem q333 : (Jvm.Cond.fieldLink "FountainPark$Fountain" (44 : Nat) "FountainPark$Fountain" "changes" "I") ∈ lw_all := lw_g (lw_at lw_m2 1 rfl) rfl
theorem q335 : (Jvm.Cond.fieldLink "FountainPark$Fountain" (47 : Nat) "FountainPark$Fountain" "bursts" "I") ∈ lw_all := lw_g (lw_at lw_m2 3 rfl) rfl
theorem q337 : (Jvm.Cond.fieldLink "FountainPark$Fountain" (50 : Nat) "FountainPark$Fountain" "today" "I") ∈ lw_all := lw_g (lw_at lw_m2 5 rfl) rfl
theorem q339 : (Jvm.Cond.fieldLink "FountainPark$Fountain" (9 : Nat) "FountainPark$Fountain" "reported" "[I") ∈ lw_all := lw_g (lw_at lw_m2 7 rfl) rfl
theorem q341 : (Jvm.Cond.fieldLink "FountainPark$Fountain" (15 : Nat) "FountainPark$Fountain" "worked" "[I") ∈ lw_all := lw_g (lw_at lw_m2 9 rfl) rfl
theorem q344 : (Jvm.Cond.lays "FountainPark$Fountain" "FountainPark$Fountain" "isThere" "Z") ∈ lw_all := lw_g (lw_at lw_m2 12 rfl) rfl
theorem q345 : (Jvm.Cond.soleField "FountainPark$Fountain" "isThere") ∈ lw_all := lw_g (lw_at lw_m2 13 rfl) rfl
theorem q346 : (Jvm.Cond.lays "FountainPark$Fountain" "FountainPark$Fountain" "flow" "I") ∈ lw_all := lw_g (lw_at lw_m2 14 rfl) rfl
theorem q347 : (Jvm.Cond.soleField "FountainPark$Fountain" "flow") ∈ lw_all := lw_g (lw_at lw_m2 15 rfl) rfl
theorem q348 : (Jvm.Cond.lays "FountainPark$Fountain" "FountainPark$Fountain" "filter" "I") ∈ lw_all := lw_g (lw_at lw_m2 16 rfl) rfl
theorem q349 : (Jvm.Cond.soleField "FountainPark$Fountain" "filter") ∈ lw_all := lw_g (lw_at lw_m2 17 rfl) rfl
theorem q350 : (Jvm.Cond.lays "FountainPark$Fountain" "FountainPark$Fountain" "used" "I") ∈ lw_all := lw_g (lw_at lw_m2 18 rfl) rfl
theorem q351 : (Jvm.Cond.soleField "FountainPark$Fountain" "used") ∈ lw_all := lw_g (lw_at lw_m2 19 rfl) rfl
theorem q352 : (Jvm.Cond.lays "FountainPark$Fountain" "FountainPark$Fountain" "isHeated" "Z") ∈ lw_all := lw_g (lw_at lw_m2 20 rfl) rfl
theorem q353 : (Jvm.Cond.soleField "FountainPark$Fountain" "isHeated") ∈ lw_all := lw_g (lw_at lw_m2 21 rfl) rfl
theorem q354 : (Jvm.Cond.lays "FountainPark$Fountain" "FountainPark$Fountain" "isDrained" "Z") ∈ lw_all := lw_g (lw_at lw_m2 22 rfl) rfl
theorem q355 : (Jvm.Cond.soleField "FountainPark$Fountain" "isDrained") ∈ lw_all := lw_g (lw_at lw_m2 23 rfl) rfl
theorem q356 : (Jvm.Cond.lays "FountainPark$Fountain" "FountainPark$Fountain" "isBroken" "Z") ∈ lw_all := lw_g (lw_at lw_m2 24 rfl) rfl
theorem q357 : (Jvm.Cond.soleField "FountainPark$Fountain" "isBroken") ∈ lw_all := lw_g (lw_at lw_m2 25 rfl) rfl
theorem q358 : (Jvm.Cond.lays "FountainPark$Fountain" "FountainPark$Fountain" "given" "I") ∈ lw_all := lw_g (lw_at lw_m2 26 rfl) rfl
theorem q359 : (Jvm.Cond.soleField "FountainPark$Fountain" "given") ∈ lw_all := lw_g (lw_at lw_m2 27 rfl) rfl
theorem q360 : (Jvm.Cond.lays "FountainPark$Fountain" "FountainPark$Fountain" "changes" "I") ∈ lw_all := lw_g (lw_at lw_m2 28 rfl) rfl
theorem q361 : (Jvm.Cond.soleField "FountainPark$Fountain" "changes") ∈ lw_all := lw_g (lw_at lw_m2 29 rfl) rfl
theorem q362 : (Jvm.Cond.lays "FountainPark$Fountain" "FountainPark$Fountain" "bursts" "I") ∈ lw_all := lw_g (lw_at lw_m2 30 rfl) rfl
theorem q363 : (Jvm.Cond.soleField "FountainPark$Fountain" "bursts") ∈ lw_all := lw_g (lw_at lw_m2 31 rfl) rfl
theorem q364 : (Jvm.Cond.lays "FountainPark$Fountain" "FountainPark$Fountain" "today" "I") ∈ lw_all := lw_g (lw_at lw_m2 32 rfl) rfl
theorem q365 : (Jvm.Cond.soleField "FountainPark$Fountain" "today") ∈ lw_all := lw_g (lw_at lw_m2 33 rfl) rfl
theorem q366 : (Jvm.Cond.laysFinal "FountainPark$Fountain" "FountainPark$Fountain" "reported" "[I") ∈ lw_all := lw_g (lw_at lw_m2 34 rfl) rfl
theorem q367 : (Jvm.Cond.soleField "FountainPark$Fountain" "reported") ∈ lw_all := lw_g (lw_at lw_m2 35 rfl) rfl
theorem q368 : (Jvm.Cond.laysFinal "FountainPark$Fountain" "FountainPark$Fountain" "worked" "[I") ∈ lw_all := lw_g (lw_at lw_m2 36 rfl) rfl
theorem q369 : (Jvm.Cond.soleField "FountainPark$Fountain" "worked") ∈ lw_all := lw_g (lw_at lw_m2 37 rfl) rfl
theorem q370 : (Jvm.Cond.superclass "FountainPark$Fountain" "java/lang/Object") ∈ lw_all := lw_g (lw_at lw_m2 38 rfl) rfl
theorem q918 : (Jvm.Cond.instanceMethod ({ cls := "FountainPark$Fountain", name := "isUsedUp", desc := "()Z" } : Jvm.MethodName)) ∈ lw_all := lw_g (lw_at lw_m4 106 rfl) rfl
theorem q919 : (Jvm.Cond.selects "FountainPark$Fountain" ({ cls := "FountainPark$Fountain", name := "isUsedUp", desc := "()Z" } : Jvm.MethodName) ({ cls := "FountainPark$Fountain", name := "isUsedUp", desc := "()Z" } : Jvm.MethodName)) ∈ lw_all := lw_g (lw_at lw_m4 107 rfl) rfl
theorem q920 : (Jvm.Cond.code ({ cls := "FountainPark$Fountain", name := "isUsedUp", desc := "()Z" } : Jvm.MethodName) prog_2_method_4_code (1 : Nat) (Option.some Jvm.ClassFile.FieldType.boolean)) ∈ lw_all := lw_g (lw_at lw_m4 108 rfl) rfl
theorem q926 : (Jvm.Cond.instanceMethod ({ cls := "FountainPark$Fountain", name := "jobs", desc := "()I" } : Jvm.MethodName)) ∈ lw_all := lw_g (lw_at lw_m4 114 rfl) rfl
theorem q927 : (Jvm.Cond.selects "FountainPark$Fountain" ({ cls := "FountainPark$Fountain", name := "jobs", desc := "()I" } : Jvm.MethodName) ({ cls := "FountainPark$Fountain", name := "jobs", desc := "()I" } : Jvm.MethodName)) ∈ lw_all := lw_g (lw_at lw_m4 115 rfl) rfl
theorem q928 : (Jvm.Cond.code ({ cls := "FountainPark$Fountain", name := "jobs", desc := "()I" } : Jvm.MethodName) prog_2_method_5_code (1 : Nat) (Option.some Jvm.ClassFile.FieldType.int)) ∈ lw_all := lw_g (lw_at lw_m4 116 rfl) rfl
theorem q965 : (Jvm.Cond.instanceMethod ({ cls := "FountainPark$Fountain", name := "become", desc := "(LFountainPark$Fountain;)V" } : Jvm.MethodName)) ∈ lw_all := lw_g (lw_at lw_m4 153 rfl) rfl
theorem q966 : (Jvm.Cond.selects "FountainPark$Fountain" ({ cls := "FountainPark$Fountain", name := "become", desc := "(LFountainPark$Fountain;)V" } : Jvm.MethodName) ({ cls := "FountainPark$Fountain", name := "become", desc := "(LFountainPark$Fountain;)V" } : Jvm.MethodName)) ∈ lw_all := lw_g (lw_at lw_m4 154 rfl) rfl
theorem q967 : (Jvm.Cond.code ({ cls := "FountainPark$Fountain", name := "become", desc := "(LFountainPark$Fountain;)V" } : Jvm.MethodName) prog_2_method_2_code (3 : Nat) (Option.none : Option Jvm.ClassFile.FieldType)) ∈ lw_all := lw_g (lw_at lw_m4 155 rfl) rfl
theorem q1507 : (Jvm.Cond.instanceMethod ({ cls := "FountainPark$Fountain", name := "burst", desc := "(I)V" } : Jvm.MethodName)) ∈ lw_all := lw_g (lw_at lw_m6 215 rfl) rfl
theorem q1508 : (Jvm.Cond.selects "FountainPark$Fountain" ({ cls := "FountainPark$Fountain", name := "burst", desc := "(I)V" } : Jvm.MethodName) ({ cls := "FountainPark$Fountain", name := "burst", desc := "(I)V" } : Jvm.MethodName)) ∈ lw_all := lw_g (lw_at lw_m6 216 rfl) rfl
theorem q1509 : (Jvm.Cond.code ({ cls := "FountainPark$Fountain", name := "burst", desc := "(I)V" } : Jvm.MethodName) prog_2_method_7_code (2 : Nat) (Option.none : Option Jvm.ClassFile.FieldType)) ∈ lw_all := lw_g (lw_at lw_m6 217 rfl) rfl
theorem q1510 : (Jvm.Cond.methodLink "FountainPark$Fountain" (58 : Nat) ({ cls := "FountainPark$Fountain", name := "report", desc := "(II)V" } : Jvm.MethodName)) ∈ lw_all := lw_g (lw_at lw_m6 218 rfl) rfl
theorem q1511 : (Jvm.Cond.instanceMethod ({ cls := "FountainPark$Fountain", name := "report", desc := "(II)V" } : Jvm.MethodName)) ∈ lw_all := lw_g (lw_at lw_m6 219 rfl) rfl
theorem q1512 : (Jvm.Cond.selects "FountainPark$Fountain" ({ cls := "FountainPark$Fountain", name := "report", desc := "(II)V" } : Jvm.MethodName) ({ cls := "FountainPark$Fountain", name := "report", desc := "(II)V" } : Jvm.MethodName)) ∈ lw_all := lw_g (lw_at lw_m6 220 rfl) rfl
theorem q1513 : (Jvm.Cond.code ({ cls := "FountainPark$Fountain", name := "report", desc := "(II)V" } : Jvm.MethodName) prog_2_method_6_code (3 : Nat) (Option.none : Option Jvm.ClassFile.FieldType)) ∈ lw_all := lw_g (lw_at lw_m6 221 rfl) rfl
theorem q1550 : (Jvm.Cond.selects "FountainPark$Fountain" ({ cls := "java/lang/Object", name := "getClass", desc := "()Ljava/lang/Class;" } : Jvm.MethodName) ({ cls := "java/lang/Object", name := "getClass", desc := "()Ljava/lang/Class;" } : Jvm.MethodName)) ∈ lw_all := lw_g (lw_at lw_m7 18 rfl) rfl
theorem q1631 : (Jvm.Cond.instanceMethod ({ cls := "FountainPark$Fountain", name := "done", desc := "(I)V" } : Jvm.MethodName)) ∈ lw_all := lw_g (lw_at lw_m7 99 rfl) rfl
theorem q1632 : (Jvm.Cond.selects "FountainPark$Fountain" ({ cls := "FountainPark$Fountain", name := "done", desc := "(I)V" } : Jvm.MethodName) ({ cls := "FountainPark$Fountain", name := "done", desc := "(I)V" } : Jvm.MethodName)) ∈ lw_all := lw_g (lw_at lw_m7 100 rfl) rfl
theorem q1633 : (Jvm.Cond.code ({ cls := "FountainPark$Fountain", name := "done", desc := "(I)V" } : Jvm.MethodName) prog_2_method_9_code (2 : Nat) (Option.none : Option Jvm.ClassFile.FieldType)) ∈ lw_all := lw_g (lw_at lw_m7 101 rfl) rfl
theorem q1700 : (Jvm.Cond.instanceMethod ({ cls := "FountainPark$Fountain", name := "give", desc := "(II)I" } : Jvm.MethodName)) ∈ lw_all := lw_g (lw_at lw_m7 168 rfl) rfl
theorem q1701 : (Jvm.Cond.selects "FountainPark$Fountain" ({ cls := "FountainPark$Fountain", name := "give", desc := "(II)I" } : Jvm.MethodName) ({ cls := "FountainPark$Fountain", name := "give", desc := "(II)I" } : Jvm.MethodName)) ∈ lw_all := lw_g (lw_at lw_m7 169 rfl) rfl
theorem q1702 : (Jvm.Cond.code ({ cls := "FountainPark$Fountain", name := "give", desc := "(II)I" } : Jvm.MethodName) prog_2_method_8_code (4 : Nat) (Option.some Jvm.ClassFile.FieldType.int)) ∈ lw_all := lw_g (lw_at lw_m7 170 rfl) rfl
theorem q1703 : (Jvm.Cond.methodLink "FountainPark$Fountain" (62 : Nat) ({ cls := "java/lang/Math", name := "min", desc := "(II)I" } : Jvm.MethodName)) ∈ lw_all := lw_g (lw_at lw_m7 171 rfl) rfl
theorem q1704 : (Jvm.Cond.methodLink "FountainPark$Fountain" (68 : Nat) ({ cls := "FountainPark$Fountain", name := "isUsedUp", desc := "()Z" } : Jvm.MethodName)) ∈ lw_all := lw_g (lw_at lw_m7 172 rfl) rfl
theorem q1894 : (Jvm.Cond.instanceMethod ({ cls := "FountainPark$Fountain", name := "build", desc := "(IIZ)V" } : Jvm.MethodName)) ∈ lw_all := lw_g (lw_at lw_m8 122 rfl) rfl
theorem q1895 : (Jvm.Cond.selects "FountainPark$Fountain" ({ cls := "FountainPark$Fountain", name := "build", desc := "(IIZ)V" } : Jvm.MethodName) ({ cls := "FountainPark$Fountain", name := "build", desc := "(IIZ)V" } : Jvm.MethodName)) ∈ lw_all := lw_g (lw_at lw_m8 123 rfl) rfl
theorem q1896 : (Jvm.Cond.code ({ cls := "FountainPark$Fountain", name := "build", desc := "(IIZ)V" } : Jvm.MethodName) prog_2_method_3_code (4 : Nat) (Option.none : Option Jvm.ClassFile.FieldType)) ∈ lw_all := lw_g (lw_at lw_m8 124 rfl) rfl
theorem q1897 : (Jvm.Cond.classLink "FountainPark$Fountain" (10 : Nat) "FountainPark$Fountain") ∈ lw_all := lw_g (lw_at lw_m8 125 rfl) rfl
theorem q1898 : (Jvm.Cond.methodLink "FountainPark$Fountain" (53 : Nat) ({ cls := "FountainPark$Fountain", name := "<init>", desc := "()V" } : Jvm.MethodName)) ∈ lw_all := lw_g (lw_at lw_m8 126 rfl) rfl
theorem q1899 : (Jvm.Cond.methodLink "FountainPark$Fountain" (54 : Nat) ({ cls := "FountainPark$Fountain", name := "become", desc := "(LFountainPark$Fountain;)V" } : Jvm.MethodName)) ∈ lw_all := lw_g (lw_at lw_m8 127 rfl) rfl
theorem q2532 : (Jvm.Cond.castable "FountainPark$Fountain" "java/lang/Object") ∈ lw_tbl := lw_at lw_m11 40 rfl
theorem in_X3 : ∀ w ∈ wsX30, w ∈ lw_all := lw_in wsX30 [344, 346, 348, 350, 352, 354, 356, 358, 360, 362, 364, 366, 368] (by decide +kernel) (by decide +kernel)
/-! FountainPark$Job -/
set_option maxRecDepth 100000
def RX4 : String := "FountainPark$Job"
def TX4 : u_T := fun k => match k with
  | 0 => ("FountainPark$Job", "place", "I", true)
  | 1 => ("FountainPark$Job", "kind", "I", true)
  | 2 => ("FountainPark$Job", "rank", "I", false)
  | _ => ("FountainPark$Job", "day", "I", false)
def tyX4 : Nat → FieldType := fun k => match k with
  | 0 => .int
  | 1 => .int
  | 2 => .int
  | _ => .int
abbrev wsX40 : List Cond := u_ws RX4 TX4 4
theorem nmX4 : ∀ a, a < 4 → ∀ b, b < 4 → a ≠ b → (TX4 a).2.1 ≠ (TX4 b).2.1 := by decide +kernel
theorem tyX4_ok : ∀ k, k < 4 → parseFieldDescriptor (TX4 k).2.2.1 = some (tyX4 k) := by decide +kernel
abbrev cX4_init : ByteArray := prog_3_method_1_code
def yX4_init : MethodName := ⟨RX4, "<init>", "(II)V"⟩
def dkwX4_init_0 : List UInt8 := [42, 183, 0, 1, 42, 27, 181, 0, 7, 42, 28, 181, 0, 13, 177]
abbrev dktX4_init_0 : List UInt8 := dkwX4_init_0 ++ []
theorem dksX4_init_0 : cX4_init.data.toList.drop 0 = dktX4_init_0 := by decide +kernel
theorem dX4_init_0 : decode cX4_init 0 = .ok (.aload_n 0, 1) := dk_42 (dk_at dksX4_init_0 0 rfl rfl)
theorem dX4_init_1 : decode cX4_init 1 = .ok (.invokespecial 1, 3) := dk_183 0 1 (dk_at dksX4_init_0 1 rfl rfl)
theorem dX4_init_4 : decode cX4_init 4 = .ok (.aload_n 0, 1) := dk_42 (dk_at dksX4_init_0 4 rfl rfl)
theorem dX4_init_5 : decode cX4_init 5 = .ok (.iload_n 1, 1) := dk_27 (dk_at dksX4_init_0 5 rfl rfl)
theorem dX4_init_6 : decode cX4_init 6 = .ok (.putfield 7, 3) := dk_181 0 7 (dk_at dksX4_init_0 6 rfl rfl)
theorem dX4_init_9 : decode cX4_init 9 = .ok (.aload_n 0, 1) := dk_42 (dk_at dksX4_init_0 9 rfl rfl)
theorem dX4_init_10 : decode cX4_init 10 = .ok (.iload_n 2, 1) := dk_28 (dk_at dksX4_init_0 10 rfl rfl)
theorem dX4_init_11 : decode cX4_init 11 = .ok (.putfield 13, 3) := dk_181 0 13 (dk_at dksX4_init_0 11 rfl rfl)
theorem dX4_init_14 : decode cX4_init 14 = .ok (.return_, 1) := dk_177 (dk_at dksX4_init_0 14 rfl rfl)
abbrev cX4_compareTo : ByteArray := prog_3_method_6_code
def yX4_compareTo : MethodName := ⟨RX4, "compareTo", "(Ljava/lang/Object;)I"⟩
def dkwX4_compareTo_0 : List UInt8 := [42, 43, 192, 0, 8, 182, 0, 22, 172]
abbrev dktX4_compareTo_0 : List UInt8 := dkwX4_compareTo_0 ++ []
theorem dksX4_compareTo_0 : cX4_compareTo.data.toList.drop 0 = dktX4_compareTo_0 := by decide +kernel
theorem dX4_compareTo_0 : decode cX4_compareTo 0 = .ok (.aload_n 0, 1) := dk_42 (dk_at dksX4_compareTo_0 0 rfl rfl)
theorem dX4_compareTo_1 : decode cX4_compareTo 1 = .ok (.aload_n 1, 1) := dk_43 (dk_at dksX4_compareTo_0 1 rfl rfl)
theorem dX4_compareTo_2 : decode cX4_compareTo 2 = .ok (.checkcast 8, 3) := dk_192 0 8 (dk_at dksX4_compareTo_0 2 rfl rfl)
theorem dX4_compareTo_5 : decode cX4_compareTo 5 = .ok (.invokevirtual 22, 3) := dk_182 0 22 (dk_at dksX4_compareTo_0 5 rfl rfl)
theorem dX4_compareTo_8 : decode cX4_compareTo 8 = .ok (.ireturn, 1) := dk_172 (dk_at dksX4_compareTo_0 8 rfl rfl)
abbrev cX4_compareTo_2 : ByteArray := prog_3_method_3_code
def yX4_compareTo_2 : MethodName := ⟨RX4, "compareTo", "(LFountainPark$Job;)I"⟩
def dkwX4_compareTo_2_2 : List UInt8 := [154, 0, 15, 42, 180, 0, 13, 43, 180, 0, 13, 100, 167, 0, 4, 28, 172]
abbrev dktX4_compareTo_2_2 : List UInt8 := dkwX4_compareTo_2_2 ++ []
def dkwX4_compareTo_2_1 : List UInt8 := [167, 0, 4, 28, 61, 28, 154, 0, 15, 42, 180, 0, 7, 43, 180, 0, 7, 100, 167, 0, 4, 28, 61, 28]
abbrev dktX4_compareTo_2_1 : List UInt8 := dkwX4_compareTo_2_1 ++ dktX4_compareTo_2_2
def dkwX4_compareTo_2_0 : List UInt8 := [42, 180, 0, 16, 43, 180, 0, 16, 100, 61, 28, 154, 0, 15, 42, 180, 0, 19, 43, 180, 0, 19, 100]
abbrev dktX4_compareTo_2_0 : List UInt8 := dkwX4_compareTo_2_0 ++ dktX4_compareTo_2_1
theorem dksX4_compareTo_2_0 : cX4_compareTo_2.data.toList.drop 0 = dktX4_compareTo_2_0 := by decide +kernel
theorem dksX4_compareTo_2_1 : cX4_compareTo_2.data.toList.drop 23 = dktX4_compareTo_2_1 := dk_seg dksX4_compareTo_2_0 23 rfl rfl
theorem dksX4_compareTo_2_2 : cX4_compareTo_2.data.toList.drop 47 = dktX4_compareTo_2_2 := dk_seg dksX4_compareTo_2_1 24 rfl rfl
theorem dX4_compareTo_2_0 : decode cX4_compareTo_2 0 = .ok (.aload_n 0, 1) := dk_42 (dk_at dksX4_compareTo_2_0 0 rfl rfl)
theorem dX4_compareTo_2_1 : decode cX4_compareTo_2 1 = .ok (.getfield 16, 3) := dk_180 0 16 (dk_at dksX4_compareTo_2_0 1 rfl rfl)
theorem dX4_compareTo_2_4 : decode cX4_compareTo_2 4 = .ok (.aload_n 1, 1) := dk_43 (dk_at dksX4_compareTo_2_0 4 rfl rfl)
theorem dX4_compareTo_2_5 : decode cX4_compareTo_2 5 = .ok (.getfield 16, 3) := dk_180 0 16 (dk_at dksX4_compareTo_2_0 5 rfl rfl)
theorem dX4_compareTo_2_8 : decode cX4_compareTo_2 8 = .ok (.isub, 1) := dk_100 (dk_at dksX4_compareTo_2_0 8 rfl rfl)
theorem dX4_compareTo_2_9 : decode cX4_compareTo_2 9 = .ok (.istore_n 2, 1) := dk_61 (dk_at dksX4_compareTo_2_0 9 rfl rfl)
theorem dX4_compareTo_2_10 : decode cX4_compareTo_2 10 = .ok (.iload_n 2, 1) := dk_28 (dk_at dksX4_compareTo_2_0 10 rfl rfl)
theorem dX4_compareTo_2_11 : decode cX4_compareTo_2 11 = .ok (.ifCond .ne 15, 3) := dk_154 0 15 (dk_at dksX4_compareTo_2_0 11 rfl rfl)
theorem dX4_compareTo_2_14 : decode cX4_compareTo_2 14 = .ok (.aload_n 0, 1) := dk_42 (dk_at dksX4_compareTo_2_0 14 rfl rfl)
theorem dX4_compareTo_2_15 : decode cX4_compareTo_2 15 = .ok (.getfield 19, 3) := dk_180 0 19 (dk_at dksX4_compareTo_2_0 15 rfl rfl)
theorem dX4_compareTo_2_18 : decode cX4_compareTo_2 18 = .ok (.aload_n 1, 1) := dk_43 (dk_at dksX4_compareTo_2_0 18 rfl rfl)
theorem dX4_compareTo_2_19 : decode cX4_compareTo_2 19 = .ok (.getfield 19, 3) := dk_180 0 19 (dk_at dksX4_compareTo_2_0 19 rfl rfl)
theorem dX4_compareTo_2_22 : decode cX4_compareTo_2 22 = .ok (.isub, 1) := dk_100 (dk_at dksX4_compareTo_2_0 22 rfl rfl)
theorem dX4_compareTo_2_23 : decode cX4_compareTo_2 23 = .ok (.goto 4, 3) := dk_167 0 4 (dk_at dksX4_compareTo_2_1 0 rfl rfl)
theorem dX4_compareTo_2_26 : decode cX4_compareTo_2 26 = .ok (.iload_n 2, 1) := dk_28 (dk_at dksX4_compareTo_2_1 3 rfl rfl)
theorem dX4_compareTo_2_27 : decode cX4_compareTo_2 27 = .ok (.istore_n 2, 1) := dk_61 (dk_at dksX4_compareTo_2_1 4 rfl rfl)
theorem dX4_compareTo_2_28 : decode cX4_compareTo_2 28 = .ok (.iload_n 2, 1) := dk_28 (dk_at dksX4_compareTo_2_1 5 rfl rfl)
theorem dX4_compareTo_2_29 : decode cX4_compareTo_2 29 = .ok (.ifCond .ne 15, 3) := dk_154 0 15 (dk_at dksX4_compareTo_2_1 6 rfl rfl)
theorem dX4_compareTo_2_32 : decode cX4_compareTo_2 32 = .ok (.aload_n 0, 1) := dk_42 (dk_at dksX4_compareTo_2_1 9 rfl rfl)
theorem dX4_compareTo_2_33 : decode cX4_compareTo_2 33 = .ok (.getfield 7, 3) := dk_180 0 7 (dk_at dksX4_compareTo_2_1 10 rfl rfl)
theorem dX4_compareTo_2_36 : decode cX4_compareTo_2 36 = .ok (.aload_n 1, 1) := dk_43 (dk_at dksX4_compareTo_2_1 13 rfl rfl)
theorem dX4_compareTo_2_37 : decode cX4_compareTo_2 37 = .ok (.getfield 7, 3) := dk_180 0 7 (dk_at dksX4_compareTo_2_1 14 rfl rfl)
theorem dX4_compareTo_2_40 : decode cX4_compareTo_2 40 = .ok (.isub, 1) := dk_100 (dk_at dksX4_compareTo_2_1 17 rfl rfl)
theorem dX4_compareTo_2_41 : decode cX4_compareTo_2 41 = .ok (.goto 4, 3) := dk_167 0 4 (dk_at dksX4_compareTo_2_1 18 rfl rfl)
theorem dX4_compareTo_2_44 : decode cX4_compareTo_2 44 = .ok (.iload_n 2, 1) := dk_28 (dk_at dksX4_compareTo_2_1 21 rfl rfl)
theorem dX4_compareTo_2_45 : decode cX4_compareTo_2 45 = .ok (.istore_n 2, 1) := dk_61 (dk_at dksX4_compareTo_2_1 22 rfl rfl)
theorem dX4_compareTo_2_46 : decode cX4_compareTo_2 46 = .ok (.iload_n 2, 1) := dk_28 (dk_at dksX4_compareTo_2_1 23 rfl rfl)
theorem dX4_compareTo_2_47 : decode cX4_compareTo_2 47 = .ok (.ifCond .ne 15, 3) := dk_154 0 15 (dk_at dksX4_compareTo_2_2 0 rfl rfl)
theorem dX4_compareTo_2_50 : decode cX4_compareTo_2 50 = .ok (.aload_n 0, 1) := dk_42 (dk_at dksX4_compareTo_2_2 3 rfl rfl)
theorem dX4_compareTo_2_51 : decode cX4_compareTo_2 51 = .ok (.getfield 13, 3) := dk_180 0 13 (dk_at dksX4_compareTo_2_2 4 rfl rfl)
theorem dX4_compareTo_2_54 : decode cX4_compareTo_2 54 = .ok (.aload_n 1, 1) := dk_43 (dk_at dksX4_compareTo_2_2 7 rfl rfl)
theorem dX4_compareTo_2_55 : decode cX4_compareTo_2 55 = .ok (.getfield 13, 3) := dk_180 0 13 (dk_at dksX4_compareTo_2_2 8 rfl rfl)
theorem dX4_compareTo_2_58 : decode cX4_compareTo_2 58 = .ok (.isub, 1) := dk_100 (dk_at dksX4_compareTo_2_2 11 rfl rfl)
theorem dX4_compareTo_2_59 : decode cX4_compareTo_2 59 = .ok (.goto 4, 3) := dk_167 0 4 (dk_at dksX4_compareTo_2_2 12 rfl rfl)
theorem dX4_compareTo_2_62 : decode cX4_compareTo_2 62 = .ok (.iload_n 2, 1) := dk_28 (dk_at dksX4_compareTo_2_2 15 rfl rfl)
theorem dX4_compareTo_2_63 : decode cX4_compareTo_2 63 = .ok (.ireturn, 1) := dk_172 (dk_at dksX4_compareTo_2_2 16 rfl rfl)
abbrev cX4_lay : ByteArray := prog_3_method_2_code
def yX4_lay : MethodName := ⟨RX4, "lay", "(II)LFountainPark$Job;"⟩
def dkwX4_lay_1 : List UInt8 := [181, 0, 19, 42, 176]
abbrev dktX4_lay_1 : List UInt8 := dkwX4_lay_1 ++ []
def dkwX4_lay_0 : List UInt8 := [42, 27, 5, 159, 0, 11, 27, 42, 180, 0, 13, 160, 0, 7, 3, 167, 0, 4, 4, 181, 0, 16, 42, 28]
abbrev dktX4_lay_0 : List UInt8 := dkwX4_lay_0 ++ dktX4_lay_1
theorem dksX4_lay_0 : cX4_lay.data.toList.drop 0 = dktX4_lay_0 := by decide +kernel
theorem dksX4_lay_1 : cX4_lay.data.toList.drop 24 = dktX4_lay_1 := dk_seg dksX4_lay_0 24 rfl rfl
theorem dX4_lay_0 : decode cX4_lay 0 = .ok (.aload_n 0, 1) := dk_42 (dk_at dksX4_lay_0 0 rfl rfl)
theorem dX4_lay_1 : decode cX4_lay 1 = .ok (.iload_n 1, 1) := dk_27 (dk_at dksX4_lay_0 1 rfl rfl)
theorem dX4_lay_2 : decode cX4_lay 2 = .ok (.iconst 2, 1) := dk_5 (dk_at dksX4_lay_0 2 rfl rfl)
theorem dX4_lay_3 : decode cX4_lay 3 = .ok (.if_icmp .eq 11, 3) := dk_159 0 11 (dk_at dksX4_lay_0 3 rfl rfl)
theorem dX4_lay_6 : decode cX4_lay 6 = .ok (.iload_n 1, 1) := dk_27 (dk_at dksX4_lay_0 6 rfl rfl)
theorem dX4_lay_7 : decode cX4_lay 7 = .ok (.aload_n 0, 1) := dk_42 (dk_at dksX4_lay_0 7 rfl rfl)
theorem dX4_lay_8 : decode cX4_lay 8 = .ok (.getfield 13, 3) := dk_180 0 13 (dk_at dksX4_lay_0 8 rfl rfl)
theorem dX4_lay_11 : decode cX4_lay 11 = .ok (.if_icmp .ne 7, 3) := dk_160 0 7 (dk_at dksX4_lay_0 11 rfl rfl)
theorem dX4_lay_14 : decode cX4_lay 14 = .ok (.iconst 0, 1) := dk_3 (dk_at dksX4_lay_0 14 rfl rfl)
theorem dX4_lay_15 : decode cX4_lay 15 = .ok (.goto 4, 3) := dk_167 0 4 (dk_at dksX4_lay_0 15 rfl rfl)
theorem dX4_lay_18 : decode cX4_lay 18 = .ok (.iconst 1, 1) := dk_4 (dk_at dksX4_lay_0 18 rfl rfl)
theorem dX4_lay_19 : decode cX4_lay 19 = .ok (.putfield 16, 3) := dk_181 0 16 (dk_at dksX4_lay_0 19 rfl rfl)
theorem dX4_lay_22 : decode cX4_lay 22 = .ok (.aload_n 0, 1) := dk_42 (dk_at dksX4_lay_0 22 rfl rfl)
theorem dX4_lay_23 : decode cX4_lay 23 = .ok (.iload_n 2, 1) := dk_28 (dk_at dksX4_lay_0 23 rfl rfl)
theorem dX4_lay_24 : decode cX4_lay 24 = .ok (.putfield 19, 3) := dk_181 0 19 (dk_at dksX4_lay_1 0 rfl rfl)
theorem dX4_lay_27 : decode cX4_lay 27 = .ok (.aload_n 0, 1) := dk_42 (dk_at dksX4_lay_1 3 rfl rfl)
theorem dX4_lay_28 : decode cX4_lay 28 = .ok (.areturn, 1) := dk_176 (dk_at dksX4_lay_1 4 rfl rfl)
theorem q107 : (Jvm.Cond.initialized "FountainPark$Job") ∈ lw_all := lw_g (lw_at lw_m1 15 rfl) rfl
theorem q372 : (Jvm.Cond.instantiable "FountainPark$Job" (4 : Nat)) ∈ lw_all := lw_g (lw_at lw_m2 40 rfl) rfl
theorem q374 : (Jvm.Cond.instanceMethod ({ cls := "FountainPark$Job", name := "<init>", desc := "(II)V" } : Jvm.MethodName)) ∈ lw_all := lw_g (lw_at lw_m2 42 rfl) rfl
theorem q375 : (Jvm.Cond.code ({ cls := "FountainPark$Job", name := "<init>", desc := "(II)V" } : Jvm.MethodName) prog_3_method_1_code (3 : Nat) (Option.none : Option Jvm.ClassFile.FieldType)) ∈ lw_all := lw_g (lw_at lw_m2 43 rfl) rfl
theorem q376 : (Jvm.Cond.methodLink "FountainPark$Job" (1 : Nat) ({ cls := "java/lang/Object", name := "<init>", desc := "()V" } : Jvm.MethodName)) ∈ lw_all := lw_g (lw_at lw_m2 44 rfl) rfl
theorem q377 : (Jvm.Cond.fieldLink "FountainPark$Job" (7 : Nat) "FountainPark$Job" "place" "I") ∈ lw_all := lw_g (lw_at lw_m2 45 rfl) rfl
theorem q380 : (Jvm.Cond.fieldLink "FountainPark$Job" (13 : Nat) "FountainPark$Job" "kind" "I") ∈ lw_all := lw_g (lw_at lw_m2 48 rfl) rfl
theorem q383 : (Jvm.Cond.fieldLink "FountainPark$Job" (16 : Nat) "FountainPark$Job" "rank" "I") ∈ lw_all := lw_g (lw_at lw_m2 51 rfl) rfl
theorem q384 : (Jvm.Cond.fieldLink "FountainPark$Job" (19 : Nat) "FountainPark$Job" "day" "I") ∈ lw_all := lw_g (lw_at lw_m2 52 rfl) rfl
theorem q386 : (Jvm.Cond.laysFinal "FountainPark$Job" "FountainPark$Job" "place" "I") ∈ lw_all := lw_g (lw_at lw_m2 54 rfl) rfl
theorem q387 : (Jvm.Cond.soleField "FountainPark$Job" "place") ∈ lw_all := lw_g (lw_at lw_m2 55 rfl) rfl
theorem q388 : (Jvm.Cond.laysFinal "FountainPark$Job" "FountainPark$Job" "kind" "I") ∈ lw_all := lw_g (lw_at lw_m2 56 rfl) rfl
theorem q389 : (Jvm.Cond.soleField "FountainPark$Job" "kind") ∈ lw_all := lw_g (lw_at lw_m2 57 rfl) rfl
theorem q390 : (Jvm.Cond.lays "FountainPark$Job" "FountainPark$Job" "rank" "I") ∈ lw_all := lw_g (lw_at lw_m2 58 rfl) rfl
theorem q391 : (Jvm.Cond.soleField "FountainPark$Job" "rank") ∈ lw_all := lw_g (lw_at lw_m2 59 rfl) rfl
theorem q392 : (Jvm.Cond.lays "FountainPark$Job" "FountainPark$Job" "day" "I") ∈ lw_all := lw_g (lw_at lw_m2 60 rfl) rfl
theorem q393 : (Jvm.Cond.soleField "FountainPark$Job" "day") ∈ lw_all := lw_g (lw_at lw_m2 61 rfl) rfl
theorem q394 : (Jvm.Cond.superclass "FountainPark$Job" "java/lang/Object") ∈ lw_all := lw_g (lw_at lw_m2 62 rfl) rfl
theorem q1142 : (Jvm.Cond.castable "FountainPark$Job" "java/lang/Comparable") ∈ lw_tbl := lw_at lw_m5 90 rfl
theorem q1143 : (Jvm.Cond.selects "FountainPark$Job" ({ cls := "java/lang/Comparable", name := "compareTo", desc := "(Ljava/lang/Object;)I" } : Jvm.MethodName) ({ cls := "FountainPark$Job", name := "compareTo", desc := "(Ljava/lang/Object;)I" } : Jvm.MethodName)) ∈ lw_all := lw_g (lw_at lw_m5 91 rfl) rfl
theorem q1144 : (Jvm.Cond.unhidden "FountainPark$Job" "compareTo" "(Ljava/lang/Object;)I") ∈ lw_tbl := lw_at lw_m5 92 rfl
theorem q1145 : (Jvm.Cond.instanceMethod ({ cls := "FountainPark$Job", name := "compareTo", desc := "(Ljava/lang/Object;)I" } : Jvm.MethodName)) ∈ lw_all := lw_g (lw_at lw_m5 93 rfl) rfl
theorem q1146 : (Jvm.Cond.publicMethod ({ cls := "FountainPark$Job", name := "compareTo", desc := "(Ljava/lang/Object;)I" } : Jvm.MethodName)) ∈ lw_tbl := lw_at lw_m5 94 rfl
theorem q1147 : (Jvm.Cond.code ({ cls := "FountainPark$Job", name := "compareTo", desc := "(Ljava/lang/Object;)I" } : Jvm.MethodName) prog_3_method_6_code (2 : Nat) (Option.some Jvm.ClassFile.FieldType.int)) ∈ lw_all := lw_g (lw_at lw_m5 95 rfl) rfl
theorem q1148 : (Jvm.Cond.classLink "FountainPark$Job" (8 : Nat) "FountainPark$Job") ∈ lw_all := lw_g (lw_at lw_m5 96 rfl) rfl
theorem q1149 : (Jvm.Cond.methodLink "FountainPark$Job" (22 : Nat) ({ cls := "FountainPark$Job", name := "compareTo", desc := "(LFountainPark$Job;)I" } : Jvm.MethodName)) ∈ lw_all := lw_g (lw_at lw_m5 97 rfl) rfl
theorem q1150 : (Jvm.Cond.instanceMethod ({ cls := "FountainPark$Job", name := "compareTo", desc := "(LFountainPark$Job;)I" } : Jvm.MethodName)) ∈ lw_all := lw_g (lw_at lw_m5 98 rfl) rfl
theorem q1151 : (Jvm.Cond.selects "FountainPark$Job" ({ cls := "FountainPark$Job", name := "compareTo", desc := "(LFountainPark$Job;)I" } : Jvm.MethodName) ({ cls := "FountainPark$Job", name := "compareTo", desc := "(LFountainPark$Job;)I" } : Jvm.MethodName)) ∈ lw_all := lw_g (lw_at lw_m5 99 rfl) rfl
theorem q1152 : (Jvm.Cond.code ({ cls := "FountainPark$Job", name := "compareTo", desc := "(LFountainPark$Job;)I" } : Jvm.MethodName) prog_3_method_3_code (3 : Nat) (Option.some Jvm.ClassFile.FieldType.int)) ∈ lw_all := lw_g (lw_at lw_m5 100 rfl) rfl
theorem q1527 : (Jvm.Cond.instanceMethod ({ cls := "FountainPark$Job", name := "lay", desc := "(II)LFountainPark$Job;" } : Jvm.MethodName)) ∈ lw_all := lw_g (lw_at lw_m6 235 rfl) rfl
theorem q1528 : (Jvm.Cond.selects "FountainPark$Job" ({ cls := "FountainPark$Job", name := "lay", desc := "(II)LFountainPark$Job;" } : Jvm.MethodName) ({ cls := "FountainPark$Job", name := "lay", desc := "(II)LFountainPark$Job;" } : Jvm.MethodName)) ∈ lw_all := lw_g (lw_at lw_m6 236 rfl) rfl
theorem q1529 : (Jvm.Cond.code ({ cls := "FountainPark$Job", name := "lay", desc := "(II)LFountainPark$Job;" } : Jvm.MethodName) prog_3_method_2_code (3 : Nat) (Option.some (Jvm.ClassFile.FieldType.object "FountainPark$Job"))) ∈ lw_all := lw_g (lw_at lw_m6 237 rfl) rfl
theorem q1551 : (Jvm.Cond.selects "FountainPark$Job" ({ cls := "java/lang/Object", name := "getClass", desc := "()Ljava/lang/Class;" } : Jvm.MethodName) ({ cls := "java/lang/Object", name := "getClass", desc := "()Ljava/lang/Class;" } : Jvm.MethodName)) ∈ lw_all := lw_g (lw_at lw_m7 19 rfl) rfl
theorem q2533 : (Jvm.Cond.castable "FountainPark$Job" "java/lang/Object") ∈ lw_tbl := lw_at lw_m11 41 rfl
theorem in_X4 : ∀ w ∈ wsX40, w ∈ lw_all := lw_in wsX40 [386, 388, 390, 392] (by decide +kernel) (by decide +kernel)
/-! FountainPark$Outing -/
set_option maxRecDepth 100000
def RX6 : String := "FountainPark$Outing"
def TX6 : u_T := fun k => match k with
  | 0 => ("FountainPark$Outing", "day", "I", true)
  | 1 => ("FountainPark$Outing", "children", "I", true)
  | 2 => ("FountainPark$Outing", "gate", "I", true)
  | _ => ("FountainPark$Outing", "number", "I", true)
def tyX6 : Nat → FieldType := fun k => match k with
  | 0 => .int
  | 1 => .int
  | 2 => .int
  | _ => .int
abbrev wsX60 : List Cond := u_ws RX6 TX6 4
theorem nmX6 : ∀ a, a < 4 → ∀ b, b < 4 → a ≠ b → (TX6 a).2.1 ≠ (TX6 b).2.1 := by decide +kernel
theorem tyX6_ok : ∀ k, k < 4 → parseFieldDescriptor (TX6 k).2.2.1 = some (tyX6 k) := by decide +kernel
abbrev cX6_compareTo : ByteArray := prog_4_method_5_code
def yX6_compareTo : MethodName := ⟨RX6, "compareTo", "(Ljava/lang/Object;)I"⟩
def dkwX6_compareTo_0 : List UInt8 := [42, 43, 192, 0, 8, 182, 0, 22, 172]
abbrev dktX6_compareTo_0 : List UInt8 := dkwX6_compareTo_0 ++ []
theorem dksX6_compareTo_0 : cX6_compareTo.data.toList.drop 0 = dktX6_compareTo_0 := by decide +kernel
theorem dX6_compareTo_0 : decode cX6_compareTo 0 = .ok (.aload_n 0, 1) := dk_42 (dk_at dksX6_compareTo_0 0 rfl rfl)
theorem dX6_compareTo_1 : decode cX6_compareTo 1 = .ok (.aload_n 1, 1) := dk_43 (dk_at dksX6_compareTo_0 1 rfl rfl)
theorem dX6_compareTo_2 : decode cX6_compareTo 2 = .ok (.checkcast 8, 3) := dk_192 0 8 (dk_at dksX6_compareTo_0 2 rfl rfl)
theorem dX6_compareTo_5 : decode cX6_compareTo 5 = .ok (.invokevirtual 22, 3) := dk_182 0 22 (dk_at dksX6_compareTo_0 5 rfl rfl)
theorem dX6_compareTo_8 : decode cX6_compareTo 8 = .ok (.ireturn, 1) := dk_172 (dk_at dksX6_compareTo_0 8 rfl rfl)
abbrev cX6_compareTo_2 : ByteArray := prog_4_method_2_code
def yX6_compareTo_2 : MethodName := ⟨RX6, "compareTo", "(LFountainPark$Outing;)I"⟩
def dkwX6_compareTo_2_1 : List UInt8 := [167, 0, 4, 28, 61, 28, 154, 0, 15, 42, 180, 0, 19, 43, 180, 0, 19, 100, 167, 0, 4, 28, 172]
abbrev dktX6_compareTo_2_1 : List UInt8 := dkwX6_compareTo_2_1 ++ []
def dkwX6_compareTo_2_0 : List UInt8 := [42, 180, 0, 7, 43, 180, 0, 7, 100, 61, 28, 154, 0, 15, 43, 180, 0, 13, 42, 180, 0, 13, 100]
abbrev dktX6_compareTo_2_0 : List UInt8 := dkwX6_compareTo_2_0 ++ dktX6_compareTo_2_1
theorem dksX6_compareTo_2_0 : cX6_compareTo_2.data.toList.drop 0 = dktX6_compareTo_2_0 := by decide +kernel
theorem dksX6_compareTo_2_1 : cX6_compareTo_2.data.toList.drop 23 = dktX6_compareTo_2_1 := dk_seg dksX6_compareTo_2_0 23 rfl rfl
theorem dX6_compareTo_2_0 : decode cX6_compareTo_2 0 = .ok (.aload_n 0, 1) := dk_42 (dk_at dksX6_compareTo_2_0 0 rfl rfl)
theorem dX6_compareTo_2_1 : decode cX6_compareTo_2 1 = .ok (.getfield 7, 3) := dk_180 0 7 (dk_at dksX6_compareTo_2_0 1 rfl rfl)
theorem dX6_compareTo_2_4 : decode cX6_compareTo_2 4 = .ok (.aload_n 1, 1) := dk_43 (dk_at dksX6_compareTo_2_0 4 rfl rfl)
theorem dX6_compareTo_2_5 : decode cX6_compareTo_2 5 = .ok (.getfield 7, 3) := dk_180 0 7 (dk_at dksX6_compareTo_2_0 5 rfl rfl)
theorem dX6_compareTo_2_8 : decode cX6_compareTo_2 8 = .ok (.isub, 1) := dk_100 (dk_at dksX6_compareTo_2_0 8 rfl rfl)
theorem dX6_compareTo_2_9 : decode cX6_compareTo_2 9 = .ok (.istore_n 2, 1) := dk_61 (dk_at dksX6_compareTo_2_0 9 rfl rfl)
theorem dX6_compareTo_2_10 : decode cX6_compareTo_2 10 = .ok (.iload_n 2, 1) := dk_28 (dk_at dksX6_compareTo_2_0 10 rfl rfl)
theorem dX6_compareTo_2_11 : decode cX6_compareTo_2 11 = .ok (.ifCond .ne 15, 3) := dk_154 0 15 (dk_at dksX6_compareTo_2_0 11 rfl rfl)
theorem dX6_compareTo_2_14 : decode cX6_compareTo_2 14 = .ok (.aload_n 1, 1) := dk_43 (dk_at dksX6_compareTo_2_0 14 rfl rfl)
theorem dX6_compareTo_2_15 : decode cX6_compareTo_2 15 = .ok (.getfield 13, 3) := dk_180 0 13 (dk_at dksX6_compareTo_2_0 15 rfl rfl)
theorem dX6_compareTo_2_18 : decode cX6_compareTo_2 18 = .ok (.aload_n 0, 1) := dk_42 (dk_at dksX6_compareTo_2_0 18 rfl rfl)
theorem dX6_compareTo_2_19 : decode cX6_compareTo_2 19 = .ok (.getfield 13, 3) := dk_180 0 13 (dk_at dksX6_compareTo_2_0 19 rfl rfl)
theorem dX6_compareTo_2_22 : decode cX6_compareTo_2 22 = .ok (.isub, 1) := dk_100 (dk_at dksX6_compareTo_2_0 22 rfl rfl)
theorem dX6_compareTo_2_23 : decode cX6_compareTo_2 23 = .ok (.goto 4, 3) := dk_167 0 4 (dk_at dksX6_compareTo_2_1 0 rfl rfl)
theorem dX6_compareTo_2_26 : decode cX6_compareTo_2 26 = .ok (.iload_n 2, 1) := dk_28 (dk_at dksX6_compareTo_2_1 3 rfl rfl)
theorem dX6_compareTo_2_27 : decode cX6_compareTo_2 27 = .ok (.istore_n 2, 1) := dk_61 (dk_at dksX6_compareTo_2_1 4 rfl rfl)
theorem dX6_compareTo_2_28 : decode cX6_compareTo_2 28 = .ok (.iload_n 2, 1) := dk_28 (dk_at dksX6_compareTo_2_1 5 rfl rfl)
theorem dX6_compareTo_2_29 : decode cX6_compareTo_2 29 = .ok (.ifCond .ne 15, 3) := dk_154 0 15 (dk_at dksX6_compareTo_2_1 6 rfl rfl)
theorem dX6_compareTo_2_32 : decode cX6_compareTo_2 32 = .ok (.aload_n 0, 1) := dk_42 (dk_at dksX6_compareTo_2_1 9 rfl rfl)
theorem dX6_compareTo_2_33 : decode cX6_compareTo_2 33 = .ok (.getfield 19, 3) := dk_180 0 19 (dk_at dksX6_compareTo_2_1 10 rfl rfl)
theorem dX6_compareTo_2_36 : decode cX6_compareTo_2 36 = .ok (.aload_n 1, 1) := dk_43 (dk_at dksX6_compareTo_2_1 13 rfl rfl)
theorem dX6_compareTo_2_37 : decode cX6_compareTo_2 37 = .ok (.getfield 19, 3) := dk_180 0 19 (dk_at dksX6_compareTo_2_1 14 rfl rfl)
theorem dX6_compareTo_2_40 : decode cX6_compareTo_2 40 = .ok (.isub, 1) := dk_100 (dk_at dksX6_compareTo_2_1 17 rfl rfl)
theorem dX6_compareTo_2_41 : decode cX6_compareTo_2 41 = .ok (.goto 4, 3) := dk_167 0 4 (dk_at dksX6_compareTo_2_1 18 rfl rfl)
theorem dX6_compareTo_2_44 : decode cX6_compareTo_2 44 = .ok (.iload_n 2, 1) := dk_28 (dk_at dksX6_compareTo_2_1 21 rfl rfl)
theorem dX6_compareTo_2_45 : decode cX6_compareTo_2 45 = .ok (.ireturn, 1) := dk_172 (dk_at dksX6_compareTo_2_1 22 rfl rfl)
abbrev cX6_init : ByteArray := prog_4_method_1_code
def yX6_init : MethodName := ⟨RX6, "<init>", "(IIII)V"⟩
def dkwX6_init_1 : List UInt8 := [181, 0, 19, 177]
abbrev dktX6_init_1 : List UInt8 := dkwX6_init_1 ++ []
def dkwX6_init_0 : List UInt8 := [42, 183, 0, 1, 42, 27, 181, 0, 7, 42, 28, 181, 0, 13, 42, 29, 181, 0, 16, 42, 21, 4]
abbrev dktX6_init_0 : List UInt8 := dkwX6_init_0 ++ dktX6_init_1
theorem dksX6_init_0 : cX6_init.data.toList.drop 0 = dktX6_init_0 := by decide +kernel
theorem dksX6_init_1 : cX6_init.data.toList.drop 22 = dktX6_init_1 := dk_seg dksX6_init_0 22 rfl rfl
theorem dX6_init_0 : decode cX6_init 0 = .ok (.aload_n 0, 1) := dk_42 (dk_at dksX6_init_0 0 rfl rfl)
theorem dX6_init_1 : decode cX6_init 1 = .ok (.invokespecial 1, 3) := dk_183 0 1 (dk_at dksX6_init_0 1 rfl rfl)
theorem dX6_init_4 : decode cX6_init 4 = .ok (.aload_n 0, 1) := dk_42 (dk_at dksX6_init_0 4 rfl rfl)
theorem dX6_init_5 : decode cX6_init 5 = .ok (.iload_n 1, 1) := dk_27 (dk_at dksX6_init_0 5 rfl rfl)
theorem dX6_init_6 : decode cX6_init 6 = .ok (.putfield 7, 3) := dk_181 0 7 (dk_at dksX6_init_0 6 rfl rfl)
theorem dX6_init_9 : decode cX6_init 9 = .ok (.aload_n 0, 1) := dk_42 (dk_at dksX6_init_0 9 rfl rfl)
theorem dX6_init_10 : decode cX6_init 10 = .ok (.iload_n 2, 1) := dk_28 (dk_at dksX6_init_0 10 rfl rfl)
theorem dX6_init_11 : decode cX6_init 11 = .ok (.putfield 13, 3) := dk_181 0 13 (dk_at dksX6_init_0 11 rfl rfl)
theorem dX6_init_14 : decode cX6_init 14 = .ok (.aload_n 0, 1) := dk_42 (dk_at dksX6_init_0 14 rfl rfl)
theorem dX6_init_15 : decode cX6_init 15 = .ok (.iload_n 3, 1) := dk_29 (dk_at dksX6_init_0 15 rfl rfl)
theorem dX6_init_16 : decode cX6_init 16 = .ok (.putfield 16, 3) := dk_181 0 16 (dk_at dksX6_init_0 16 rfl rfl)
theorem dX6_init_19 : decode cX6_init 19 = .ok (.aload_n 0, 1) := dk_42 (dk_at dksX6_init_0 19 rfl rfl)
theorem dX6_init_20 : decode cX6_init 20 = .ok (.iload 4, 2) := dk_21 4 (dk_at dksX6_init_0 20 rfl rfl)
theorem dX6_init_22 : decode cX6_init 22 = .ok (.putfield 19, 3) := dk_181 0 19 (dk_at dksX6_init_1 0 rfl rfl)
theorem dX6_init_25 : decode cX6_init 25 = .ok (.return_, 1) := dk_177 (dk_at dksX6_init_1 3 rfl rfl)
theorem q136 : (Jvm.Cond.initialized "FountainPark$Outing") ∈ lw_all := lw_g (lw_at lw_m1 44 rfl) rfl
theorem q1153 : (Jvm.Cond.castable "FountainPark$Outing" "java/lang/Comparable") ∈ lw_tbl := lw_at lw_m5 101 rfl
theorem q1154 : (Jvm.Cond.selects "FountainPark$Outing" ({ cls := "java/lang/Comparable", name := "compareTo", desc := "(Ljava/lang/Object;)I" } : Jvm.MethodName) ({ cls := "FountainPark$Outing", name := "compareTo", desc := "(Ljava/lang/Object;)I" } : Jvm.MethodName)) ∈ lw_all := lw_g (lw_at lw_m5 102 rfl) rfl
theorem q1155 : (Jvm.Cond.unhidden "FountainPark$Outing" "compareTo" "(Ljava/lang/Object;)I") ∈ lw_tbl := lw_at lw_m5 103 rfl
theorem q1156 : (Jvm.Cond.instanceMethod ({ cls := "FountainPark$Outing", name := "compareTo", desc := "(Ljava/lang/Object;)I" } : Jvm.MethodName)) ∈ lw_all := lw_g (lw_at lw_m5 104 rfl) rfl
theorem q1157 : (Jvm.Cond.publicMethod ({ cls := "FountainPark$Outing", name := "compareTo", desc := "(Ljava/lang/Object;)I" } : Jvm.MethodName)) ∈ lw_tbl := lw_at lw_m5 105 rfl
theorem q1158 : (Jvm.Cond.code ({ cls := "FountainPark$Outing", name := "compareTo", desc := "(Ljava/lang/Object;)I" } : Jvm.MethodName) prog_4_method_5_code (2 : Nat) (Option.some Jvm.ClassFile.FieldType.int)) ∈ lw_all := lw_g (lw_at lw_m5 106 rfl) rfl
theorem q1159 : (Jvm.Cond.classLink "FountainPark$Outing" (8 : Nat) "FountainPark$Outing") ∈ lw_all := lw_g (lw_at lw_m5 107 rfl) rfl
theorem q1160 : (Jvm.Cond.methodLink "FountainPark$Outing" (22 : Nat) ({ cls := "FountainPark$Outing", name := "compareTo", desc := "(LFountainPark$Outing;)I" } : Jvm.MethodName)) ∈ lw_all := lw_g (lw_at lw_m5 108 rfl) rfl
theorem q1161 : (Jvm.Cond.instanceMethod ({ cls := "FountainPark$Outing", name := "compareTo", desc := "(LFountainPark$Outing;)I" } : Jvm.MethodName)) ∈ lw_all := lw_g (lw_at lw_m5 109 rfl) rfl
theorem q1162 : (Jvm.Cond.selects "FountainPark$Outing" ({ cls := "FountainPark$Outing", name := "compareTo", desc := "(LFountainPark$Outing;)I" } : Jvm.MethodName) ({ cls := "FountainPark$Outing", name := "compareTo", desc := "(LFountainPark$Outing;)I" } : Jvm.MethodName)) ∈ lw_all := lw_g (lw_at lw_m5 110 rfl) rfl
theorem q1163 : (Jvm.Cond.code ({ cls := "FountainPark$Outing", name := "compareTo", desc := "(LFountainPark$Outing;)I" } : Jvm.MethodName) prog_4_method_2_code (3 : Nat) (Option.some Jvm.ClassFile.FieldType.int)) ∈ lw_all := lw_g (lw_at lw_m5 111 rfl) rfl
theorem q1552 : (Jvm.Cond.selects "FountainPark$Outing" ({ cls := "java/lang/Object", name := "getClass", desc := "()Ljava/lang/Class;" } : Jvm.MethodName) ({ cls := "java/lang/Object", name := "getClass", desc := "()Ljava/lang/Class;" } : Jvm.MethodName)) ∈ lw_all := lw_g (lw_at lw_m7 20 rfl) rfl
theorem q1759 : (Jvm.Cond.instantiable "FountainPark$Outing" (4 : Nat)) ∈ lw_all := lw_g (lw_at lw_m7 227 rfl) rfl
theorem q1761 : (Jvm.Cond.instanceMethod ({ cls := "FountainPark$Outing", name := "<init>", desc := "(IIII)V" } : Jvm.MethodName)) ∈ lw_all := lw_g (lw_at lw_m7 229 rfl) rfl
theorem q1762 : (Jvm.Cond.code ({ cls := "FountainPark$Outing", name := "<init>", desc := "(IIII)V" } : Jvm.MethodName) prog_4_method_1_code (5 : Nat) (Option.none : Option Jvm.ClassFile.FieldType)) ∈ lw_all := lw_g (lw_at lw_m7 230 rfl) rfl
theorem q1763 : (Jvm.Cond.methodLink "FountainPark$Outing" (1 : Nat) ({ cls := "java/lang/Object", name := "<init>", desc := "()V" } : Jvm.MethodName)) ∈ lw_all := lw_g (lw_at lw_m7 231 rfl) rfl
theorem q1764 : (Jvm.Cond.fieldLink "FountainPark$Outing" (7 : Nat) "FountainPark$Outing" "day" "I") ∈ lw_all := lw_g (lw_at lw_m7 232 rfl) rfl
theorem q1767 : (Jvm.Cond.fieldLink "FountainPark$Outing" (13 : Nat) "FountainPark$Outing" "children" "I") ∈ lw_all := lw_g (lw_at lw_m7 235 rfl) rfl
theorem q1770 : (Jvm.Cond.fieldLink "FountainPark$Outing" (16 : Nat) "FountainPark$Outing" "gate" "I") ∈ lw_all := lw_g (lw_at lw_m7 238 rfl) rfl
theorem q1773 : (Jvm.Cond.fieldLink "FountainPark$Outing" (19 : Nat) "FountainPark$Outing" "number" "I") ∈ lw_all := lw_g (lw_at lw_m8 1 rfl) rfl
theorem q1774 : (Jvm.Cond.laysFinal "FountainPark$Outing" "FountainPark$Outing" "day" "I") ∈ lw_all := lw_g (lw_at lw_m8 2 rfl) rfl
theorem q1775 : (Jvm.Cond.soleField "FountainPark$Outing" "day") ∈ lw_all := lw_g (lw_at lw_m8 3 rfl) rfl
theorem q1776 : (Jvm.Cond.laysFinal "FountainPark$Outing" "FountainPark$Outing" "children" "I") ∈ lw_all := lw_g (lw_at lw_m8 4 rfl) rfl
theorem q1777 : (Jvm.Cond.soleField "FountainPark$Outing" "children") ∈ lw_all := lw_g (lw_at lw_m8 5 rfl) rfl
theorem q1778 : (Jvm.Cond.laysFinal "FountainPark$Outing" "FountainPark$Outing" "gate" "I") ∈ lw_all := lw_g (lw_at lw_m8 6 rfl) rfl
theorem q1779 : (Jvm.Cond.soleField "FountainPark$Outing" "gate") ∈ lw_all := lw_g (lw_at lw_m8 7 rfl) rfl
theorem q1780 : (Jvm.Cond.laysFinal "FountainPark$Outing" "FountainPark$Outing" "number" "I") ∈ lw_all := lw_g (lw_at lw_m8 8 rfl) rfl
theorem q1781 : (Jvm.Cond.soleField "FountainPark$Outing" "number") ∈ lw_all := lw_g (lw_at lw_m8 9 rfl) rfl
theorem q1782 : (Jvm.Cond.superclass "FountainPark$Outing" "java/lang/Object") ∈ lw_all := lw_g (lw_at lw_m8 10 rfl) rfl
theorem q2551 : (Jvm.Cond.castable "FountainPark$Outing" "java/lang/Object") ∈ lw_tbl := lw_at lw_m11 59 rfl
theorem in_X6 : ∀ w ∈ wsX60, w ∈ lw_all := lw_in wsX60 [1774, 1776, 1778, 1780] (by decide +kernel) (by decide +kernel)
/-! FountainPark$Reader -/
set_option maxRecDepth 100000
def RX7 : String := "FountainPark$Reader"
def TX7 : u_T := fun k => match k with
  | 0 => ("FountainPark$Reader", "parts", "[I", true)
  | 1 => ("FountainPark$Reader", "many", "I", false)
  | 2 => ("FountainPark$Reader", "place", "I", false)
  | _ => ("FountainPark$Reader", "this$0", "LFountainPark;", true)
def tyX7 : Nat → FieldType := fun k => match k with
  | 0 => .array .int
  | 1 => .int
  | 2 => .int
  | _ => .object "FountainPark"
abbrev wsX70 : List Cond := u_ws RX7 TX7 4
theorem nmX7 : ∀ a, a < 4 → ∀ b, b < 4 → a ≠ b → (TX7 a).2.1 ≠ (TX7 b).2.1 := by decide +kernel
theorem tyX7_ok : ∀ k, k < 4 → parseFieldDescriptor (TX7 k).2.2.1 = some (tyX7 k) := by decide +kernel
abbrev cX7_init : ByteArray := prog_6_method_1_code
def yX7_init : MethodName := ⟨RX7, "<init>", "(LFountainPark;)V"⟩
def dkwX7_init_0 : List UInt8 := [42, 43, 181, 0, 3, 42, 183, 0, 9, 42, 17, 0, 180, 188, 10, 181, 0, 15, 177]
abbrev dktX7_init_0 : List UInt8 := dkwX7_init_0 ++ []
theorem dksX7_init_0 : cX7_init.data.toList.drop 0 = dktX7_init_0 := by decide +kernel
theorem dX7_init_0 : decode cX7_init 0 = .ok (.aload_n 0, 1) := dk_42 (dk_at dksX7_init_0 0 rfl rfl)
theorem dX7_init_1 : decode cX7_init 1 = .ok (.aload_n 1, 1) := dk_43 (dk_at dksX7_init_0 1 rfl rfl)
theorem dX7_init_2 : decode cX7_init 2 = .ok (.putfield 3, 3) := dk_181 0 3 (dk_at dksX7_init_0 2 rfl rfl)
theorem dX7_init_5 : decode cX7_init 5 = .ok (.aload_n 0, 1) := dk_42 (dk_at dksX7_init_0 5 rfl rfl)
theorem dX7_init_6 : decode cX7_init 6 = .ok (.invokespecial 9, 3) := dk_183 0 9 (dk_at dksX7_init_0 6 rfl rfl)
theorem dX7_init_9 : decode cX7_init 9 = .ok (.aload_n 0, 1) := dk_42 (dk_at dksX7_init_0 9 rfl rfl)
theorem dX7_init_10 : decode cX7_init 10 = .ok (.sipush 180, 3) := dk_17 0 180 (dk_at dksX7_init_0 10 rfl rfl)
theorem dX7_init_13 : decode cX7_init 13 = .ok (.newarray .int, 2) := dk_188_10 (dk_at dksX7_init_0 13 rfl rfl)
theorem dX7_init_15 : decode cX7_init 15 = .ok (.putfield 15, 3) := dk_181 0 15 (dk_at dksX7_init_0 15 rfl rfl)
theorem dX7_init_18 : decode cX7_init 18 = .ok (.return_, 1) := dk_177 (dk_at dksX7_init_0 18 rfl rfl)
abbrev cX7_areOutings : ByteArray := prog_6_method_7_code
def yX7_areOutings : MethodName := ⟨RX7, "areOutings", "()Z"⟩
def dkwX7_areOutings_2 : List UInt8 := [4, 167, 0, 4, 3, 172]
abbrev dktX7_areOutings_2 : List UInt8 := dkwX7_areOutings_2 ++ []
def dkwX7_areOutings_1 : List UInt8 := [167, 255, 238, 27, 153, 0, 24, 42, 180, 0, 19, 42, 180, 0, 3, 180, 0, 23, 182, 0, 27, 160, 0, 7]
abbrev dktX7_areOutings_1 : List UInt8 := dkwX7_areOutings_1 ++ dktX7_areOutings_2
def dkwX7_areOutings_0 : List UInt8 := [42, 182, 0, 66, 60, 27, 153, 0, 20, 42, 16, 59, 182, 0, 56, 153, 0, 11, 42, 182, 0, 66, 60]
abbrev dktX7_areOutings_0 : List UInt8 := dkwX7_areOutings_0 ++ dktX7_areOutings_1
theorem dksX7_areOutings_0 : cX7_areOutings.data.toList.drop 0 = dktX7_areOutings_0 := by decide +kernel
theorem dksX7_areOutings_1 : cX7_areOutings.data.toList.drop 23 = dktX7_areOutings_1 := dk_seg dksX7_areOutings_0 23 rfl rfl
theorem dksX7_areOutings_2 : cX7_areOutings.data.toList.drop 47 = dktX7_areOutings_2 := dk_seg dksX7_areOutings_1 24 rfl rfl
theorem dX7_areOutings_0 : decode cX7_areOutings 0 = .ok (.aload_n 0, 1) := dk_42 (dk_at dksX7_areOutings_0 0 rfl rfl)
theorem dX7_areOutings_1 : decode cX7_areOutings 1 = .ok (.invokevirtual 66, 3) := dk_182 0 66 (dk_at dksX7_areOutings_0 1 rfl rfl)
theorem dX7_areOutings_4 : decode cX7_areOutings 4 = .ok (.istore_n 1, 1) := dk_60 (dk_at dksX7_areOutings_0 4 rfl rfl)
theorem dX7_areOutings_5 : decode cX7_areOutings 5 = .ok (.iload_n 1, 1) := dk_27 (dk_at dksX7_areOutings_0 5 rfl rfl)
theorem dX7_areOutings_6 : decode cX7_areOutings 6 = .ok (.ifCond .eq 20, 3) := dk_153 0 20 (dk_at dksX7_areOutings_0 6 rfl rfl)
theorem dX7_areOutings_9 : decode cX7_areOutings 9 = .ok (.aload_n 0, 1) := dk_42 (dk_at dksX7_areOutings_0 9 rfl rfl)
theorem dX7_areOutings_10 : decode cX7_areOutings 10 = .ok (.bipush 59, 2) := dk_16 59 (dk_at dksX7_areOutings_0 10 rfl rfl)
theorem dX7_areOutings_12 : decode cX7_areOutings 12 = .ok (.invokevirtual 56, 3) := dk_182 0 56 (dk_at dksX7_areOutings_0 12 rfl rfl)
theorem dX7_areOutings_15 : decode cX7_areOutings 15 = .ok (.ifCond .eq 11, 3) := dk_153 0 11 (dk_at dksX7_areOutings_0 15 rfl rfl)
theorem dX7_areOutings_18 : decode cX7_areOutings 18 = .ok (.aload_n 0, 1) := dk_42 (dk_at dksX7_areOutings_0 18 rfl rfl)
theorem dX7_areOutings_19 : decode cX7_areOutings 19 = .ok (.invokevirtual 66, 3) := dk_182 0 66 (dk_at dksX7_areOutings_0 19 rfl rfl)
theorem dX7_areOutings_22 : decode cX7_areOutings 22 = .ok (.istore_n 1, 1) := dk_60 (dk_at dksX7_areOutings_0 22 rfl rfl)
theorem dX7_areOutings_23 : decode cX7_areOutings 23 = .ok (.goto (-18), 3) := dk_167 255 238 (dk_at dksX7_areOutings_1 0 rfl rfl)
theorem dX7_areOutings_26 : decode cX7_areOutings 26 = .ok (.iload_n 1, 1) := dk_27 (dk_at dksX7_areOutings_1 3 rfl rfl)
theorem dX7_areOutings_27 : decode cX7_areOutings 27 = .ok (.ifCond .eq 24, 3) := dk_153 0 24 (dk_at dksX7_areOutings_1 4 rfl rfl)
theorem dX7_areOutings_30 : decode cX7_areOutings 30 = .ok (.aload_n 0, 1) := dk_42 (dk_at dksX7_areOutings_1 7 rfl rfl)
theorem dX7_areOutings_31 : decode cX7_areOutings 31 = .ok (.getfield 19, 3) := dk_180 0 19 (dk_at dksX7_areOutings_1 8 rfl rfl)
theorem dX7_areOutings_34 : decode cX7_areOutings 34 = .ok (.aload_n 0, 1) := dk_42 (dk_at dksX7_areOutings_1 11 rfl rfl)
theorem dX7_areOutings_35 : decode cX7_areOutings 35 = .ok (.getfield 3, 3) := dk_180 0 3 (dk_at dksX7_areOutings_1 12 rfl rfl)
theorem dX7_areOutings_38 : decode cX7_areOutings 38 = .ok (.getfield 23, 3) := dk_180 0 23 (dk_at dksX7_areOutings_1 15 rfl rfl)
theorem dX7_areOutings_41 : decode cX7_areOutings 41 = .ok (.invokevirtual 27, 3) := dk_182 0 27 (dk_at dksX7_areOutings_1 18 rfl rfl)
theorem dX7_areOutings_44 : decode cX7_areOutings 44 = .ok (.if_icmp .ne 7, 3) := dk_160 0 7 (dk_at dksX7_areOutings_1 21 rfl rfl)
theorem dX7_areOutings_47 : decode cX7_areOutings 47 = .ok (.iconst 1, 1) := dk_4 (dk_at dksX7_areOutings_2 0 rfl rfl)
theorem dX7_areOutings_48 : decode cX7_areOutings 48 = .ok (.goto 4, 3) := dk_167 0 4 (dk_at dksX7_areOutings_2 1 rfl rfl)
theorem dX7_areOutings_51 : decode cX7_areOutings 51 = .ok (.iconst 0, 1) := dk_3 (dk_at dksX7_areOutings_2 4 rfl rfl)
theorem dX7_areOutings_52 : decode cX7_areOutings 52 = .ok (.ireturn, 1) := dk_172 (dk_at dksX7_areOutings_2 5 rfl rfl)
abbrev cX7_part : ByteArray := prog_6_method_6_code
def yX7_part : MethodName := ⟨RX7, "part", "()Z"⟩
def dkwX7_part_2 : List UInt8 := [153, 0, 12, 42, 27, 182, 0, 63, 61, 167, 255, 237, 28, 172]
abbrev dktX7_part_2 : List UInt8 := dkwX7_part_2 ++ []
def dkwX7_part_1 : List UInt8 := [27, 182, 0, 63, 153, 0, 7, 4, 167, 0, 4, 3, 61, 28, 153, 0, 21, 42, 16, 43, 182, 0, 56]
abbrev dktX7_part_1 : List UInt8 := dkwX7_part_1 ++ dktX7_part_2
def dkwX7_part_0 : List UInt8 := [42, 3, 17, 3, 231, 182, 0, 53, 60, 27, 2, 159, 0, 24, 42, 16, 58, 182, 0, 56, 153, 0, 15, 42]
abbrev dktX7_part_0 : List UInt8 := dkwX7_part_0 ++ dktX7_part_1
theorem dksX7_part_0 : cX7_part.data.toList.drop 0 = dktX7_part_0 := by decide +kernel
theorem dksX7_part_1 : cX7_part.data.toList.drop 24 = dktX7_part_1 := dk_seg dksX7_part_0 24 rfl rfl
theorem dksX7_part_2 : cX7_part.data.toList.drop 47 = dktX7_part_2 := dk_seg dksX7_part_1 23 rfl rfl
theorem dX7_part_0 : decode cX7_part 0 = .ok (.aload_n 0, 1) := dk_42 (dk_at dksX7_part_0 0 rfl rfl)
theorem dX7_part_1 : decode cX7_part 1 = .ok (.iconst 0, 1) := dk_3 (dk_at dksX7_part_0 1 rfl rfl)
theorem dX7_part_2 : decode cX7_part 2 = .ok (.sipush 999, 3) := dk_17 3 231 (dk_at dksX7_part_0 2 rfl rfl)
theorem dX7_part_5 : decode cX7_part 5 = .ok (.invokevirtual 53, 3) := dk_182 0 53 (dk_at dksX7_part_0 5 rfl rfl)
theorem dX7_part_8 : decode cX7_part 8 = .ok (.istore_n 1, 1) := dk_60 (dk_at dksX7_part_0 8 rfl rfl)
theorem dX7_part_9 : decode cX7_part 9 = .ok (.iload_n 1, 1) := dk_27 (dk_at dksX7_part_0 9 rfl rfl)
theorem dX7_part_10 : decode cX7_part 10 = .ok (.iconst (-1), 1) := dk_2 (dk_at dksX7_part_0 10 rfl rfl)
theorem dX7_part_11 : decode cX7_part 11 = .ok (.if_icmp .eq 24, 3) := dk_159 0 24 (dk_at dksX7_part_0 11 rfl rfl)
theorem dX7_part_14 : decode cX7_part 14 = .ok (.aload_n 0, 1) := dk_42 (dk_at dksX7_part_0 14 rfl rfl)
theorem dX7_part_15 : decode cX7_part 15 = .ok (.bipush 58, 2) := dk_16 58 (dk_at dksX7_part_0 15 rfl rfl)
theorem dX7_part_17 : decode cX7_part 17 = .ok (.invokevirtual 56, 3) := dk_182 0 56 (dk_at dksX7_part_0 17 rfl rfl)
theorem dX7_part_20 : decode cX7_part 20 = .ok (.ifCond .eq 15, 3) := dk_153 0 15 (dk_at dksX7_part_0 20 rfl rfl)
theorem dX7_part_23 : decode cX7_part 23 = .ok (.aload_n 0, 1) := dk_42 (dk_at dksX7_part_0 23 rfl rfl)
theorem dX7_part_24 : decode cX7_part 24 = .ok (.iload_n 1, 1) := dk_27 (dk_at dksX7_part_1 0 rfl rfl)
theorem dX7_part_25 : decode cX7_part 25 = .ok (.invokevirtual 63, 3) := dk_182 0 63 (dk_at dksX7_part_1 1 rfl rfl)
theorem dX7_part_28 : decode cX7_part 28 = .ok (.ifCond .eq 7, 3) := dk_153 0 7 (dk_at dksX7_part_1 4 rfl rfl)
theorem dX7_part_31 : decode cX7_part 31 = .ok (.iconst 1, 1) := dk_4 (dk_at dksX7_part_1 7 rfl rfl)
theorem dX7_part_32 : decode cX7_part 32 = .ok (.goto 4, 3) := dk_167 0 4 (dk_at dksX7_part_1 8 rfl rfl)
theorem dX7_part_35 : decode cX7_part 35 = .ok (.iconst 0, 1) := dk_3 (dk_at dksX7_part_1 11 rfl rfl)
theorem dX7_part_36 : decode cX7_part 36 = .ok (.istore_n 2, 1) := dk_61 (dk_at dksX7_part_1 12 rfl rfl)
theorem dX7_part_37 : decode cX7_part 37 = .ok (.iload_n 2, 1) := dk_28 (dk_at dksX7_part_1 13 rfl rfl)
theorem dX7_part_38 : decode cX7_part 38 = .ok (.ifCond .eq 21, 3) := dk_153 0 21 (dk_at dksX7_part_1 14 rfl rfl)
theorem dX7_part_41 : decode cX7_part 41 = .ok (.aload_n 0, 1) := dk_42 (dk_at dksX7_part_1 17 rfl rfl)
theorem dX7_part_42 : decode cX7_part 42 = .ok (.bipush 43, 2) := dk_16 43 (dk_at dksX7_part_1 18 rfl rfl)
theorem dX7_part_44 : decode cX7_part 44 = .ok (.invokevirtual 56, 3) := dk_182 0 56 (dk_at dksX7_part_1 20 rfl rfl)
theorem dX7_part_47 : decode cX7_part 47 = .ok (.ifCond .eq 12, 3) := dk_153 0 12 (dk_at dksX7_part_2 0 rfl rfl)
theorem dX7_part_50 : decode cX7_part 50 = .ok (.aload_n 0, 1) := dk_42 (dk_at dksX7_part_2 3 rfl rfl)
theorem dX7_part_51 : decode cX7_part 51 = .ok (.iload_n 1, 1) := dk_27 (dk_at dksX7_part_2 4 rfl rfl)
theorem dX7_part_52 : decode cX7_part 52 = .ok (.invokevirtual 63, 3) := dk_182 0 63 (dk_at dksX7_part_2 5 rfl rfl)
theorem dX7_part_55 : decode cX7_part 55 = .ok (.istore_n 2, 1) := dk_61 (dk_at dksX7_part_2 8 rfl rfl)
theorem dX7_part_56 : decode cX7_part 56 = .ok (.goto (-19), 3) := dk_167 255 237 (dk_at dksX7_part_2 9 rfl rfl)
theorem dX7_part_59 : decode cX7_part 59 = .ok (.iload_n 2, 1) := dk_28 (dk_at dksX7_part_2 12 rfl rfl)
theorem dX7_part_60 : decode cX7_part 60 = .ok (.ireturn, 1) := dk_172 (dk_at dksX7_part_2 13 rfl rfl)
abbrev cX7_number : ByteArray := prog_6_method_4_code
def yX7_number : MethodName := ⟨RX7, "number", "(II)I"⟩
def dkwX7_number_3 : List UInt8 := [167, 255, 187, 29, 172]
abbrev dktX7_number_3 : List UInt8 := dkwX7_number_3 ++ []
def dkwX7_number_2 : List UInt8 := [184, 0, 44, 104, 42, 182, 0, 37, 96, 16, 48, 100, 62, 42, 89, 180, 0, 19, 4, 96, 181, 0, 19]
abbrev dktX7_number_2 : List UInt8 := dkwX7_number_2 ++ dktX7_number_3
def dkwX7_number_1 : List UInt8 := [184, 0, 44, 104, 42, 182, 0, 37, 96, 16, 48, 100, 27, 28, 184, 0, 40, 153, 0, 33, 16, 10, 3, 29]
abbrev dktX7_number_1 : List UInt8 := dkwX7_number_1 ++ dktX7_number_2
def dkwX7_number_0 : List UInt8 := [2, 62, 42, 182, 0, 37, 16, 48, 16, 57, 184, 0, 40, 153, 0, 61, 29, 153, 0, 57, 16, 10, 3, 29]
abbrev dktX7_number_0 : List UInt8 := dkwX7_number_0 ++ dktX7_number_1
theorem dksX7_number_0 : cX7_number.data.toList.drop 0 = dktX7_number_0 := by decide +kernel
theorem dksX7_number_1 : cX7_number.data.toList.drop 24 = dktX7_number_1 := dk_seg dksX7_number_0 24 rfl rfl
theorem dksX7_number_2 : cX7_number.data.toList.drop 48 = dktX7_number_2 := dk_seg dksX7_number_1 24 rfl rfl
theorem dksX7_number_3 : cX7_number.data.toList.drop 71 = dktX7_number_3 := dk_seg dksX7_number_2 23 rfl rfl
theorem dX7_number_0 : decode cX7_number 0 = .ok (.iconst (-1), 1) := dk_2 (dk_at dksX7_number_0 0 rfl rfl)
theorem dX7_number_1 : decode cX7_number 1 = .ok (.istore_n 3, 1) := dk_62 (dk_at dksX7_number_0 1 rfl rfl)
theorem dX7_number_2 : decode cX7_number 2 = .ok (.aload_n 0, 1) := dk_42 (dk_at dksX7_number_0 2 rfl rfl)
theorem dX7_number_3 : decode cX7_number 3 = .ok (.invokevirtual 37, 3) := dk_182 0 37 (dk_at dksX7_number_0 3 rfl rfl)
theorem dX7_number_6 : decode cX7_number 6 = .ok (.bipush 48, 2) := dk_16 48 (dk_at dksX7_number_0 6 rfl rfl)
theorem dX7_number_8 : decode cX7_number 8 = .ok (.bipush 57, 2) := dk_16 57 (dk_at dksX7_number_0 8 rfl rfl)
theorem dX7_number_10 : decode cX7_number 10 = .ok (.invokestatic 40, 3) := dk_184 0 40 (dk_at dksX7_number_0 10 rfl rfl)
theorem dX7_number_13 : decode cX7_number 13 = .ok (.ifCond .eq 61, 3) := dk_153 0 61 (dk_at dksX7_number_0 13 rfl rfl)
theorem dX7_number_16 : decode cX7_number 16 = .ok (.iload_n 3, 1) := dk_29 (dk_at dksX7_number_0 16 rfl rfl)
theorem dX7_number_17 : decode cX7_number 17 = .ok (.ifCond .eq 57, 3) := dk_153 0 57 (dk_at dksX7_number_0 17 rfl rfl)
theorem dX7_number_20 : decode cX7_number 20 = .ok (.bipush 10, 2) := dk_16 10 (dk_at dksX7_number_0 20 rfl rfl)
theorem dX7_number_22 : decode cX7_number 22 = .ok (.iconst 0, 1) := dk_3 (dk_at dksX7_number_0 22 rfl rfl)
theorem dX7_number_23 : decode cX7_number 23 = .ok (.iload_n 3, 1) := dk_29 (dk_at dksX7_number_0 23 rfl rfl)
theorem dX7_number_24 : decode cX7_number 24 = .ok (.invokestatic 44, 3) := dk_184 0 44 (dk_at dksX7_number_1 0 rfl rfl)
theorem dX7_number_27 : decode cX7_number 27 = .ok (.imul, 1) := dk_104 (dk_at dksX7_number_1 3 rfl rfl)
theorem dX7_number_28 : decode cX7_number 28 = .ok (.aload_n 0, 1) := dk_42 (dk_at dksX7_number_1 4 rfl rfl)
theorem dX7_number_29 : decode cX7_number 29 = .ok (.invokevirtual 37, 3) := dk_182 0 37 (dk_at dksX7_number_1 5 rfl rfl)
theorem dX7_number_32 : decode cX7_number 32 = .ok (.iadd, 1) := dk_96 (dk_at dksX7_number_1 8 rfl rfl)
theorem dX7_number_33 : decode cX7_number 33 = .ok (.bipush 48, 2) := dk_16 48 (dk_at dksX7_number_1 9 rfl rfl)
theorem dX7_number_35 : decode cX7_number 35 = .ok (.isub, 1) := dk_100 (dk_at dksX7_number_1 11 rfl rfl)
theorem dX7_number_36 : decode cX7_number 36 = .ok (.iload_n 1, 1) := dk_27 (dk_at dksX7_number_1 12 rfl rfl)
theorem dX7_number_37 : decode cX7_number 37 = .ok (.iload_n 2, 1) := dk_28 (dk_at dksX7_number_1 13 rfl rfl)
theorem dX7_number_38 : decode cX7_number 38 = .ok (.invokestatic 40, 3) := dk_184 0 40 (dk_at dksX7_number_1 14 rfl rfl)
theorem dX7_number_41 : decode cX7_number 41 = .ok (.ifCond .eq 33, 3) := dk_153 0 33 (dk_at dksX7_number_1 17 rfl rfl)
theorem dX7_number_44 : decode cX7_number 44 = .ok (.bipush 10, 2) := dk_16 10 (dk_at dksX7_number_1 20 rfl rfl)
theorem dX7_number_46 : decode cX7_number 46 = .ok (.iconst 0, 1) := dk_3 (dk_at dksX7_number_1 22 rfl rfl)
theorem dX7_number_47 : decode cX7_number 47 = .ok (.iload_n 3, 1) := dk_29 (dk_at dksX7_number_1 23 rfl rfl)
theorem dX7_number_48 : decode cX7_number 48 = .ok (.invokestatic 44, 3) := dk_184 0 44 (dk_at dksX7_number_2 0 rfl rfl)
theorem dX7_number_51 : decode cX7_number 51 = .ok (.imul, 1) := dk_104 (dk_at dksX7_number_2 3 rfl rfl)
theorem dX7_number_52 : decode cX7_number 52 = .ok (.aload_n 0, 1) := dk_42 (dk_at dksX7_number_2 4 rfl rfl)
theorem dX7_number_53 : decode cX7_number 53 = .ok (.invokevirtual 37, 3) := dk_182 0 37 (dk_at dksX7_number_2 5 rfl rfl)
theorem dX7_number_56 : decode cX7_number 56 = .ok (.iadd, 1) := dk_96 (dk_at dksX7_number_2 8 rfl rfl)
theorem dX7_number_57 : decode cX7_number 57 = .ok (.bipush 48, 2) := dk_16 48 (dk_at dksX7_number_2 9 rfl rfl)
theorem dX7_number_59 : decode cX7_number 59 = .ok (.isub, 1) := dk_100 (dk_at dksX7_number_2 11 rfl rfl)
theorem dX7_number_60 : decode cX7_number 60 = .ok (.istore_n 3, 1) := dk_62 (dk_at dksX7_number_2 12 rfl rfl)
theorem dX7_number_61 : decode cX7_number 61 = .ok (.aload_n 0, 1) := dk_42 (dk_at dksX7_number_2 13 rfl rfl)
theorem dX7_number_62 : decode cX7_number 62 = .ok (.dup, 1) := dk_89 (dk_at dksX7_number_2 14 rfl rfl)
theorem dX7_number_63 : decode cX7_number 63 = .ok (.getfield 19, 3) := dk_180 0 19 (dk_at dksX7_number_2 15 rfl rfl)
theorem dX7_number_66 : decode cX7_number 66 = .ok (.iconst 1, 1) := dk_4 (dk_at dksX7_number_2 18 rfl rfl)
theorem dX7_number_67 : decode cX7_number 67 = .ok (.iadd, 1) := dk_96 (dk_at dksX7_number_2 19 rfl rfl)
theorem dX7_number_68 : decode cX7_number 68 = .ok (.putfield 19, 3) := dk_181 0 19 (dk_at dksX7_number_2 20 rfl rfl)
theorem dX7_number_71 : decode cX7_number 71 = .ok (.goto (-69), 3) := dk_167 255 187 (dk_at dksX7_number_3 0 rfl rfl)
theorem dX7_number_74 : decode cX7_number 74 = .ok (.iload_n 3, 1) := dk_29 (dk_at dksX7_number_3 3 rfl rfl)
theorem dX7_number_75 : decode cX7_number 75 = .ok (.ireturn, 1) := dk_172 (dk_at dksX7_number_3 4 rfl rfl)
abbrev cX7_next : ByteArray := prog_6_method_2_code
def yX7_next : MethodName := ⟨RX7, "next", "()I"⟩
def dkwX7_next_1 : List UInt8 := [42, 180, 0, 19, 182, 0, 33, 167, 0, 4, 3, 172]
abbrev dktX7_next_1 : List UInt8 := dkwX7_next_1 ++ []
def dkwX7_next_0 : List UInt8 := [42, 180, 0, 19, 42, 180, 0, 3, 180, 0, 23, 182, 0, 27, 162, 0, 20, 42, 180, 0, 3, 180, 0, 23]
abbrev dktX7_next_0 : List UInt8 := dkwX7_next_0 ++ dktX7_next_1
theorem dksX7_next_0 : cX7_next.data.toList.drop 0 = dktX7_next_0 := by decide +kernel
theorem dksX7_next_1 : cX7_next.data.toList.drop 24 = dktX7_next_1 := dk_seg dksX7_next_0 24 rfl rfl
theorem dX7_next_0 : decode cX7_next 0 = .ok (.aload_n 0, 1) := dk_42 (dk_at dksX7_next_0 0 rfl rfl)
theorem dX7_next_1 : decode cX7_next 1 = .ok (.getfield 19, 3) := dk_180 0 19 (dk_at dksX7_next_0 1 rfl rfl)
theorem dX7_next_4 : decode cX7_next 4 = .ok (.aload_n 0, 1) := dk_42 (dk_at dksX7_next_0 4 rfl rfl)
theorem dX7_next_5 : decode cX7_next 5 = .ok (.getfield 3, 3) := dk_180 0 3 (dk_at dksX7_next_0 5 rfl rfl)
theorem dX7_next_8 : decode cX7_next 8 = .ok (.getfield 23, 3) := dk_180 0 23 (dk_at dksX7_next_0 8 rfl rfl)
theorem dX7_next_11 : decode cX7_next 11 = .ok (.invokevirtual 27, 3) := dk_182 0 27 (dk_at dksX7_next_0 11 rfl rfl)
theorem dX7_next_14 : decode cX7_next 14 = .ok (.if_icmp .ge 20, 3) := dk_162 0 20 (dk_at dksX7_next_0 14 rfl rfl)
theorem dX7_next_17 : decode cX7_next 17 = .ok (.aload_n 0, 1) := dk_42 (dk_at dksX7_next_0 17 rfl rfl)
theorem dX7_next_18 : decode cX7_next 18 = .ok (.getfield 3, 3) := dk_180 0 3 (dk_at dksX7_next_0 18 rfl rfl)
theorem dX7_next_21 : decode cX7_next 21 = .ok (.getfield 23, 3) := dk_180 0 23 (dk_at dksX7_next_0 21 rfl rfl)
theorem dX7_next_24 : decode cX7_next 24 = .ok (.aload_n 0, 1) := dk_42 (dk_at dksX7_next_1 0 rfl rfl)
theorem dX7_next_25 : decode cX7_next 25 = .ok (.getfield 19, 3) := dk_180 0 19 (dk_at dksX7_next_1 1 rfl rfl)
theorem dX7_next_28 : decode cX7_next 28 = .ok (.invokevirtual 33, 3) := dk_182 0 33 (dk_at dksX7_next_1 4 rfl rfl)
theorem dX7_next_31 : decode cX7_next 31 = .ok (.goto 4, 3) := dk_167 0 4 (dk_at dksX7_next_1 7 rfl rfl)
theorem dX7_next_34 : decode cX7_next 34 = .ok (.iconst 0, 1) := dk_3 (dk_at dksX7_next_1 10 rfl rfl)
theorem dX7_next_35 : decode cX7_next 35 = .ok (.ireturn, 1) := dk_172 (dk_at dksX7_next_1 11 rfl rfl)
abbrev cX7_takes : ByteArray := prog_6_method_3_code
def yX7_takes : MethodName := ⟨RX7, "takes", "(I)Z"⟩
def dkwX7_takes_1 : List UInt8 := [167, 0, 4, 3, 96, 181, 0, 19, 28, 172]
abbrev dktX7_takes_1 : List UInt8 := dkwX7_takes_1 ++ []
def dkwX7_takes_0 : List UInt8 := [42, 182, 0, 37, 27, 160, 0, 7, 4, 167, 0, 4, 3, 61, 42, 89, 180, 0, 19, 28, 153, 0, 7, 4]
abbrev dktX7_takes_0 : List UInt8 := dkwX7_takes_0 ++ dktX7_takes_1
theorem dksX7_takes_0 : cX7_takes.data.toList.drop 0 = dktX7_takes_0 := by decide +kernel
theorem dksX7_takes_1 : cX7_takes.data.toList.drop 24 = dktX7_takes_1 := dk_seg dksX7_takes_0 24 rfl rfl
theorem dX7_takes_0 : decode cX7_takes 0 = .ok (.aload_n 0, 1) := dk_42 (dk_at dksX7_takes_0 0 rfl rfl)
theorem dX7_takes_1 : decode cX7_takes 1 = .ok (.invokevirtual 37, 3) := dk_182 0 37 (dk_at dksX7_takes_0 1 rfl rfl)
theorem dX7_takes_4 : decode cX7_takes 4 = .ok (.iload_n 1, 1) := dk_27 (dk_at dksX7_takes_0 4 rfl rfl)
theorem dX7_takes_5 : decode cX7_takes 5 = .ok (.if_icmp .ne 7, 3) := dk_160 0 7 (dk_at dksX7_takes_0 5 rfl rfl)
theorem dX7_takes_8 : decode cX7_takes 8 = .ok (.iconst 1, 1) := dk_4 (dk_at dksX7_takes_0 8 rfl rfl)
theorem dX7_takes_9 : decode cX7_takes 9 = .ok (.goto 4, 3) := dk_167 0 4 (dk_at dksX7_takes_0 9 rfl rfl)
theorem dX7_takes_12 : decode cX7_takes 12 = .ok (.iconst 0, 1) := dk_3 (dk_at dksX7_takes_0 12 rfl rfl)
theorem dX7_takes_13 : decode cX7_takes 13 = .ok (.istore_n 2, 1) := dk_61 (dk_at dksX7_takes_0 13 rfl rfl)
theorem dX7_takes_14 : decode cX7_takes 14 = .ok (.aload_n 0, 1) := dk_42 (dk_at dksX7_takes_0 14 rfl rfl)
theorem dX7_takes_15 : decode cX7_takes 15 = .ok (.dup, 1) := dk_89 (dk_at dksX7_takes_0 15 rfl rfl)
theorem dX7_takes_16 : decode cX7_takes 16 = .ok (.getfield 19, 3) := dk_180 0 19 (dk_at dksX7_takes_0 16 rfl rfl)
theorem dX7_takes_19 : decode cX7_takes 19 = .ok (.iload_n 2, 1) := dk_28 (dk_at dksX7_takes_0 19 rfl rfl)
theorem dX7_takes_20 : decode cX7_takes 20 = .ok (.ifCond .eq 7, 3) := dk_153 0 7 (dk_at dksX7_takes_0 20 rfl rfl)
theorem dX7_takes_23 : decode cX7_takes 23 = .ok (.iconst 1, 1) := dk_4 (dk_at dksX7_takes_0 23 rfl rfl)
theorem dX7_takes_24 : decode cX7_takes 24 = .ok (.goto 4, 3) := dk_167 0 4 (dk_at dksX7_takes_1 0 rfl rfl)
theorem dX7_takes_27 : decode cX7_takes 27 = .ok (.iconst 0, 1) := dk_3 (dk_at dksX7_takes_1 3 rfl rfl)
theorem dX7_takes_28 : decode cX7_takes 28 = .ok (.iadd, 1) := dk_96 (dk_at dksX7_takes_1 4 rfl rfl)
theorem dX7_takes_29 : decode cX7_takes 29 = .ok (.putfield 19, 3) := dk_181 0 19 (dk_at dksX7_takes_1 5 rfl rfl)
theorem dX7_takes_32 : decode cX7_takes 32 = .ok (.iload_n 2, 1) := dk_28 (dk_at dksX7_takes_1 8 rfl rfl)
theorem dX7_takes_33 : decode cX7_takes 33 = .ok (.ireturn, 1) := dk_172 (dk_at dksX7_takes_1 9 rfl rfl)
abbrev cX7_group : ByteArray := prog_6_method_5_code
def yX7_group : MethodName := ⟨RX7, "group", "(I)Z"⟩
def dkwX7_group_4 : List UInt8 := [29, 153, 0, 7, 4, 167, 0, 4, 3, 96, 181, 0, 19, 29, 172]
abbrev dktX7_group_4 : List UInt8 := dkwX7_group_4 ++ []
def dkwX7_group_3 : List UInt8 := [182, 0, 37, 16, 48, 100, 79, 42, 180, 0, 15, 28, 5, 96, 46, 184, 0, 60, 62, 42, 89, 180, 0, 19]
abbrev dktX7_group_3 : List UInt8 := dkwX7_group_3 ++ dktX7_group_4
def dkwX7_group_2 : List UInt8 := [159, 0, 12, 42, 16, 64, 182, 0, 56, 154, 0, 5, 3, 172, 42, 180, 0, 15, 28, 5, 96, 42]
abbrev dktX7_group_2 : List UInt8 := dkwX7_group_2 ++ dktX7_group_3
def dkwX7_group_1 : List UInt8 := [42, 180, 0, 15, 28, 4, 96, 42, 4, 16, 99, 182, 0, 53, 79, 42, 180, 0, 15, 28, 4, 96, 46, 2]
abbrev dktX7_group_1 : List UInt8 := dkwX7_group_1 ++ dktX7_group_2
def dkwX7_group_0 : List UInt8 := [6, 42, 180, 0, 50, 104, 61, 42, 89, 180, 0, 50, 4, 96, 181, 0, 50, 42, 180, 0, 15, 28, 27, 79]
abbrev dktX7_group_0 : List UInt8 := dkwX7_group_0 ++ dktX7_group_1
theorem dksX7_group_0 : cX7_group.data.toList.drop 0 = dktX7_group_0 := by decide +kernel
theorem dksX7_group_1 : cX7_group.data.toList.drop 24 = dktX7_group_1 := dk_seg dksX7_group_0 24 rfl rfl
theorem dksX7_group_2 : cX7_group.data.toList.drop 48 = dktX7_group_2 := dk_seg dksX7_group_1 24 rfl rfl
theorem dksX7_group_3 : cX7_group.data.toList.drop 70 = dktX7_group_3 := dk_seg dksX7_group_2 22 rfl rfl
theorem dksX7_group_4 : cX7_group.data.toList.drop 94 = dktX7_group_4 := dk_seg dksX7_group_3 24 rfl rfl
theorem dX7_group_0 : decode cX7_group 0 = .ok (.iconst 3, 1) := dk_6 (dk_at dksX7_group_0 0 rfl rfl)
theorem dX7_group_1 : decode cX7_group 1 = .ok (.aload_n 0, 1) := dk_42 (dk_at dksX7_group_0 1 rfl rfl)
theorem dX7_group_2 : decode cX7_group 2 = .ok (.getfield 50, 3) := dk_180 0 50 (dk_at dksX7_group_0 2 rfl rfl)
theorem dX7_group_5 : decode cX7_group 5 = .ok (.imul, 1) := dk_104 (dk_at dksX7_group_0 5 rfl rfl)
theorem dX7_group_6 : decode cX7_group 6 = .ok (.istore_n 2, 1) := dk_61 (dk_at dksX7_group_0 6 rfl rfl)
theorem dX7_group_7 : decode cX7_group 7 = .ok (.aload_n 0, 1) := dk_42 (dk_at dksX7_group_0 7 rfl rfl)
theorem dX7_group_8 : decode cX7_group 8 = .ok (.dup, 1) := dk_89 (dk_at dksX7_group_0 8 rfl rfl)
theorem dX7_group_9 : decode cX7_group 9 = .ok (.getfield 50, 3) := dk_180 0 50 (dk_at dksX7_group_0 9 rfl rfl)
theorem dX7_group_12 : decode cX7_group 12 = .ok (.iconst 1, 1) := dk_4 (dk_at dksX7_group_0 12 rfl rfl)
theorem dX7_group_13 : decode cX7_group 13 = .ok (.iadd, 1) := dk_96 (dk_at dksX7_group_0 13 rfl rfl)
theorem dX7_group_14 : decode cX7_group 14 = .ok (.putfield 50, 3) := dk_181 0 50 (dk_at dksX7_group_0 14 rfl rfl)
theorem dX7_group_17 : decode cX7_group 17 = .ok (.aload_n 0, 1) := dk_42 (dk_at dksX7_group_0 17 rfl rfl)
theorem dX7_group_18 : decode cX7_group 18 = .ok (.getfield 15, 3) := dk_180 0 15 (dk_at dksX7_group_0 18 rfl rfl)
theorem dX7_group_21 : decode cX7_group 21 = .ok (.iload_n 2, 1) := dk_28 (dk_at dksX7_group_0 21 rfl rfl)
theorem dX7_group_22 : decode cX7_group 22 = .ok (.iload_n 1, 1) := dk_27 (dk_at dksX7_group_0 22 rfl rfl)
theorem dX7_group_23 : decode cX7_group 23 = .ok (.iastore, 1) := dk_79 (dk_at dksX7_group_0 23 rfl rfl)
theorem dX7_group_24 : decode cX7_group 24 = .ok (.aload_n 0, 1) := dk_42 (dk_at dksX7_group_1 0 rfl rfl)
theorem dX7_group_25 : decode cX7_group 25 = .ok (.getfield 15, 3) := dk_180 0 15 (dk_at dksX7_group_1 1 rfl rfl)
theorem dX7_group_28 : decode cX7_group 28 = .ok (.iload_n 2, 1) := dk_28 (dk_at dksX7_group_1 4 rfl rfl)
theorem dX7_group_29 : decode cX7_group 29 = .ok (.iconst 1, 1) := dk_4 (dk_at dksX7_group_1 5 rfl rfl)
theorem dX7_group_30 : decode cX7_group 30 = .ok (.iadd, 1) := dk_96 (dk_at dksX7_group_1 6 rfl rfl)
theorem dX7_group_31 : decode cX7_group 31 = .ok (.aload_n 0, 1) := dk_42 (dk_at dksX7_group_1 7 rfl rfl)
theorem dX7_group_32 : decode cX7_group 32 = .ok (.iconst 1, 1) := dk_4 (dk_at dksX7_group_1 8 rfl rfl)
theorem dX7_group_33 : decode cX7_group 33 = .ok (.bipush 99, 2) := dk_16 99 (dk_at dksX7_group_1 9 rfl rfl)
theorem dX7_group_35 : decode cX7_group 35 = .ok (.invokevirtual 53, 3) := dk_182 0 53 (dk_at dksX7_group_1 11 rfl rfl)
theorem dX7_group_38 : decode cX7_group 38 = .ok (.iastore, 1) := dk_79 (dk_at dksX7_group_1 14 rfl rfl)
theorem dX7_group_39 : decode cX7_group 39 = .ok (.aload_n 0, 1) := dk_42 (dk_at dksX7_group_1 15 rfl rfl)
theorem dX7_group_40 : decode cX7_group 40 = .ok (.getfield 15, 3) := dk_180 0 15 (dk_at dksX7_group_1 16 rfl rfl)
theorem dX7_group_43 : decode cX7_group 43 = .ok (.iload_n 2, 1) := dk_28 (dk_at dksX7_group_1 19 rfl rfl)
theorem dX7_group_44 : decode cX7_group 44 = .ok (.iconst 1, 1) := dk_4 (dk_at dksX7_group_1 20 rfl rfl)
theorem dX7_group_45 : decode cX7_group 45 = .ok (.iadd, 1) := dk_96 (dk_at dksX7_group_1 21 rfl rfl)
theorem dX7_group_46 : decode cX7_group 46 = .ok (.iaload, 1) := dk_46 (dk_at dksX7_group_1 22 rfl rfl)
theorem dX7_group_47 : decode cX7_group 47 = .ok (.iconst (-1), 1) := dk_2 (dk_at dksX7_group_1 23 rfl rfl)
theorem dX7_group_48 : decode cX7_group 48 = .ok (.if_icmp .eq 12, 3) := dk_159 0 12 (dk_at dksX7_group_2 0 rfl rfl)
theorem dX7_group_51 : decode cX7_group 51 = .ok (.aload_n 0, 1) := dk_42 (dk_at dksX7_group_2 3 rfl rfl)
theorem dX7_group_52 : decode cX7_group 52 = .ok (.bipush 64, 2) := dk_16 64 (dk_at dksX7_group_2 4 rfl rfl)
theorem dX7_group_54 : decode cX7_group 54 = .ok (.invokevirtual 56, 3) := dk_182 0 56 (dk_at dksX7_group_2 6 rfl rfl)
theorem dX7_group_57 : decode cX7_group 57 = .ok (.ifCond .ne 5, 3) := dk_154 0 5 (dk_at dksX7_group_2 9 rfl rfl)
theorem dX7_group_60 : decode cX7_group 60 = .ok (.iconst 0, 1) := dk_3 (dk_at dksX7_group_2 12 rfl rfl)
theorem dX7_group_61 : decode cX7_group 61 = .ok (.ireturn, 1) := dk_172 (dk_at dksX7_group_2 13 rfl rfl)
theorem dX7_group_62 : decode cX7_group 62 = .ok (.aload_n 0, 1) := dk_42 (dk_at dksX7_group_2 14 rfl rfl)
theorem dX7_group_63 : decode cX7_group 63 = .ok (.getfield 15, 3) := dk_180 0 15 (dk_at dksX7_group_2 15 rfl rfl)
theorem dX7_group_66 : decode cX7_group 66 = .ok (.iload_n 2, 1) := dk_28 (dk_at dksX7_group_2 18 rfl rfl)
theorem dX7_group_67 : decode cX7_group 67 = .ok (.iconst 2, 1) := dk_5 (dk_at dksX7_group_2 19 rfl rfl)
theorem dX7_group_68 : decode cX7_group 68 = .ok (.iadd, 1) := dk_96 (dk_at dksX7_group_2 20 rfl rfl)
theorem dX7_group_69 : decode cX7_group 69 = .ok (.aload_n 0, 1) := dk_42 (dk_at dksX7_group_2 21 rfl rfl)
theorem dX7_group_70 : decode cX7_group 70 = .ok (.invokevirtual 37, 3) := dk_182 0 37 (dk_at dksX7_group_3 0 rfl rfl)
theorem dX7_group_73 : decode cX7_group 73 = .ok (.bipush 48, 2) := dk_16 48 (dk_at dksX7_group_3 3 rfl rfl)
theorem dX7_group_75 : decode cX7_group 75 = .ok (.isub, 1) := dk_100 (dk_at dksX7_group_3 5 rfl rfl)
theorem dX7_group_76 : decode cX7_group 76 = .ok (.iastore, 1) := dk_79 (dk_at dksX7_group_3 6 rfl rfl)
theorem dX7_group_77 : decode cX7_group 77 = .ok (.aload_n 0, 1) := dk_42 (dk_at dksX7_group_3 7 rfl rfl)
theorem dX7_group_78 : decode cX7_group 78 = .ok (.getfield 15, 3) := dk_180 0 15 (dk_at dksX7_group_3 8 rfl rfl)
theorem dX7_group_81 : decode cX7_group 81 = .ok (.iload_n 2, 1) := dk_28 (dk_at dksX7_group_3 11 rfl rfl)
theorem dX7_group_82 : decode cX7_group 82 = .ok (.iconst 2, 1) := dk_5 (dk_at dksX7_group_3 12 rfl rfl)
theorem dX7_group_83 : decode cX7_group 83 = .ok (.iadd, 1) := dk_96 (dk_at dksX7_group_3 13 rfl rfl)
theorem dX7_group_84 : decode cX7_group 84 = .ok (.iaload, 1) := dk_46 (dk_at dksX7_group_3 14 rfl rfl)
theorem dX7_group_85 : decode cX7_group 85 = .ok (.invokestatic 60, 3) := dk_184 0 60 (dk_at dksX7_group_3 15 rfl rfl)
theorem dX7_group_88 : decode cX7_group 88 = .ok (.istore_n 3, 1) := dk_62 (dk_at dksX7_group_3 18 rfl rfl)
theorem dX7_group_89 : decode cX7_group 89 = .ok (.aload_n 0, 1) := dk_42 (dk_at dksX7_group_3 19 rfl rfl)
theorem dX7_group_90 : decode cX7_group 90 = .ok (.dup, 1) := dk_89 (dk_at dksX7_group_3 20 rfl rfl)
theorem dX7_group_91 : decode cX7_group 91 = .ok (.getfield 19, 3) := dk_180 0 19 (dk_at dksX7_group_3 21 rfl rfl)
theorem dX7_group_94 : decode cX7_group 94 = .ok (.iload_n 3, 1) := dk_29 (dk_at dksX7_group_4 0 rfl rfl)
theorem dX7_group_95 : decode cX7_group 95 = .ok (.ifCond .eq 7, 3) := dk_153 0 7 (dk_at dksX7_group_4 1 rfl rfl)
theorem dX7_group_98 : decode cX7_group 98 = .ok (.iconst 1, 1) := dk_4 (dk_at dksX7_group_4 4 rfl rfl)
theorem dX7_group_99 : decode cX7_group 99 = .ok (.goto 4, 3) := dk_167 0 4 (dk_at dksX7_group_4 5 rfl rfl)
theorem dX7_group_102 : decode cX7_group 102 = .ok (.iconst 0, 1) := dk_3 (dk_at dksX7_group_4 8 rfl rfl)
theorem dX7_group_103 : decode cX7_group 103 = .ok (.iadd, 1) := dk_96 (dk_at dksX7_group_4 9 rfl rfl)
theorem dX7_group_104 : decode cX7_group 104 = .ok (.putfield 19, 3) := dk_181 0 19 (dk_at dksX7_group_4 10 rfl rfl)
theorem dX7_group_107 : decode cX7_group 107 = .ok (.iload_n 3, 1) := dk_29 (dk_at dksX7_group_4 13 rfl rfl)
theorem dX7_group_108 : decode cX7_group 108 = .ok (.ireturn, 1) := dk_172 (dk_at dksX7_group_4 14 rfl rfl)
theorem q139 : (Jvm.Cond.initialized "FountainPark$Reader") ∈ lw_all := lw_g (lw_at lw_m1 47 rfl) rfl
theorem q509 : (Jvm.Cond.fieldLinkNest "FountainPark$Reader" (23 : Nat) "FountainPark" "text" "Ljava/lang/StringBuilder;" "FountainPark") ∈ lw_tbl := lw_at lw_m2 177 rfl
theorem q823 : (Jvm.Cond.instantiable "FountainPark$Reader" (4 : Nat)) ∈ lw_all := lw_g (lw_at lw_m4 11 rfl) rfl
theorem q825 : (Jvm.Cond.instanceMethod ({ cls := "FountainPark$Reader", name := "<init>", desc := "(LFountainPark;)V" } : Jvm.MethodName)) ∈ lw_all := lw_g (lw_at lw_m4 13 rfl) rfl
theorem q826 : (Jvm.Cond.code ({ cls := "FountainPark$Reader", name := "<init>", desc := "(LFountainPark;)V" } : Jvm.MethodName) prog_6_method_1_code (2 : Nat) (Option.none : Option Jvm.ClassFile.FieldType)) ∈ lw_all := lw_g (lw_at lw_m4 14 rfl) rfl
theorem q827 : (Jvm.Cond.methodLink "FountainPark$Reader" (9 : Nat) ({ cls := "java/lang/Object", name := "<init>", desc := "()V" } : Jvm.MethodName)) ∈ lw_all := lw_g (lw_at lw_m4 15 rfl) rfl
theorem q828 : (Jvm.Cond.fieldLink "FountainPark$Reader" (15 : Nat) "FountainPark$Reader" "parts" "[I") ∈ lw_all := lw_g (lw_at lw_m4 16 rfl) rfl
theorem q830 : (Jvm.Cond.fieldLink "FountainPark$Reader" (50 : Nat) "FountainPark$Reader" "many" "I") ∈ lw_all := lw_g (lw_at lw_m4 18 rfl) rfl
theorem q832 : (Jvm.Cond.fieldLink "FountainPark$Reader" (19 : Nat) "FountainPark$Reader" "place" "I") ∈ lw_all := lw_g (lw_at lw_m4 20 rfl) rfl
theorem q834 : (Jvm.Cond.fieldLink "FountainPark$Reader" (3 : Nat) "FountainPark$Reader" "this$0" "LFountainPark;") ∈ lw_all := lw_g (lw_at lw_m4 22 rfl) rfl
theorem q835 : (Jvm.Cond.laysFinal "FountainPark$Reader" "FountainPark$Reader" "parts" "[I") ∈ lw_all := lw_g (lw_at lw_m4 23 rfl) rfl
theorem q836 : (Jvm.Cond.soleField "FountainPark$Reader" "parts") ∈ lw_all := lw_g (lw_at lw_m4 24 rfl) rfl
theorem q837 : (Jvm.Cond.lays "FountainPark$Reader" "FountainPark$Reader" "many" "I") ∈ lw_all := lw_g (lw_at lw_m4 25 rfl) rfl
theorem q838 : (Jvm.Cond.soleField "FountainPark$Reader" "many") ∈ lw_all := lw_g (lw_at lw_m4 26 rfl) rfl
theorem q839 : (Jvm.Cond.lays "FountainPark$Reader" "FountainPark$Reader" "place" "I") ∈ lw_all := lw_g (lw_at lw_m4 27 rfl) rfl
theorem q840 : (Jvm.Cond.soleField "FountainPark$Reader" "place") ∈ lw_all := lw_g (lw_at lw_m4 28 rfl) rfl
theorem q841 : (Jvm.Cond.laysFinal "FountainPark$Reader" "FountainPark$Reader" "this$0" "LFountainPark;") ∈ lw_all := lw_g (lw_at lw_m4 29 rfl) rfl
theorem q842 : (Jvm.Cond.soleField "FountainPark$Reader" "this$0") ∈ lw_all := lw_g (lw_at lw_m4 30 rfl) rfl
theorem q843 : (Jvm.Cond.superclass "FountainPark$Reader" "java/lang/Object") ∈ lw_all := lw_g (lw_at lw_m4 31 rfl) rfl
theorem q845 : (Jvm.Cond.instanceMethod ({ cls := "FountainPark$Reader", name := "areOutings", desc := "()Z" } : Jvm.MethodName)) ∈ lw_all := lw_g (lw_at lw_m4 33 rfl) rfl
theorem q846 : (Jvm.Cond.selects "FountainPark$Reader" ({ cls := "FountainPark$Reader", name := "areOutings", desc := "()Z" } : Jvm.MethodName) ({ cls := "FountainPark$Reader", name := "areOutings", desc := "()Z" } : Jvm.MethodName)) ∈ lw_all := lw_g (lw_at lw_m4 34 rfl) rfl
theorem q847 : (Jvm.Cond.code ({ cls := "FountainPark$Reader", name := "areOutings", desc := "()Z" } : Jvm.MethodName) prog_6_method_7_code (2 : Nat) (Option.some Jvm.ClassFile.FieldType.boolean)) ∈ lw_all := lw_g (lw_at lw_m4 35 rfl) rfl
theorem q848 : (Jvm.Cond.methodLink "FountainPark$Reader" (66 : Nat) ({ cls := "FountainPark$Reader", name := "part", desc := "()Z" } : Jvm.MethodName)) ∈ lw_all := lw_g (lw_at lw_m4 36 rfl) rfl
theorem q849 : (Jvm.Cond.privateMethod ({ cls := "FountainPark$Reader", name := "part", desc := "()Z" } : Jvm.MethodName)) ∈ lw_tbl := lw_at lw_m4 37 rfl
theorem q850 : (Jvm.Cond.instanceMethod ({ cls := "FountainPark$Reader", name := "part", desc := "()Z" } : Jvm.MethodName)) ∈ lw_all := lw_g (lw_at lw_m4 38 rfl) rfl
theorem q851 : (Jvm.Cond.code ({ cls := "FountainPark$Reader", name := "part", desc := "()Z" } : Jvm.MethodName) prog_6_method_6_code (3 : Nat) (Option.some Jvm.ClassFile.FieldType.boolean)) ∈ lw_all := lw_g (lw_at lw_m4 39 rfl) rfl
theorem q852 : (Jvm.Cond.methodLink "FountainPark$Reader" (53 : Nat) ({ cls := "FountainPark$Reader", name := "number", desc := "(II)I" } : Jvm.MethodName)) ∈ lw_all := lw_g (lw_at lw_m4 40 rfl) rfl
theorem q853 : (Jvm.Cond.privateMethod ({ cls := "FountainPark$Reader", name := "number", desc := "(II)I" } : Jvm.MethodName)) ∈ lw_tbl := lw_at lw_m4 41 rfl
theorem q854 : (Jvm.Cond.instanceMethod ({ cls := "FountainPark$Reader", name := "number", desc := "(II)I" } : Jvm.MethodName)) ∈ lw_all := lw_g (lw_at lw_m4 42 rfl) rfl
theorem q855 : (Jvm.Cond.code ({ cls := "FountainPark$Reader", name := "number", desc := "(II)I" } : Jvm.MethodName) prog_6_method_4_code (4 : Nat) (Option.some Jvm.ClassFile.FieldType.int)) ∈ lw_all := lw_g (lw_at lw_m4 43 rfl) rfl
theorem q856 : (Jvm.Cond.methodLink "FountainPark$Reader" (37 : Nat) ({ cls := "FountainPark$Reader", name := "next", desc := "()I" } : Jvm.MethodName)) ∈ lw_all := lw_g (lw_at lw_m4 44 rfl) rfl
theorem q857 : (Jvm.Cond.privateMethod ({ cls := "FountainPark$Reader", name := "next", desc := "()I" } : Jvm.MethodName)) ∈ lw_tbl := lw_at lw_m4 45 rfl
theorem q858 : (Jvm.Cond.instanceMethod ({ cls := "FountainPark$Reader", name := "next", desc := "()I" } : Jvm.MethodName)) ∈ lw_all := lw_g (lw_at lw_m4 46 rfl) rfl
theorem q859 : (Jvm.Cond.code ({ cls := "FountainPark$Reader", name := "next", desc := "()I" } : Jvm.MethodName) prog_6_method_2_code (1 : Nat) (Option.some Jvm.ClassFile.FieldType.int)) ∈ lw_all := lw_g (lw_at lw_m4 47 rfl) rfl
theorem q860 : (Jvm.Cond.methodLink "FountainPark$Reader" (27 : Nat) ({ cls := "java/lang/StringBuilder", name := "length", desc := "()I" } : Jvm.MethodName)) ∈ lw_all := lw_g (lw_at lw_m4 48 rfl) rfl
theorem q861 : (Jvm.Cond.methodLink "FountainPark$Reader" (33 : Nat) ({ cls := "java/lang/StringBuilder", name := "charAt", desc := "(I)C" } : Jvm.MethodName)) ∈ lw_all := lw_g (lw_at lw_m4 49 rfl) rfl
theorem q876 : (Jvm.Cond.methodLinkNest "FountainPark$Reader" (40 : Nat) ({ cls := "FountainPark", name := "in", desc := "(III)Z" } : Jvm.MethodName) "FountainPark") ∈ lw_tbl := lw_at lw_m4 64 rfl
theorem q879 : (Jvm.Cond.methodLink "FountainPark$Reader" (44 : Nat) ({ cls := "java/lang/Math", name := "max", desc := "(II)I" } : Jvm.MethodName)) ∈ lw_all := lw_g (lw_at lw_m4 67 rfl) rfl
theorem q880 : (Jvm.Cond.methodLink "FountainPark$Reader" (56 : Nat) ({ cls := "FountainPark$Reader", name := "takes", desc := "(I)Z" } : Jvm.MethodName)) ∈ lw_all := lw_g (lw_at lw_m4 68 rfl) rfl
theorem q881 : (Jvm.Cond.privateMethod ({ cls := "FountainPark$Reader", name := "takes", desc := "(I)Z" } : Jvm.MethodName)) ∈ lw_tbl := lw_at lw_m4 69 rfl
theorem q882 : (Jvm.Cond.instanceMethod ({ cls := "FountainPark$Reader", name := "takes", desc := "(I)Z" } : Jvm.MethodName)) ∈ lw_all := lw_g (lw_at lw_m4 70 rfl) rfl
theorem q883 : (Jvm.Cond.code ({ cls := "FountainPark$Reader", name := "takes", desc := "(I)Z" } : Jvm.MethodName) prog_6_method_3_code (3 : Nat) (Option.some Jvm.ClassFile.FieldType.boolean)) ∈ lw_all := lw_g (lw_at lw_m4 71 rfl) rfl
theorem q884 : (Jvm.Cond.methodLink "FountainPark$Reader" (63 : Nat) ({ cls := "FountainPark$Reader", name := "group", desc := "(I)Z" } : Jvm.MethodName)) ∈ lw_all := lw_g (lw_at lw_m4 72 rfl) rfl
theorem q885 : (Jvm.Cond.privateMethod ({ cls := "FountainPark$Reader", name := "group", desc := "(I)Z" } : Jvm.MethodName)) ∈ lw_tbl := lw_at lw_m4 73 rfl
theorem q886 : (Jvm.Cond.instanceMethod ({ cls := "FountainPark$Reader", name := "group", desc := "(I)Z" } : Jvm.MethodName)) ∈ lw_all := lw_g (lw_at lw_m4 74 rfl) rfl
theorem q887 : (Jvm.Cond.code ({ cls := "FountainPark$Reader", name := "group", desc := "(I)Z" } : Jvm.MethodName) prog_6_method_5_code (4 : Nat) (Option.some Jvm.ClassFile.FieldType.boolean)) ∈ lw_all := lw_g (lw_at lw_m4 75 rfl) rfl
theorem q888 : (Jvm.Cond.methodLinkNest "FountainPark$Reader" (60 : Nat) ({ cls := "FountainPark", name := "isPlace", desc := "(I)Z" } : Jvm.MethodName) "FountainPark") ∈ lw_tbl := lw_at lw_m4 76 rfl
theorem q1554 : (Jvm.Cond.selects "FountainPark$Reader" ({ cls := "java/lang/Object", name := "getClass", desc := "()Ljava/lang/Class;" } : Jvm.MethodName) ({ cls := "java/lang/Object", name := "getClass", desc := "()Ljava/lang/Class;" } : Jvm.MethodName)) ∈ lw_all := lw_g (lw_at lw_m7 22 rfl) rfl
theorem q2555 : (Jvm.Cond.castable "FountainPark$Reader" "java/lang/Object") ∈ lw_tbl := lw_at lw_m11 63 rfl
theorem in_X7 : ∀ w ∈ wsX70, w ∈ lw_all := lw_in wsX70 [835, 837, 839, 841] (by decide +kernel) (by decide +kernel)
