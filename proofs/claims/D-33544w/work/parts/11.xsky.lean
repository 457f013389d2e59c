/-! OfferSky -/
set_option maxRecDepth 100000
def RX1 : String := "OfferSky"
def TX1 : u_T := fun k => match k with
  | 0 => ("OfferSky", "state", "LOfferSky$State;", false)
  | 1 => ("OfferSky", "saved", "Ljava/util/ArrayDeque;", true)
  | 2 => ("OfferSky", "slots", "[LOfferSky$State;", true)
  | 3 => ("OfferSky", "buffer", "Ljava/lang/StringBuilder;", true)
  | _ => ("OfferSky", "hash", "J", false)
def tyX1 : Nat → FieldType := fun k => match k with
  | 0 => .object "OfferSky$State"
  | 1 => .object "java/util/ArrayDeque"
  | 2 => .array (.object "OfferSky$State")
  | 3 => .object "java/lang/StringBuilder"
  | _ => .long
abbrev wsX10 : List Cond := u_ws RX1 TX1 5
theorem nmX1 : ∀ a, a < 5 → ∀ b, b < 5 → a ≠ b → (TX1 a).2.1 ≠ (TX1 b).2.1 := by decide +kernel
theorem tyX1_ok : ∀ k, k < 5 → parseFieldDescriptor (TX1 k).2.2.1 = some (tyX1 k) := by decide +kernel
abbrev cX1_init : ByteArray := prog_1_method_10_code
def yX1_init : MethodName := ⟨RX1, "<init>", "()V"⟩
def dkwX1_init_2 : List UInt8 := [181, 0, 49, 177]
abbrev dktX1_init_2 : List UInt8 := dkwX1_init_2 ++ []
def dkwX1_init_1 : List UInt8 := [183, 0, 35, 181, 0, 38, 42, 5, 189, 0, 26, 181, 0, 42, 42, 187, 0, 46, 89, 16, 60, 183, 0, 48]
abbrev dktX1_init_1 : List UInt8 := dkwX1_init_1 ++ dktX1_init_2
def dkwX1_init_0 : List UInt8 := [42, 183, 0, 23, 42, 187, 0, 26, 89, 183, 0, 28, 181, 0, 29, 42, 187, 0, 33, 89, 16, 6]
abbrev dktX1_init_0 : List UInt8 := dkwX1_init_0 ++ dktX1_init_1
theorem dksX1_init_0 : cX1_init.data.toList.drop 0 = dktX1_init_0 := by decide +kernel
theorem dksX1_init_1 : cX1_init.data.toList.drop 22 = dktX1_init_1 := dk_seg dksX1_init_0 22 rfl rfl
theorem dksX1_init_2 : cX1_init.data.toList.drop 46 = dktX1_init_2 := dk_seg dksX1_init_1 24 rfl rfl
theorem dX1_init_0 : decode cX1_init 0 = .ok (.aload_n 0, 1) := dk_42 (dk_at dksX1_init_0 0 rfl rfl)
theorem dX1_init_1 : decode cX1_init 1 = .ok (.invokespecial 23, 3) := dk_183 0 23 (dk_at dksX1_init_0 1 rfl rfl)
theorem dX1_init_4 : decode cX1_init 4 = .ok (.aload_n 0, 1) := dk_42 (dk_at dksX1_init_0 4 rfl rfl)
theorem dX1_init_5 : decode cX1_init 5 = .ok (.new 26, 3) := dk_187 0 26 (dk_at dksX1_init_0 5 rfl rfl)
theorem dX1_init_8 : decode cX1_init 8 = .ok (.dup, 1) := dk_89 (dk_at dksX1_init_0 8 rfl rfl)
theorem dX1_init_9 : decode cX1_init 9 = .ok (.invokespecial 28, 3) := dk_183 0 28 (dk_at dksX1_init_0 9 rfl rfl)
theorem dX1_init_12 : decode cX1_init 12 = .ok (.putfield 29, 3) := dk_181 0 29 (dk_at dksX1_init_0 12 rfl rfl)
theorem dX1_init_15 : decode cX1_init 15 = .ok (.aload_n 0, 1) := dk_42 (dk_at dksX1_init_0 15 rfl rfl)
theorem dX1_init_16 : decode cX1_init 16 = .ok (.new 33, 3) := dk_187 0 33 (dk_at dksX1_init_0 16 rfl rfl)
theorem dX1_init_19 : decode cX1_init 19 = .ok (.dup, 1) := dk_89 (dk_at dksX1_init_0 19 rfl rfl)
theorem dX1_init_20 : decode cX1_init 20 = .ok (.bipush 6, 2) := dk_16 6 (dk_at dksX1_init_0 20 rfl rfl)
theorem dX1_init_22 : decode cX1_init 22 = .ok (.invokespecial 35, 3) := dk_183 0 35 (dk_at dksX1_init_1 0 rfl rfl)
theorem dX1_init_25 : decode cX1_init 25 = .ok (.putfield 38, 3) := dk_181 0 38 (dk_at dksX1_init_1 3 rfl rfl)
theorem dX1_init_28 : decode cX1_init 28 = .ok (.aload_n 0, 1) := dk_42 (dk_at dksX1_init_1 6 rfl rfl)
theorem dX1_init_29 : decode cX1_init 29 = .ok (.iconst 2, 1) := dk_5 (dk_at dksX1_init_1 7 rfl rfl)
theorem dX1_init_30 : decode cX1_init 30 = .ok (.anewarray 26, 3) := dk_189 0 26 (dk_at dksX1_init_1 8 rfl rfl)
theorem dX1_init_33 : decode cX1_init 33 = .ok (.putfield 42, 3) := dk_181 0 42 (dk_at dksX1_init_1 11 rfl rfl)
theorem dX1_init_36 : decode cX1_init 36 = .ok (.aload_n 0, 1) := dk_42 (dk_at dksX1_init_1 14 rfl rfl)
theorem dX1_init_37 : decode cX1_init 37 = .ok (.new 46, 3) := dk_187 0 46 (dk_at dksX1_init_1 15 rfl rfl)
theorem dX1_init_40 : decode cX1_init 40 = .ok (.dup, 1) := dk_89 (dk_at dksX1_init_1 18 rfl rfl)
theorem dX1_init_41 : decode cX1_init 41 = .ok (.bipush 60, 2) := dk_16 60 (dk_at dksX1_init_1 19 rfl rfl)
theorem dX1_init_43 : decode cX1_init 43 = .ok (.invokespecial 48, 3) := dk_183 0 48 (dk_at dksX1_init_1 21 rfl rfl)
theorem dX1_init_46 : decode cX1_init 46 = .ok (.putfield 49, 3) := dk_181 0 49 (dk_at dksX1_init_2 0 rfl rfl)
theorem dX1_init_49 : decode cX1_init 49 = .ok (.return_, 1) := dk_177 (dk_at dksX1_init_2 3 rfl rfl)
abbrev cX1_prune : ByteArray := prog_1_method_17_code
def yX1_prune : MethodName := ⟨RX1, "prune", "()I"⟩
def dkwX1_prune_0 : List UInt8 := [42, 182, 0, 97, 42, 180, 0, 29, 182, 0, 121, 172]
abbrev dktX1_prune_0 : List UInt8 := dkwX1_prune_0 ++ []
theorem dksX1_prune_0 : cX1_prune.data.toList.drop 0 = dktX1_prune_0 := by decide +kernel
theorem dX1_prune_0 : decode cX1_prune 0 = .ok (.aload_n 0, 1) := dk_42 (dk_at dksX1_prune_0 0 rfl rfl)
theorem dX1_prune_1 : decode cX1_prune 1 = .ok (.invokevirtual 97, 3) := dk_182 0 97 (dk_at dksX1_prune_0 1 rfl rfl)
theorem dX1_prune_4 : decode cX1_prune 4 = .ok (.aload_n 0, 1) := dk_42 (dk_at dksX1_prune_0 4 rfl rfl)
theorem dX1_prune_5 : decode cX1_prune 5 = .ok (.getfield 29, 3) := dk_180 0 29 (dk_at dksX1_prune_0 5 rfl rfl)
theorem dX1_prune_8 : decode cX1_prune 8 = .ok (.invokevirtual 121, 3) := dk_182 0 121 (dk_at dksX1_prune_0 8 rfl rfl)
theorem dX1_prune_11 : decode cX1_prune 11 = .ok (.ireturn, 1) := dk_172 (dk_at dksX1_prune_0 11 rfl rfl)
abbrev cX1_save : ByteArray := prog_1_method_11_code
def yX1_save : MethodName := ⟨RX1, "save", "()V"⟩
def dkwX1_save_1 : List UInt8 := [42, 180, 0, 29, 182, 0, 61, 182, 0, 65, 177]
abbrev dktX1_save_1 : List UInt8 := dkwX1_save_1 ++ []
def dkwX1_save_0 : List UInt8 := [42, 180, 0, 38, 182, 0, 53, 16, 6, 160, 0, 11, 42, 180, 0, 38, 182, 0, 57, 87, 42, 180, 0, 38]
abbrev dktX1_save_0 : List UInt8 := dkwX1_save_0 ++ dktX1_save_1
theorem dksX1_save_0 : cX1_save.data.toList.drop 0 = dktX1_save_0 := by decide +kernel
theorem dksX1_save_1 : cX1_save.data.toList.drop 24 = dktX1_save_1 := dk_seg dksX1_save_0 24 rfl rfl
theorem dX1_save_0 : decode cX1_save 0 = .ok (.aload_n 0, 1) := dk_42 (dk_at dksX1_save_0 0 rfl rfl)
theorem dX1_save_1 : decode cX1_save 1 = .ok (.getfield 38, 3) := dk_180 0 38 (dk_at dksX1_save_0 1 rfl rfl)
theorem dX1_save_4 : decode cX1_save 4 = .ok (.invokevirtual 53, 3) := dk_182 0 53 (dk_at dksX1_save_0 4 rfl rfl)
theorem dX1_save_7 : decode cX1_save 7 = .ok (.bipush 6, 2) := dk_16 6 (dk_at dksX1_save_0 7 rfl rfl)
theorem dX1_save_9 : decode cX1_save 9 = .ok (.if_icmp .ne 11, 3) := dk_160 0 11 (dk_at dksX1_save_0 9 rfl rfl)
theorem dX1_save_12 : decode cX1_save 12 = .ok (.aload_n 0, 1) := dk_42 (dk_at dksX1_save_0 12 rfl rfl)
theorem dX1_save_13 : decode cX1_save 13 = .ok (.getfield 38, 3) := dk_180 0 38 (dk_at dksX1_save_0 13 rfl rfl)
theorem dX1_save_16 : decode cX1_save 16 = .ok (.invokevirtual 57, 3) := dk_182 0 57 (dk_at dksX1_save_0 16 rfl rfl)
theorem dX1_save_19 : decode cX1_save 19 = .ok (.pop, 1) := dk_87 (dk_at dksX1_save_0 19 rfl rfl)
theorem dX1_save_20 : decode cX1_save 20 = .ok (.aload_n 0, 1) := dk_42 (dk_at dksX1_save_0 20 rfl rfl)
theorem dX1_save_21 : decode cX1_save 21 = .ok (.getfield 38, 3) := dk_180 0 38 (dk_at dksX1_save_0 21 rfl rfl)
theorem dX1_save_24 : decode cX1_save 24 = .ok (.aload_n 0, 1) := dk_42 (dk_at dksX1_save_1 0 rfl rfl)
theorem dX1_save_25 : decode cX1_save 25 = .ok (.getfield 29, 3) := dk_180 0 29 (dk_at dksX1_save_1 1 rfl rfl)
theorem dX1_save_28 : decode cX1_save 28 = .ok (.invokevirtual 61, 3) := dk_182 0 61 (dk_at dksX1_save_1 4 rfl rfl)
theorem dX1_save_31 : decode cX1_save 31 = .ok (.invokevirtual 65, 3) := dk_182 0 65 (dk_at dksX1_save_1 7 rfl rfl)
theorem dX1_save_34 : decode cX1_save 34 = .ok (.return_, 1) := dk_177 (dk_at dksX1_save_1 10 rfl rfl)
abbrev cX1_inRange : ByteArray := prog_1_method_1_code
def yX1_inRange : MethodName := ⟨RX1, "inRange", "(III)Z"⟩
def dkwX1_inRange_0 : List UInt8 := [26, 27, 161, 0, 12, 26, 28, 163, 0, 7, 4, 167, 0, 4, 3, 172]
abbrev dktX1_inRange_0 : List UInt8 := dkwX1_inRange_0 ++ []
theorem dksX1_inRange_0 : cX1_inRange.data.toList.drop 0 = dktX1_inRange_0 := by decide +kernel
theorem dX1_inRange_0 : decode cX1_inRange 0 = .ok (.iload_n 0, 1) := dk_26 (dk_at dksX1_inRange_0 0 rfl rfl)
theorem dX1_inRange_1 : decode cX1_inRange 1 = .ok (.iload_n 1, 1) := dk_27 (dk_at dksX1_inRange_0 1 rfl rfl)
theorem dX1_inRange_2 : decode cX1_inRange 2 = .ok (.if_icmp .lt 12, 3) := dk_161 0 12 (dk_at dksX1_inRange_0 2 rfl rfl)
theorem dX1_inRange_5 : decode cX1_inRange 5 = .ok (.iload_n 0, 1) := dk_26 (dk_at dksX1_inRange_0 5 rfl rfl)
theorem dX1_inRange_6 : decode cX1_inRange 6 = .ok (.iload_n 2, 1) := dk_28 (dk_at dksX1_inRange_0 6 rfl rfl)
theorem dX1_inRange_7 : decode cX1_inRange 7 = .ok (.if_icmp .gt 7, 3) := dk_163 0 7 (dk_at dksX1_inRange_0 7 rfl rfl)
theorem dX1_inRange_10 : decode cX1_inRange 10 = .ok (.iconst 1, 1) := dk_4 (dk_at dksX1_inRange_0 10 rfl rfl)
theorem dX1_inRange_11 : decode cX1_inRange 11 = .ok (.goto 4, 3) := dk_167 0 4 (dk_at dksX1_inRange_0 11 rfl rfl)
theorem dX1_inRange_14 : decode cX1_inRange 14 = .ok (.iconst 0, 1) := dk_3 (dk_at dksX1_inRange_0 14 rfl rfl)
theorem dX1_inRange_15 : decode cX1_inRange 15 = .ok (.ireturn, 1) := dk_172 (dk_at dksX1_inRange_0 15 rfl rfl)
abbrev cX1_has : ByteArray := prog_1_method_9_code
def yX1_has : MethodName := ⟨RX1, "has", "(II)Z"⟩
def dkwX1_has_0 : List UInt8 := [26, 27, 122, 4, 126, 4, 160, 0, 7, 4, 167, 0, 4, 3, 172]
abbrev dktX1_has_0 : List UInt8 := dkwX1_has_0 ++ []
theorem dksX1_has_0 : cX1_has.data.toList.drop 0 = dktX1_has_0 := by decide +kernel
theorem dX1_has_0 : decode cX1_has 0 = .ok (.iload_n 0, 1) := dk_26 (dk_at dksX1_has_0 0 rfl rfl)
theorem dX1_has_1 : decode cX1_has 1 = .ok (.iload_n 1, 1) := dk_27 (dk_at dksX1_has_0 1 rfl rfl)
theorem dX1_has_2 : decode cX1_has 2 = .ok (.ishr, 1) := dk_122 (dk_at dksX1_has_0 2 rfl rfl)
theorem dX1_has_3 : decode cX1_has 3 = .ok (.iconst 1, 1) := dk_4 (dk_at dksX1_has_0 3 rfl rfl)
theorem dX1_has_4 : decode cX1_has 4 = .ok (.iand, 1) := dk_126 (dk_at dksX1_has_0 4 rfl rfl)
theorem dX1_has_5 : decode cX1_has 5 = .ok (.iconst 1, 1) := dk_4 (dk_at dksX1_has_0 5 rfl rfl)
theorem dX1_has_6 : decode cX1_has 6 = .ok (.if_icmp .ne 7, 3) := dk_160 0 7 (dk_at dksX1_has_0 6 rfl rfl)
theorem dX1_has_9 : decode cX1_has 9 = .ok (.iconst 1, 1) := dk_4 (dk_at dksX1_has_0 9 rfl rfl)
theorem dX1_has_10 : decode cX1_has 10 = .ok (.goto 4, 3) := dk_167 0 4 (dk_at dksX1_has_0 10 rfl rfl)
theorem dX1_has_13 : decode cX1_has 13 = .ok (.iconst 0, 1) := dk_3 (dk_at dksX1_has_0 13 rfl rfl)
theorem dX1_has_14 : decode cX1_has 14 = .ok (.ireturn, 1) := dk_172 (dk_at dksX1_has_0 14 rfl rfl)
abbrev cX1_flag : ByteArray := prog_1_method_5_code
def yX1_flag : MethodName := ⟨RX1, "flag", "(Z)I"⟩
def dkwX1_flag_0 : List UInt8 := [26, 153, 0, 7, 4, 167, 0, 4, 3, 172]
abbrev dktX1_flag_0 : List UInt8 := dkwX1_flag_0 ++ []
theorem dksX1_flag_0 : cX1_flag.data.toList.drop 0 = dktX1_flag_0 := by decide +kernel
theorem dX1_flag_0 : decode cX1_flag 0 = .ok (.iload_n 0, 1) := dk_26 (dk_at dksX1_flag_0 0 rfl rfl)
theorem dX1_flag_1 : decode cX1_flag 1 = .ok (.ifCond .eq 7, 3) := dk_153 0 7 (dk_at dksX1_flag_0 1 rfl rfl)
theorem dX1_flag_4 : decode cX1_flag 4 = .ok (.iconst 1, 1) := dk_4 (dk_at dksX1_flag_0 4 rfl rfl)
theorem dX1_flag_5 : decode cX1_flag 5 = .ok (.goto 4, 3) := dk_167 0 4 (dk_at dksX1_flag_0 5 rfl rfl)
theorem dX1_flag_8 : decode cX1_flag 8 = .ok (.iconst 0, 1) := dk_3 (dk_at dksX1_flag_0 8 rfl rfl)
theorem dX1_flag_9 : decode cX1_flag 9 = .ok (.ireturn, 1) := dk_172 (dk_at dksX1_flag_0 9 rfl rfl)
abbrev cX1_clearBuffer : ByteArray := prog_1_method_22_code
def yX1_clearBuffer : MethodName := ⟨RX1, "clearBuffer", "()I"⟩
def dkwX1_clearBuffer_0 : List UInt8 := [42, 180, 0, 49, 182, 0, 141, 60, 42, 180, 0, 49, 3, 182, 0, 148, 27, 172]
abbrev dktX1_clearBuffer_0 : List UInt8 := dkwX1_clearBuffer_0 ++ []
theorem dksX1_clearBuffer_0 : cX1_clearBuffer.data.toList.drop 0 = dktX1_clearBuffer_0 := by decide +kernel
theorem dX1_clearBuffer_0 : decode cX1_clearBuffer 0 = .ok (.aload_n 0, 1) := dk_42 (dk_at dksX1_clearBuffer_0 0 rfl rfl)
theorem dX1_clearBuffer_1 : decode cX1_clearBuffer 1 = .ok (.getfield 49, 3) := dk_180 0 49 (dk_at dksX1_clearBuffer_0 1 rfl rfl)
theorem dX1_clearBuffer_4 : decode cX1_clearBuffer 4 = .ok (.invokevirtual 141, 3) := dk_182 0 141 (dk_at dksX1_clearBuffer_0 4 rfl rfl)
theorem dX1_clearBuffer_7 : decode cX1_clearBuffer 7 = .ok (.istore_n 1, 1) := dk_60 (dk_at dksX1_clearBuffer_0 7 rfl rfl)
theorem dX1_clearBuffer_8 : decode cX1_clearBuffer 8 = .ok (.aload_n 0, 1) := dk_42 (dk_at dksX1_clearBuffer_0 8 rfl rfl)
theorem dX1_clearBuffer_9 : decode cX1_clearBuffer 9 = .ok (.getfield 49, 3) := dk_180 0 49 (dk_at dksX1_clearBuffer_0 9 rfl rfl)
theorem dX1_clearBuffer_12 : decode cX1_clearBuffer 12 = .ok (.iconst 0, 1) := dk_3 (dk_at dksX1_clearBuffer_0 12 rfl rfl)
theorem dX1_clearBuffer_13 : decode cX1_clearBuffer 13 = .ok (.invokevirtual 148, 3) := dk_182 0 148 (dk_at dksX1_clearBuffer_0 13 rfl rfl)
theorem dX1_clearBuffer_16 : decode cX1_clearBuffer 16 = .ok (.iload_n 1, 1) := dk_27 (dk_at dksX1_clearBuffer_0 16 rfl rfl)
theorem dX1_clearBuffer_17 : decode cX1_clearBuffer 17 = .ok (.ireturn, 1) := dk_172 (dk_at dksX1_clearBuffer_0 17 rfl rfl)
abbrev cX1_firstError : ByteArray := prog_1_method_23_code
def yX1_firstError : MethodName := ⟨RX1, "firstError", "()I"⟩
def dkwX1_firstError_0 : List UInt8 := [187, 0, 151, 89, 42, 183, 0, 153, 76, 43, 182, 0, 156, 61, 43, 180, 0, 159, 172]
abbrev dktX1_firstError_0 : List UInt8 := dkwX1_firstError_0 ++ []
theorem dksX1_firstError_0 : cX1_firstError.data.toList.drop 0 = dktX1_firstError_0 := by decide +kernel
theorem dX1_firstError_0 : decode cX1_firstError 0 = .ok (.new 151, 3) := dk_187 0 151 (dk_at dksX1_firstError_0 0 rfl rfl)
theorem dX1_firstError_3 : decode cX1_firstError 3 = .ok (.dup, 1) := dk_89 (dk_at dksX1_firstError_0 3 rfl rfl)
theorem dX1_firstError_4 : decode cX1_firstError 4 = .ok (.aload_n 0, 1) := dk_42 (dk_at dksX1_firstError_0 4 rfl rfl)
theorem dX1_firstError_5 : decode cX1_firstError 5 = .ok (.invokespecial 153, 3) := dk_183 0 153 (dk_at dksX1_firstError_0 5 rfl rfl)
theorem dX1_firstError_8 : decode cX1_firstError 8 = .ok (.astore_n 1, 1) := dk_76 (dk_at dksX1_firstError_0 8 rfl rfl)
theorem dX1_firstError_9 : decode cX1_firstError 9 = .ok (.aload_n 1, 1) := dk_43 (dk_at dksX1_firstError_0 9 rfl rfl)
theorem dX1_firstError_10 : decode cX1_firstError 10 = .ok (.invokevirtual 156, 3) := dk_182 0 156 (dk_at dksX1_firstError_0 10 rfl rfl)
theorem dX1_firstError_13 : decode cX1_firstError 13 = .ok (.istore_n 2, 1) := dk_61 (dk_at dksX1_firstError_0 13 rfl rfl)
theorem dX1_firstError_14 : decode cX1_firstError 14 = .ok (.aload_n 1, 1) := dk_43 (dk_at dksX1_firstError_0 14 rfl rfl)
theorem dX1_firstError_15 : decode cX1_firstError 15 = .ok (.getfield 159, 3) := dk_180 0 159 (dk_at dksX1_firstError_0 15 rfl rfl)
theorem dX1_firstError_18 : decode cX1_firstError 18 = .ok (.ireturn, 1) := dk_172 (dk_at dksX1_firstError_0 18 rfl rfl)
abbrev cX1_savedStates : ByteArray := prog_1_method_29_code
def yX1_savedStates : MethodName := ⟨RX1, "savedStates", "()I"⟩
def dkwX1_savedStates_0 : List UInt8 := [42, 180, 0, 38, 182, 0, 53, 172]
abbrev dktX1_savedStates_0 : List UInt8 := dkwX1_savedStates_0 ++ []
theorem dksX1_savedStates_0 : cX1_savedStates.data.toList.drop 0 = dktX1_savedStates_0 := by decide +kernel
theorem dX1_savedStates_0 : decode cX1_savedStates 0 = .ok (.aload_n 0, 1) := dk_42 (dk_at dksX1_savedStates_0 0 rfl rfl)
theorem dX1_savedStates_1 : decode cX1_savedStates 1 = .ok (.getfield 38, 3) := dk_180 0 38 (dk_at dksX1_savedStates_0 1 rfl rfl)
theorem dX1_savedStates_4 : decode cX1_savedStates 4 = .ok (.invokevirtual 53, 3) := dk_182 0 53 (dk_at dksX1_savedStates_0 4 rfl rfl)
theorem dX1_savedStates_7 : decode cX1_savedStates 7 = .ok (.ireturn, 1) := dk_172 (dk_at dksX1_savedStates_0 7 rfl rfl)
abbrev cX1_offers : ByteArray := prog_1_method_30_code
def yX1_offers : MethodName := ⟨RX1, "offers", "()I"⟩
def dkwX1_offers_0 : List UInt8 := [42, 180, 0, 29, 180, 0, 167, 182, 0, 171, 172]
abbrev dktX1_offers_0 : List UInt8 := dkwX1_offers_0 ++ []
theorem dksX1_offers_0 : cX1_offers.data.toList.drop 0 = dktX1_offers_0 := by decide +kernel
theorem dX1_offers_0 : decode cX1_offers 0 = .ok (.aload_n 0, 1) := dk_42 (dk_at dksX1_offers_0 0 rfl rfl)
theorem dX1_offers_1 : decode cX1_offers 1 = .ok (.getfield 29, 3) := dk_180 0 29 (dk_at dksX1_offers_0 1 rfl rfl)
theorem dX1_offers_4 : decode cX1_offers 4 = .ok (.getfield 167, 3) := dk_180 0 167 (dk_at dksX1_offers_0 4 rfl rfl)
theorem dX1_offers_7 : decode cX1_offers 7 = .ok (.invokevirtual 171, 3) := dk_182 0 171 (dk_at dksX1_offers_0 7 rfl rfl)
theorem dX1_offers_10 : decode cX1_offers 10 = .ok (.ireturn, 1) := dk_172 (dk_at dksX1_offers_0 10 rfl rfl)
abbrev cX1_counting : ByteArray := prog_1_method_37_code
def yX1_counting : MethodName := ⟨RX1, "counting", "()I"⟩
def dkwX1_counting_0 : List UInt8 := [42, 180, 0, 29, 182, 0, 200, 182, 0, 171, 172]
abbrev dktX1_counting_0 : List UInt8 := dkwX1_counting_0 ++ []
theorem dksX1_counting_0 : cX1_counting.data.toList.drop 0 = dktX1_counting_0 := by decide +kernel
theorem dX1_counting_0 : decode cX1_counting 0 = .ok (.aload_n 0, 1) := dk_42 (dk_at dksX1_counting_0 0 rfl rfl)
theorem dX1_counting_1 : decode cX1_counting 1 = .ok (.getfield 29, 3) := dk_180 0 29 (dk_at dksX1_counting_0 1 rfl rfl)
theorem dX1_counting_4 : decode cX1_counting 4 = .ok (.invokevirtual 200, 3) := dk_182 0 200 (dk_at dksX1_counting_0 4 rfl rfl)
theorem dX1_counting_7 : decode cX1_counting 7 = .ok (.invokevirtual 171, 3) := dk_182 0 171 (dk_at dksX1_counting_0 7 rfl rfl)
theorem dX1_counting_10 : decode cX1_counting 10 = .ok (.ireturn, 1) := dk_172 (dk_at dksX1_counting_0 10 rfl rfl)
abbrev cX1_toldByPairs : ByteArray := prog_1_method_46_code
def yX1_toldByPairs : MethodName := ⟨RX1, "toldByPairs", "()I"⟩
theorem dX1_toldByPairs_0 : decode cX1_toldByPairs 0 = .ok (.aload_n 0, 1) := by decide +kernel
theorem dX1_toldByPairs_1 : decode cX1_toldByPairs 1 = .ok (.invokevirtual 240, 3) := by decide +kernel
theorem dX1_toldByPairs_4 : decode cX1_toldByPairs 4 = .ok (.ireturn, 1) := by decide +kernel
abbrev cX1_manyTold : ByteArray := prog_1_method_45_code
def yX1_manyTold : MethodName := ⟨RX1, "manyTold", "()I"⟩
def dkwX1_manyTold_0 : List UInt8 := [42, 180, 0, 29, 42, 180, 0, 29, 182, 0, 200, 182, 0, 236, 182, 0, 171, 172]
abbrev dktX1_manyTold_0 : List UInt8 := dkwX1_manyTold_0 ++ []
theorem dksX1_manyTold_0 : cX1_manyTold.data.toList.drop 0 = dktX1_manyTold_0 := by decide +kernel
theorem dX1_manyTold_0 : decode cX1_manyTold 0 = .ok (.aload_n 0, 1) := dk_42 (dk_at dksX1_manyTold_0 0 rfl rfl)
theorem dX1_manyTold_1 : decode cX1_manyTold 1 = .ok (.getfield 29, 3) := dk_180 0 29 (dk_at dksX1_manyTold_0 1 rfl rfl)
theorem dX1_manyTold_4 : decode cX1_manyTold 4 = .ok (.aload_n 0, 1) := dk_42 (dk_at dksX1_manyTold_0 4 rfl rfl)
theorem dX1_manyTold_5 : decode cX1_manyTold 5 = .ok (.getfield 29, 3) := dk_180 0 29 (dk_at dksX1_manyTold_0 5 rfl rfl)
theorem dX1_manyTold_8 : decode cX1_manyTold 8 = .ok (.invokevirtual 200, 3) := dk_182 0 200 (dk_at dksX1_manyTold_0 8 rfl rfl)
theorem dX1_manyTold_11 : decode cX1_manyTold 11 = .ok (.invokevirtual 236, 3) := dk_182 0 236 (dk_at dksX1_manyTold_0 11 rfl rfl)
theorem dX1_manyTold_14 : decode cX1_manyTold 14 = .ok (.invokevirtual 171, 3) := dk_182 0 171 (dk_at dksX1_manyTold_0 14 rfl rfl)
theorem dX1_manyTold_17 : decode cX1_manyTold 17 = .ok (.ireturn, 1) := dk_172 (dk_at dksX1_manyTold_0 17 rfl rfl)
abbrev cX1_toldBySums : ByteArray := prog_1_method_47_code
def yX1_toldBySums : MethodName := ⟨RX1, "toldBySums", "()I"⟩
def dkwX1_toldBySums_0 : List UInt8 := [42, 180, 0, 29, 182, 0, 243, 172]
abbrev dktX1_toldBySums_0 : List UInt8 := dkwX1_toldBySums_0 ++ []
theorem dksX1_toldBySums_0 : cX1_toldBySums.data.toList.drop 0 = dktX1_toldBySums_0 := by decide +kernel
theorem dX1_toldBySums_0 : decode cX1_toldBySums 0 = .ok (.aload_n 0, 1) := dk_42 (dk_at dksX1_toldBySums_0 0 rfl rfl)
theorem dX1_toldBySums_1 : decode cX1_toldBySums 1 = .ok (.getfield 29, 3) := dk_180 0 29 (dk_at dksX1_toldBySums_0 1 rfl rfl)
theorem dX1_toldBySums_4 : decode cX1_toldBySums 4 = .ok (.invokevirtual 243, 3) := dk_182 0 243 (dk_at dksX1_toldBySums_0 4 rfl rfl)
theorem dX1_toldBySums_7 : decode cX1_toldBySums 7 = .ok (.ireturn, 1) := dk_172 (dk_at dksX1_toldBySums_0 7 rfl rfl)
abbrev cX1_layers : ByteArray := prog_1_method_51_code
def yX1_layers : MethodName := ⟨RX1, "layers", "()I"⟩
def dkwX1_layers_0 : List UInt8 := [42, 180, 0, 29, 42, 180, 0, 29, 182, 0, 252, 182, 1, 3, 172]
abbrev dktX1_layers_0 : List UInt8 := dkwX1_layers_0 ++ []
theorem dksX1_layers_0 : cX1_layers.data.toList.drop 0 = dktX1_layers_0 := by decide +kernel
theorem dX1_layers_0 : decode cX1_layers 0 = .ok (.aload_n 0, 1) := dk_42 (dk_at dksX1_layers_0 0 rfl rfl)
theorem dX1_layers_1 : decode cX1_layers 1 = .ok (.getfield 29, 3) := dk_180 0 29 (dk_at dksX1_layers_0 1 rfl rfl)
theorem dX1_layers_4 : decode cX1_layers 4 = .ok (.aload_n 0, 1) := dk_42 (dk_at dksX1_layers_0 4 rfl rfl)
theorem dX1_layers_5 : decode cX1_layers 5 = .ok (.getfield 29, 3) := dk_180 0 29 (dk_at dksX1_layers_0 5 rfl rfl)
theorem dX1_layers_8 : decode cX1_layers 8 = .ok (.invokevirtual 252, 3) := dk_182 0 252 (dk_at dksX1_layers_0 8 rfl rfl)
theorem dX1_layers_11 : decode cX1_layers 11 = .ok (.invokevirtual 259, 3) := dk_182 1 3 (dk_at dksX1_layers_0 11 rfl rfl)
theorem dX1_layers_14 : decode cX1_layers 14 = .ok (.ireturn, 1) := dk_172 (dk_at dksX1_layers_0 14 rfl rfl)
abbrev cX1_coveredByTwo : ByteArray := prog_1_method_63_code
def yX1_coveredByTwo : MethodName := ⟨RX1, "coveredByTwo", "()I"⟩
def dkwX1_coveredByTwo_0 : List UInt8 := [42, 180, 0, 29, 182, 1, 42, 172]
abbrev dktX1_coveredByTwo_0 : List UInt8 := dkwX1_coveredByTwo_0 ++ []
theorem dksX1_coveredByTwo_0 : cX1_coveredByTwo.data.toList.drop 0 = dktX1_coveredByTwo_0 := by decide +kernel
theorem dX1_coveredByTwo_0 : decode cX1_coveredByTwo 0 = .ok (.aload_n 0, 1) := dk_42 (dk_at dksX1_coveredByTwo_0 0 rfl rfl)
theorem dX1_coveredByTwo_1 : decode cX1_coveredByTwo 1 = .ok (.getfield 29, 3) := dk_180 0 29 (dk_at dksX1_coveredByTwo_0 1 rfl rfl)
theorem dX1_coveredByTwo_4 : decode cX1_coveredByTwo 4 = .ok (.invokevirtual 298, 3) := dk_182 1 42 (dk_at dksX1_coveredByTwo_0 4 rfl rfl)
theorem dX1_coveredByTwo_7 : decode cX1_coveredByTwo 7 = .ok (.ireturn, 1) := dk_172 (dk_at dksX1_coveredByTwo_0 7 rfl rfl)
abbrev cX1_added : ByteArray := prog_1_method_70_code
def yX1_added : MethodName := ⟨RX1, "added", "()I"⟩
def dkwX1_added_0 : List UInt8 := [42, 180, 0, 29, 180, 1, 66, 172]
abbrev dktX1_added_0 : List UInt8 := dkwX1_added_0 ++ []
theorem dksX1_added_0 : cX1_added.data.toList.drop 0 = dktX1_added_0 := by decide +kernel
theorem dX1_added_0 : decode cX1_added 0 = .ok (.aload_n 0, 1) := dk_42 (dk_at dksX1_added_0 0 rfl rfl)
theorem dX1_added_1 : decode cX1_added 1 = .ok (.getfield 29, 3) := dk_180 0 29 (dk_at dksX1_added_0 1 rfl rfl)
theorem dX1_added_4 : decode cX1_added 4 = .ok (.getfield 322, 3) := dk_180 1 66 (dk_at dksX1_added_0 4 rfl rfl)
theorem dX1_added_7 : decode cX1_added 7 = .ok (.ireturn, 1) := dk_172 (dk_at dksX1_added_0 7 rfl rfl)
abbrev cX1_removed : ByteArray := prog_1_method_71_code
def yX1_removed : MethodName := ⟨RX1, "removed", "()I"⟩
def dkwX1_removed_0 : List UInt8 := [42, 180, 0, 29, 180, 1, 69, 172]
abbrev dktX1_removed_0 : List UInt8 := dkwX1_removed_0 ++ []
theorem dksX1_removed_0 : cX1_removed.data.toList.drop 0 = dktX1_removed_0 := by decide +kernel
theorem dX1_removed_0 : decode cX1_removed 0 = .ok (.aload_n 0, 1) := dk_42 (dk_at dksX1_removed_0 0 rfl rfl)
theorem dX1_removed_1 : decode cX1_removed 1 = .ok (.getfield 29, 3) := dk_180 0 29 (dk_at dksX1_removed_0 1 rfl rfl)
theorem dX1_removed_4 : decode cX1_removed 4 = .ok (.getfield 325, 3) := dk_180 1 69 (dk_at dksX1_removed_0 4 rfl rfl)
theorem dX1_removed_7 : decode cX1_removed 7 = .ok (.ireturn, 1) := dk_172 (dk_at dksX1_removed_0 7 rfl rfl)
abbrev cX1_beatings : ByteArray := prog_1_method_72_code
def yX1_beatings : MethodName := ⟨RX1, "beatings", "()I"⟩
def dkwX1_beatings_0 : List UInt8 := [42, 180, 0, 29, 182, 1, 72, 172]
abbrev dktX1_beatings_0 : List UInt8 := dkwX1_beatings_0 ++ []
theorem dksX1_beatings_0 : cX1_beatings.data.toList.drop 0 = dktX1_beatings_0 := by decide +kernel
theorem dX1_beatings_0 : decode cX1_beatings 0 = .ok (.aload_n 0, 1) := dk_42 (dk_at dksX1_beatings_0 0 rfl rfl)
theorem dX1_beatings_1 : decode cX1_beatings 1 = .ok (.getfield 29, 3) := dk_180 0 29 (dk_at dksX1_beatings_0 1 rfl rfl)
theorem dX1_beatings_4 : decode cX1_beatings 4 = .ok (.invokevirtual 328, 3) := dk_182 1 72 (dk_at dksX1_beatings_0 4 rfl rfl)
theorem dX1_beatings_7 : decode cX1_beatings 7 = .ok (.ireturn, 1) := dk_172 (dk_at dksX1_beatings_0 7 rfl rfl)
abbrev cX1_toldShare : ByteArray := prog_1_method_73_code
def yX1_toldShare : MethodName := ⟨RX1, "toldShare", "()D"⟩
def dkwX1_toldShare_0 : List UInt8 := [42, 180, 0, 29, 182, 1, 75, 175]
abbrev dktX1_toldShare_0 : List UInt8 := dkwX1_toldShare_0 ++ []
theorem dksX1_toldShare_0 : cX1_toldShare.data.toList.drop 0 = dktX1_toldShare_0 := by decide +kernel
theorem dX1_toldShare_0 : decode cX1_toldShare 0 = .ok (.aload_n 0, 1) := dk_42 (dk_at dksX1_toldShare_0 0 rfl rfl)
theorem dX1_toldShare_1 : decode cX1_toldShare 1 = .ok (.getfield 29, 3) := dk_180 0 29 (dk_at dksX1_toldShare_0 1 rfl rfl)
theorem dX1_toldShare_4 : decode cX1_toldShare 4 = .ok (.invokevirtual 331, 3) := dk_182 1 75 (dk_at dksX1_toldShare_0 4 rfl rfl)
theorem dX1_toldShare_7 : decode cX1_toldShare 7 = .ok (.dreturn, 1) := dk_175 (dk_at dksX1_toldShare_0 7 rfl rfl)
abbrev cX1_digest : ByteArray := prog_1_method_80_code
def yX1_digest : MethodName := ⟨RX1, "digest", "()J"⟩
def dkwX1_digest_7 : List UInt8 := [182, 1, 117, 133, 182, 1, 85, 132, 1, 1, 167, 255, 229, 42, 180, 1, 81, 173]
abbrev dktX1_digest_7 : List UInt8 := dkwX1_digest_7 ++ []
def dkwX1_digest_6 : List UInt8 := [182, 1, 85, 3, 60, 27, 42, 180, 0, 49, 182, 0, 141, 162, 0, 22, 42, 42, 180, 0, 49, 27]
abbrev dktX1_digest_6 : List UInt8 := dkwX1_digest_6 ++ dktX1_digest_7
def dkwX1_digest_5 : List UInt8 := [184, 1, 7, 133, 182, 1, 85, 132, 3, 1, 167, 255, 225, 42, 42, 180, 0, 49, 182, 0, 141, 133]
abbrev dktX1_digest_5 : List UInt8 := dkwX1_digest_5 ++ dktX1_digest_6
def dkwX1_digest_4 : List UInt8 := [61, 3, 62, 29, 28, 162, 0, 32, 43, 29, 50, 58, 4, 42, 25, 4, 198, 0, 7, 4, 167, 0, 4, 3]
abbrev dktX1_digest_4 : List UInt8 := dkwX1_digest_4 ++ dktX1_digest_5
def dkwX1_digest_3 : List UInt8 := [182, 1, 85, 42, 42, 180, 0, 29, 182, 1, 75, 184, 1, 111, 182, 1, 85, 42, 180, 0, 42, 76, 43, 190]
abbrev dktX1_digest_3 : List UInt8 := dkwX1_digest_3 ++ dktX1_digest_4
def dkwX1_digest_2 : List UInt8 := [182, 1, 85, 42, 42, 180, 0, 29, 182, 1, 72, 133, 182, 1, 85, 42, 42, 180, 0, 38, 182, 0, 53, 133]
abbrev dktX1_digest_2 : List UInt8 := dkwX1_digest_2 ++ dktX1_digest_3
def dkwX1_digest_1 : List UInt8 := [182, 1, 108, 42, 42, 180, 0, 29, 180, 1, 66, 133, 182, 1, 85, 42, 42, 180, 0, 29, 180, 1, 69, 133]
abbrev dktX1_digest_1 : List UInt8 := dkwX1_digest_1 ++ dktX1_digest_2
def dkwX1_digest_0 : List UInt8 := [42, 20, 1, 94, 181, 1, 81, 42, 182, 1, 96, 42, 182, 1, 99, 42, 182, 1, 102, 42, 182, 1, 105, 42]
abbrev dktX1_digest_0 : List UInt8 := dkwX1_digest_0 ++ dktX1_digest_1
theorem dksX1_digest_0 : cX1_digest.data.toList.drop 0 = dktX1_digest_0 := by decide +kernel
theorem dksX1_digest_1 : cX1_digest.data.toList.drop 24 = dktX1_digest_1 := dk_seg dksX1_digest_0 24 rfl rfl
theorem dksX1_digest_2 : cX1_digest.data.toList.drop 48 = dktX1_digest_2 := dk_seg dksX1_digest_1 24 rfl rfl
theorem dksX1_digest_3 : cX1_digest.data.toList.drop 72 = dktX1_digest_3 := dk_seg dksX1_digest_2 24 rfl rfl
theorem dksX1_digest_4 : cX1_digest.data.toList.drop 96 = dktX1_digest_4 := dk_seg dksX1_digest_3 24 rfl rfl
theorem dksX1_digest_5 : cX1_digest.data.toList.drop 120 = dktX1_digest_5 := dk_seg dksX1_digest_4 24 rfl rfl
theorem dksX1_digest_6 : cX1_digest.data.toList.drop 142 = dktX1_digest_6 := dk_seg dksX1_digest_5 22 rfl rfl
theorem dksX1_digest_7 : cX1_digest.data.toList.drop 164 = dktX1_digest_7 := dk_seg dksX1_digest_6 22 rfl rfl
theorem dX1_digest_0 : decode cX1_digest 0 = .ok (.aload_n 0, 1) := dk_42 (dk_at dksX1_digest_0 0 rfl rfl)
theorem dX1_digest_1 : decode cX1_digest 1 = .ok (.ldc2_w 350, 3) := dk_20 1 94 (dk_at dksX1_digest_0 1 rfl rfl)
theorem dX1_digest_4 : decode cX1_digest 4 = .ok (.putfield 337, 3) := dk_181 1 81 (dk_at dksX1_digest_0 4 rfl rfl)
theorem dX1_digest_7 : decode cX1_digest 7 = .ok (.aload_n 0, 1) := dk_42 (dk_at dksX1_digest_0 7 rfl rfl)
theorem dX1_digest_8 : decode cX1_digest 8 = .ok (.invokevirtual 352, 3) := dk_182 1 96 (dk_at dksX1_digest_0 8 rfl rfl)
theorem dX1_digest_11 : decode cX1_digest 11 = .ok (.aload_n 0, 1) := dk_42 (dk_at dksX1_digest_0 11 rfl rfl)
theorem dX1_digest_12 : decode cX1_digest 12 = .ok (.invokevirtual 355, 3) := dk_182 1 99 (dk_at dksX1_digest_0 12 rfl rfl)
theorem dX1_digest_15 : decode cX1_digest 15 = .ok (.aload_n 0, 1) := dk_42 (dk_at dksX1_digest_0 15 rfl rfl)
theorem dX1_digest_16 : decode cX1_digest 16 = .ok (.invokevirtual 358, 3) := dk_182 1 102 (dk_at dksX1_digest_0 16 rfl rfl)
theorem dX1_digest_19 : decode cX1_digest 19 = .ok (.aload_n 0, 1) := dk_42 (dk_at dksX1_digest_0 19 rfl rfl)
theorem dX1_digest_20 : decode cX1_digest 20 = .ok (.invokevirtual 361, 3) := dk_182 1 105 (dk_at dksX1_digest_0 20 rfl rfl)
theorem dX1_digest_23 : decode cX1_digest 23 = .ok (.aload_n 0, 1) := dk_42 (dk_at dksX1_digest_0 23 rfl rfl)
theorem dX1_digest_24 : decode cX1_digest 24 = .ok (.invokevirtual 364, 3) := dk_182 1 108 (dk_at dksX1_digest_1 0 rfl rfl)
theorem dX1_digest_27 : decode cX1_digest 27 = .ok (.aload_n 0, 1) := dk_42 (dk_at dksX1_digest_1 3 rfl rfl)
theorem dX1_digest_28 : decode cX1_digest 28 = .ok (.aload_n 0, 1) := dk_42 (dk_at dksX1_digest_1 4 rfl rfl)
theorem dX1_digest_29 : decode cX1_digest 29 = .ok (.getfield 29, 3) := dk_180 0 29 (dk_at dksX1_digest_1 5 rfl rfl)
theorem dX1_digest_32 : decode cX1_digest 32 = .ok (.getfield 322, 3) := dk_180 1 66 (dk_at dksX1_digest_1 8 rfl rfl)
theorem dX1_digest_35 : decode cX1_digest 35 = .ok (.i2l, 1) := dk_133 (dk_at dksX1_digest_1 11 rfl rfl)
theorem dX1_digest_36 : decode cX1_digest 36 = .ok (.invokevirtual 341, 3) := dk_182 1 85 (dk_at dksX1_digest_1 12 rfl rfl)
theorem dX1_digest_39 : decode cX1_digest 39 = .ok (.aload_n 0, 1) := dk_42 (dk_at dksX1_digest_1 15 rfl rfl)
theorem dX1_digest_40 : decode cX1_digest 40 = .ok (.aload_n 0, 1) := dk_42 (dk_at dksX1_digest_1 16 rfl rfl)
theorem dX1_digest_41 : decode cX1_digest 41 = .ok (.getfield 29, 3) := dk_180 0 29 (dk_at dksX1_digest_1 17 rfl rfl)
theorem dX1_digest_44 : decode cX1_digest 44 = .ok (.getfield 325, 3) := dk_180 1 69 (dk_at dksX1_digest_1 20 rfl rfl)
theorem dX1_digest_47 : decode cX1_digest 47 = .ok (.i2l, 1) := dk_133 (dk_at dksX1_digest_1 23 rfl rfl)
theorem dX1_digest_48 : decode cX1_digest 48 = .ok (.invokevirtual 341, 3) := dk_182 1 85 (dk_at dksX1_digest_2 0 rfl rfl)
theorem dX1_digest_51 : decode cX1_digest 51 = .ok (.aload_n 0, 1) := dk_42 (dk_at dksX1_digest_2 3 rfl rfl)
theorem dX1_digest_52 : decode cX1_digest 52 = .ok (.aload_n 0, 1) := dk_42 (dk_at dksX1_digest_2 4 rfl rfl)
theorem dX1_digest_53 : decode cX1_digest 53 = .ok (.getfield 29, 3) := dk_180 0 29 (dk_at dksX1_digest_2 5 rfl rfl)
theorem dX1_digest_56 : decode cX1_digest 56 = .ok (.invokevirtual 328, 3) := dk_182 1 72 (dk_at dksX1_digest_2 8 rfl rfl)
theorem dX1_digest_59 : decode cX1_digest 59 = .ok (.i2l, 1) := dk_133 (dk_at dksX1_digest_2 11 rfl rfl)
theorem dX1_digest_60 : decode cX1_digest 60 = .ok (.invokevirtual 341, 3) := dk_182 1 85 (dk_at dksX1_digest_2 12 rfl rfl)
theorem dX1_digest_63 : decode cX1_digest 63 = .ok (.aload_n 0, 1) := dk_42 (dk_at dksX1_digest_2 15 rfl rfl)
theorem dX1_digest_64 : decode cX1_digest 64 = .ok (.aload_n 0, 1) := dk_42 (dk_at dksX1_digest_2 16 rfl rfl)
theorem dX1_digest_65 : decode cX1_digest 65 = .ok (.getfield 38, 3) := dk_180 0 38 (dk_at dksX1_digest_2 17 rfl rfl)
theorem dX1_digest_68 : decode cX1_digest 68 = .ok (.invokevirtual 53, 3) := dk_182 0 53 (dk_at dksX1_digest_2 20 rfl rfl)
theorem dX1_digest_71 : decode cX1_digest 71 = .ok (.i2l, 1) := dk_133 (dk_at dksX1_digest_2 23 rfl rfl)
theorem dX1_digest_72 : decode cX1_digest 72 = .ok (.invokevirtual 341, 3) := dk_182 1 85 (dk_at dksX1_digest_3 0 rfl rfl)
theorem dX1_digest_75 : decode cX1_digest 75 = .ok (.aload_n 0, 1) := dk_42 (dk_at dksX1_digest_3 3 rfl rfl)
theorem dX1_digest_76 : decode cX1_digest 76 = .ok (.aload_n 0, 1) := dk_42 (dk_at dksX1_digest_3 4 rfl rfl)
theorem dX1_digest_77 : decode cX1_digest 77 = .ok (.getfield 29, 3) := dk_180 0 29 (dk_at dksX1_digest_3 5 rfl rfl)
theorem dX1_digest_80 : decode cX1_digest 80 = .ok (.invokevirtual 331, 3) := dk_182 1 75 (dk_at dksX1_digest_3 8 rfl rfl)
theorem dX1_digest_83 : decode cX1_digest 83 = .ok (.invokestatic 367, 3) := dk_184 1 111 (dk_at dksX1_digest_3 11 rfl rfl)
theorem dX1_digest_86 : decode cX1_digest 86 = .ok (.invokevirtual 341, 3) := dk_182 1 85 (dk_at dksX1_digest_3 14 rfl rfl)
theorem dX1_digest_89 : decode cX1_digest 89 = .ok (.aload_n 0, 1) := dk_42 (dk_at dksX1_digest_3 17 rfl rfl)
theorem dX1_digest_90 : decode cX1_digest 90 = .ok (.getfield 42, 3) := dk_180 0 42 (dk_at dksX1_digest_3 18 rfl rfl)
theorem dX1_digest_93 : decode cX1_digest 93 = .ok (.astore_n 1, 1) := dk_76 (dk_at dksX1_digest_3 21 rfl rfl)
theorem dX1_digest_94 : decode cX1_digest 94 = .ok (.aload_n 1, 1) := dk_43 (dk_at dksX1_digest_3 22 rfl rfl)
theorem dX1_digest_95 : decode cX1_digest 95 = .ok (.arraylength, 1) := dk_190 (dk_at dksX1_digest_3 23 rfl rfl)
theorem dX1_digest_96 : decode cX1_digest 96 = .ok (.istore_n 2, 1) := dk_61 (dk_at dksX1_digest_4 0 rfl rfl)
theorem dX1_digest_97 : decode cX1_digest 97 = .ok (.iconst 0, 1) := dk_3 (dk_at dksX1_digest_4 1 rfl rfl)
theorem dX1_digest_98 : decode cX1_digest 98 = .ok (.istore_n 3, 1) := dk_62 (dk_at dksX1_digest_4 2 rfl rfl)
theorem dX1_digest_99 : decode cX1_digest 99 = .ok (.iload_n 3, 1) := dk_29 (dk_at dksX1_digest_4 3 rfl rfl)
theorem dX1_digest_100 : decode cX1_digest 100 = .ok (.iload_n 2, 1) := dk_28 (dk_at dksX1_digest_4 4 rfl rfl)
theorem dX1_digest_101 : decode cX1_digest 101 = .ok (.if_icmp .ge 32, 3) := dk_162 0 32 (dk_at dksX1_digest_4 5 rfl rfl)
theorem dX1_digest_104 : decode cX1_digest 104 = .ok (.aload_n 1, 1) := dk_43 (dk_at dksX1_digest_4 8 rfl rfl)
theorem dX1_digest_105 : decode cX1_digest 105 = .ok (.iload_n 3, 1) := dk_29 (dk_at dksX1_digest_4 9 rfl rfl)
theorem dX1_digest_106 : decode cX1_digest 106 = .ok (.aaload, 1) := dk_50 (dk_at dksX1_digest_4 10 rfl rfl)
theorem dX1_digest_107 : decode cX1_digest 107 = .ok (.astore 4, 2) := dk_58 4 (dk_at dksX1_digest_4 11 rfl rfl)
theorem dX1_digest_109 : decode cX1_digest 109 = .ok (.aload_n 0, 1) := dk_42 (dk_at dksX1_digest_4 13 rfl rfl)
theorem dX1_digest_110 : decode cX1_digest 110 = .ok (.aload 4, 2) := dk_25 4 (dk_at dksX1_digest_4 14 rfl rfl)
theorem dX1_digest_112 : decode cX1_digest 112 = .ok (.ifnull 7, 3) := dk_198 0 7 (dk_at dksX1_digest_4 16 rfl rfl)
theorem dX1_digest_115 : decode cX1_digest 115 = .ok (.iconst 1, 1) := dk_4 (dk_at dksX1_digest_4 19 rfl rfl)
theorem dX1_digest_116 : decode cX1_digest 116 = .ok (.goto 4, 3) := dk_167 0 4 (dk_at dksX1_digest_4 20 rfl rfl)
theorem dX1_digest_119 : decode cX1_digest 119 = .ok (.iconst 0, 1) := dk_3 (dk_at dksX1_digest_4 23 rfl rfl)
theorem dX1_digest_120 : decode cX1_digest 120 = .ok (.invokestatic 263, 3) := dk_184 1 7 (dk_at dksX1_digest_5 0 rfl rfl)
theorem dX1_digest_123 : decode cX1_digest 123 = .ok (.i2l, 1) := dk_133 (dk_at dksX1_digest_5 3 rfl rfl)
theorem dX1_digest_124 : decode cX1_digest 124 = .ok (.invokevirtual 341, 3) := dk_182 1 85 (dk_at dksX1_digest_5 4 rfl rfl)
theorem dX1_digest_127 : decode cX1_digest 127 = .ok (.iinc 3 1, 3) := dk_132 3 1 (dk_at dksX1_digest_5 7 rfl rfl)
theorem dX1_digest_130 : decode cX1_digest 130 = .ok (.goto (-31), 3) := dk_167 255 225 (dk_at dksX1_digest_5 10 rfl rfl)
theorem dX1_digest_133 : decode cX1_digest 133 = .ok (.aload_n 0, 1) := dk_42 (dk_at dksX1_digest_5 13 rfl rfl)
theorem dX1_digest_134 : decode cX1_digest 134 = .ok (.aload_n 0, 1) := dk_42 (dk_at dksX1_digest_5 14 rfl rfl)
theorem dX1_digest_135 : decode cX1_digest 135 = .ok (.getfield 49, 3) := dk_180 0 49 (dk_at dksX1_digest_5 15 rfl rfl)
theorem dX1_digest_138 : decode cX1_digest 138 = .ok (.invokevirtual 141, 3) := dk_182 0 141 (dk_at dksX1_digest_5 18 rfl rfl)
theorem dX1_digest_141 : decode cX1_digest 141 = .ok (.i2l, 1) := dk_133 (dk_at dksX1_digest_5 21 rfl rfl)
theorem dX1_digest_142 : decode cX1_digest 142 = .ok (.invokevirtual 341, 3) := dk_182 1 85 (dk_at dksX1_digest_6 0 rfl rfl)
theorem dX1_digest_145 : decode cX1_digest 145 = .ok (.iconst 0, 1) := dk_3 (dk_at dksX1_digest_6 3 rfl rfl)
theorem dX1_digest_146 : decode cX1_digest 146 = .ok (.istore_n 1, 1) := dk_60 (dk_at dksX1_digest_6 4 rfl rfl)
theorem dX1_digest_147 : decode cX1_digest 147 = .ok (.iload_n 1, 1) := dk_27 (dk_at dksX1_digest_6 5 rfl rfl)
theorem dX1_digest_148 : decode cX1_digest 148 = .ok (.aload_n 0, 1) := dk_42 (dk_at dksX1_digest_6 6 rfl rfl)
theorem dX1_digest_149 : decode cX1_digest 149 = .ok (.getfield 49, 3) := dk_180 0 49 (dk_at dksX1_digest_6 7 rfl rfl)
theorem dX1_digest_152 : decode cX1_digest 152 = .ok (.invokevirtual 141, 3) := dk_182 0 141 (dk_at dksX1_digest_6 10 rfl rfl)
theorem dX1_digest_155 : decode cX1_digest 155 = .ok (.if_icmp .ge 22, 3) := dk_162 0 22 (dk_at dksX1_digest_6 13 rfl rfl)
theorem dX1_digest_158 : decode cX1_digest 158 = .ok (.aload_n 0, 1) := dk_42 (dk_at dksX1_digest_6 16 rfl rfl)
theorem dX1_digest_159 : decode cX1_digest 159 = .ok (.aload_n 0, 1) := dk_42 (dk_at dksX1_digest_6 17 rfl rfl)
theorem dX1_digest_160 : decode cX1_digest 160 = .ok (.getfield 49, 3) := dk_180 0 49 (dk_at dksX1_digest_6 18 rfl rfl)
theorem dX1_digest_163 : decode cX1_digest 163 = .ok (.iload_n 1, 1) := dk_27 (dk_at dksX1_digest_6 21 rfl rfl)
theorem dX1_digest_164 : decode cX1_digest 164 = .ok (.invokevirtual 373, 3) := dk_182 1 117 (dk_at dksX1_digest_7 0 rfl rfl)
theorem dX1_digest_167 : decode cX1_digest 167 = .ok (.i2l, 1) := dk_133 (dk_at dksX1_digest_7 3 rfl rfl)
theorem dX1_digest_168 : decode cX1_digest 168 = .ok (.invokevirtual 341, 3) := dk_182 1 85 (dk_at dksX1_digest_7 4 rfl rfl)
theorem dX1_digest_171 : decode cX1_digest 171 = .ok (.iinc 1 1, 3) := dk_132 1 1 (dk_at dksX1_digest_7 7 rfl rfl)
theorem dX1_digest_174 : decode cX1_digest 174 = .ok (.goto (-27), 3) := dk_167 255 229 (dk_at dksX1_digest_7 10 rfl rfl)
theorem dX1_digest_177 : decode cX1_digest 177 = .ok (.aload_n 0, 1) := dk_42 (dk_at dksX1_digest_7 13 rfl rfl)
theorem dX1_digest_178 : decode cX1_digest 178 = .ok (.getfield 337, 3) := dk_180 1 81 (dk_at dksX1_digest_7 14 rfl rfl)
theorem dX1_digest_181 : decode cX1_digest 181 = .ok (.lreturn, 1) := dk_173 (dk_at dksX1_digest_7 17 rfl rfl)
abbrev cX1_mixSides : ByteArray := prog_1_method_75_code
def yX1_mixSides : MethodName := ⟨RX1, "mixSides", "()V"⟩
def dkwX1_mixSides_4 : List UInt8 := [182, 1, 85, 42, 42, 180, 0, 29, 182, 0, 200, 182, 0, 171, 133, 182, 1, 85, 177]
abbrev dktX1_mixSides_4 : List UInt8 := dkwX1_mixSides_4 ++ []
def dkwX1_mixSides_3 : List UInt8 := [46, 133, 182, 1, 85, 132, 1, 1, 167, 255, 180, 42, 42, 180, 0, 29, 180, 0, 167, 182, 0, 171, 133]
abbrev dktX1_mixSides_3 : List UInt8 := dkwX1_mixSides_3 ++ dktX1_mixSides_4
def dkwX1_mixSides_2 : List UInt8 := [180, 0, 131, 180, 0, 193, 27, 46, 133, 182, 1, 85, 42, 42, 180, 0, 29, 180, 0, 131, 180, 0, 135, 27]
abbrev dktX1_mixSides_2 : List UInt8 := dkwX1_mixSides_2 ++ dktX1_mixSides_3
def dkwX1_mixSides_1 : List UInt8 := [42, 42, 180, 0, 29, 180, 0, 131, 180, 0, 190, 27, 46, 133, 182, 1, 85, 42, 42, 180, 0, 29]
abbrev dktX1_mixSides_1 : List UInt8 := dkwX1_mixSides_1 ++ dktX1_mixSides_2
def dkwX1_mixSides_0 : List UInt8 := [3, 60, 27, 7, 162, 0, 77, 42, 42, 180, 0, 29, 180, 0, 131, 180, 0, 188, 27, 46, 133, 182, 1, 85]
abbrev dktX1_mixSides_0 : List UInt8 := dkwX1_mixSides_0 ++ dktX1_mixSides_1
theorem dksX1_mixSides_0 : cX1_mixSides.data.toList.drop 0 = dktX1_mixSides_0 := by decide +kernel
theorem dksX1_mixSides_1 : cX1_mixSides.data.toList.drop 24 = dktX1_mixSides_1 := dk_seg dksX1_mixSides_0 24 rfl rfl
theorem dksX1_mixSides_2 : cX1_mixSides.data.toList.drop 46 = dktX1_mixSides_2 := dk_seg dksX1_mixSides_1 22 rfl rfl
theorem dksX1_mixSides_3 : cX1_mixSides.data.toList.drop 70 = dktX1_mixSides_3 := dk_seg dksX1_mixSides_2 24 rfl rfl
theorem dksX1_mixSides_4 : cX1_mixSides.data.toList.drop 93 = dktX1_mixSides_4 := dk_seg dksX1_mixSides_3 23 rfl rfl
theorem dX1_mixSides_0 : decode cX1_mixSides 0 = .ok (.iconst 0, 1) := dk_3 (dk_at dksX1_mixSides_0 0 rfl rfl)
theorem dX1_mixSides_1 : decode cX1_mixSides 1 = .ok (.istore_n 1, 1) := dk_60 (dk_at dksX1_mixSides_0 1 rfl rfl)
theorem dX1_mixSides_2 : decode cX1_mixSides 2 = .ok (.iload_n 1, 1) := dk_27 (dk_at dksX1_mixSides_0 2 rfl rfl)
theorem dX1_mixSides_3 : decode cX1_mixSides 3 = .ok (.iconst 4, 1) := dk_7 (dk_at dksX1_mixSides_0 3 rfl rfl)
theorem dX1_mixSides_4 : decode cX1_mixSides 4 = .ok (.if_icmp .ge 77, 3) := dk_162 0 77 (dk_at dksX1_mixSides_0 4 rfl rfl)
theorem dX1_mixSides_7 : decode cX1_mixSides 7 = .ok (.aload_n 0, 1) := dk_42 (dk_at dksX1_mixSides_0 7 rfl rfl)
theorem dX1_mixSides_8 : decode cX1_mixSides 8 = .ok (.aload_n 0, 1) := dk_42 (dk_at dksX1_mixSides_0 8 rfl rfl)
theorem dX1_mixSides_9 : decode cX1_mixSides 9 = .ok (.getfield 29, 3) := dk_180 0 29 (dk_at dksX1_mixSides_0 9 rfl rfl)
theorem dX1_mixSides_12 : decode cX1_mixSides 12 = .ok (.getfield 131, 3) := dk_180 0 131 (dk_at dksX1_mixSides_0 12 rfl rfl)
theorem dX1_mixSides_15 : decode cX1_mixSides 15 = .ok (.getfield 188, 3) := dk_180 0 188 (dk_at dksX1_mixSides_0 15 rfl rfl)
theorem dX1_mixSides_18 : decode cX1_mixSides 18 = .ok (.iload_n 1, 1) := dk_27 (dk_at dksX1_mixSides_0 18 rfl rfl)
theorem dX1_mixSides_19 : decode cX1_mixSides 19 = .ok (.iaload, 1) := dk_46 (dk_at dksX1_mixSides_0 19 rfl rfl)
theorem dX1_mixSides_20 : decode cX1_mixSides 20 = .ok (.i2l, 1) := dk_133 (dk_at dksX1_mixSides_0 20 rfl rfl)
theorem dX1_mixSides_21 : decode cX1_mixSides 21 = .ok (.invokevirtual 341, 3) := dk_182 1 85 (dk_at dksX1_mixSides_0 21 rfl rfl)
theorem dX1_mixSides_24 : decode cX1_mixSides 24 = .ok (.aload_n 0, 1) := dk_42 (dk_at dksX1_mixSides_1 0 rfl rfl)
theorem dX1_mixSides_25 : decode cX1_mixSides 25 = .ok (.aload_n 0, 1) := dk_42 (dk_at dksX1_mixSides_1 1 rfl rfl)
theorem dX1_mixSides_26 : decode cX1_mixSides 26 = .ok (.getfield 29, 3) := dk_180 0 29 (dk_at dksX1_mixSides_1 2 rfl rfl)
theorem dX1_mixSides_29 : decode cX1_mixSides 29 = .ok (.getfield 131, 3) := dk_180 0 131 (dk_at dksX1_mixSides_1 5 rfl rfl)
theorem dX1_mixSides_32 : decode cX1_mixSides 32 = .ok (.getfield 190, 3) := dk_180 0 190 (dk_at dksX1_mixSides_1 8 rfl rfl)
theorem dX1_mixSides_35 : decode cX1_mixSides 35 = .ok (.iload_n 1, 1) := dk_27 (dk_at dksX1_mixSides_1 11 rfl rfl)
theorem dX1_mixSides_36 : decode cX1_mixSides 36 = .ok (.iaload, 1) := dk_46 (dk_at dksX1_mixSides_1 12 rfl rfl)
theorem dX1_mixSides_37 : decode cX1_mixSides 37 = .ok (.i2l, 1) := dk_133 (dk_at dksX1_mixSides_1 13 rfl rfl)
theorem dX1_mixSides_38 : decode cX1_mixSides 38 = .ok (.invokevirtual 341, 3) := dk_182 1 85 (dk_at dksX1_mixSides_1 14 rfl rfl)
theorem dX1_mixSides_41 : decode cX1_mixSides 41 = .ok (.aload_n 0, 1) := dk_42 (dk_at dksX1_mixSides_1 17 rfl rfl)
theorem dX1_mixSides_42 : decode cX1_mixSides 42 = .ok (.aload_n 0, 1) := dk_42 (dk_at dksX1_mixSides_1 18 rfl rfl)
theorem dX1_mixSides_43 : decode cX1_mixSides 43 = .ok (.getfield 29, 3) := dk_180 0 29 (dk_at dksX1_mixSides_1 19 rfl rfl)
theorem dX1_mixSides_46 : decode cX1_mixSides 46 = .ok (.getfield 131, 3) := dk_180 0 131 (dk_at dksX1_mixSides_2 0 rfl rfl)
theorem dX1_mixSides_49 : decode cX1_mixSides 49 = .ok (.getfield 193, 3) := dk_180 0 193 (dk_at dksX1_mixSides_2 3 rfl rfl)
theorem dX1_mixSides_52 : decode cX1_mixSides 52 = .ok (.iload_n 1, 1) := dk_27 (dk_at dksX1_mixSides_2 6 rfl rfl)
theorem dX1_mixSides_53 : decode cX1_mixSides 53 = .ok (.iaload, 1) := dk_46 (dk_at dksX1_mixSides_2 7 rfl rfl)
theorem dX1_mixSides_54 : decode cX1_mixSides 54 = .ok (.i2l, 1) := dk_133 (dk_at dksX1_mixSides_2 8 rfl rfl)
theorem dX1_mixSides_55 : decode cX1_mixSides 55 = .ok (.invokevirtual 341, 3) := dk_182 1 85 (dk_at dksX1_mixSides_2 9 rfl rfl)
theorem dX1_mixSides_58 : decode cX1_mixSides 58 = .ok (.aload_n 0, 1) := dk_42 (dk_at dksX1_mixSides_2 12 rfl rfl)
theorem dX1_mixSides_59 : decode cX1_mixSides 59 = .ok (.aload_n 0, 1) := dk_42 (dk_at dksX1_mixSides_2 13 rfl rfl)
theorem dX1_mixSides_60 : decode cX1_mixSides 60 = .ok (.getfield 29, 3) := dk_180 0 29 (dk_at dksX1_mixSides_2 14 rfl rfl)
theorem dX1_mixSides_63 : decode cX1_mixSides 63 = .ok (.getfield 131, 3) := dk_180 0 131 (dk_at dksX1_mixSides_2 17 rfl rfl)
theorem dX1_mixSides_66 : decode cX1_mixSides 66 = .ok (.getfield 135, 3) := dk_180 0 135 (dk_at dksX1_mixSides_2 20 rfl rfl)
theorem dX1_mixSides_69 : decode cX1_mixSides 69 = .ok (.iload_n 1, 1) := dk_27 (dk_at dksX1_mixSides_2 23 rfl rfl)
theorem dX1_mixSides_70 : decode cX1_mixSides 70 = .ok (.iaload, 1) := dk_46 (dk_at dksX1_mixSides_3 0 rfl rfl)
theorem dX1_mixSides_71 : decode cX1_mixSides 71 = .ok (.i2l, 1) := dk_133 (dk_at dksX1_mixSides_3 1 rfl rfl)
theorem dX1_mixSides_72 : decode cX1_mixSides 72 = .ok (.invokevirtual 341, 3) := dk_182 1 85 (dk_at dksX1_mixSides_3 2 rfl rfl)
theorem dX1_mixSides_75 : decode cX1_mixSides 75 = .ok (.iinc 1 1, 3) := dk_132 1 1 (dk_at dksX1_mixSides_3 5 rfl rfl)
theorem dX1_mixSides_78 : decode cX1_mixSides 78 = .ok (.goto (-76), 3) := dk_167 255 180 (dk_at dksX1_mixSides_3 8 rfl rfl)
theorem dX1_mixSides_81 : decode cX1_mixSides 81 = .ok (.aload_n 0, 1) := dk_42 (dk_at dksX1_mixSides_3 11 rfl rfl)
theorem dX1_mixSides_82 : decode cX1_mixSides 82 = .ok (.aload_n 0, 1) := dk_42 (dk_at dksX1_mixSides_3 12 rfl rfl)
theorem dX1_mixSides_83 : decode cX1_mixSides 83 = .ok (.getfield 29, 3) := dk_180 0 29 (dk_at dksX1_mixSides_3 13 rfl rfl)
theorem dX1_mixSides_86 : decode cX1_mixSides 86 = .ok (.getfield 167, 3) := dk_180 0 167 (dk_at dksX1_mixSides_3 16 rfl rfl)
theorem dX1_mixSides_89 : decode cX1_mixSides 89 = .ok (.invokevirtual 171, 3) := dk_182 0 171 (dk_at dksX1_mixSides_3 19 rfl rfl)
theorem dX1_mixSides_92 : decode cX1_mixSides 92 = .ok (.i2l, 1) := dk_133 (dk_at dksX1_mixSides_3 22 rfl rfl)
theorem dX1_mixSides_93 : decode cX1_mixSides 93 = .ok (.invokevirtual 341, 3) := dk_182 1 85 (dk_at dksX1_mixSides_4 0 rfl rfl)
theorem dX1_mixSides_96 : decode cX1_mixSides 96 = .ok (.aload_n 0, 1) := dk_42 (dk_at dksX1_mixSides_4 3 rfl rfl)
theorem dX1_mixSides_97 : decode cX1_mixSides 97 = .ok (.aload_n 0, 1) := dk_42 (dk_at dksX1_mixSides_4 4 rfl rfl)
theorem dX1_mixSides_98 : decode cX1_mixSides 98 = .ok (.getfield 29, 3) := dk_180 0 29 (dk_at dksX1_mixSides_4 5 rfl rfl)
theorem dX1_mixSides_101 : decode cX1_mixSides 101 = .ok (.invokevirtual 200, 3) := dk_182 0 200 (dk_at dksX1_mixSides_4 8 rfl rfl)
theorem dX1_mixSides_104 : decode cX1_mixSides 104 = .ok (.invokevirtual 171, 3) := dk_182 0 171 (dk_at dksX1_mixSides_4 11 rfl rfl)
theorem dX1_mixSides_107 : decode cX1_mixSides 107 = .ok (.i2l, 1) := dk_133 (dk_at dksX1_mixSides_4 14 rfl rfl)
theorem dX1_mixSides_108 : decode cX1_mixSides 108 = .ok (.invokevirtual 341, 3) := dk_182 1 85 (dk_at dksX1_mixSides_4 15 rfl rfl)
theorem dX1_mixSides_111 : decode cX1_mixSides 111 = .ok (.return_, 1) := dk_177 (dk_at dksX1_mixSides_4 18 rfl rfl)
abbrev cX1_mix : ByteArray := prog_1_method_74_code
def yX1_mix : MethodName := ⟨RX1, "mix", "(J)V"⟩
def dkwX1_mix_0 : List UInt8 := [42, 20, 1, 79, 42, 180, 1, 81, 105, 31, 97, 181, 1, 81, 177]
abbrev dktX1_mix_0 : List UInt8 := dkwX1_mix_0 ++ []
theorem dksX1_mix_0 : cX1_mix.data.toList.drop 0 = dktX1_mix_0 := by decide +kernel
theorem dX1_mix_0 : decode cX1_mix 0 = .ok (.aload_n 0, 1) := dk_42 (dk_at dksX1_mix_0 0 rfl rfl)
theorem dX1_mix_1 : decode cX1_mix 1 = .ok (.ldc2_w 335, 3) := dk_20 1 79 (dk_at dksX1_mix_0 1 rfl rfl)
theorem dX1_mix_4 : decode cX1_mix 4 = .ok (.aload_n 0, 1) := dk_42 (dk_at dksX1_mix_0 4 rfl rfl)
theorem dX1_mix_5 : decode cX1_mix 5 = .ok (.getfield 337, 3) := dk_180 1 81 (dk_at dksX1_mix_0 5 rfl rfl)
theorem dX1_mix_8 : decode cX1_mix 8 = .ok (.lmul, 1) := dk_105 (dk_at dksX1_mix_0 8 rfl rfl)
theorem dX1_mix_9 : decode cX1_mix 9 = .ok (.lload_n 1, 1) := dk_31 (dk_at dksX1_mix_0 9 rfl rfl)
theorem dX1_mix_10 : decode cX1_mix 10 = .ok (.ladd, 1) := dk_97 (dk_at dksX1_mix_0 10 rfl rfl)
theorem dX1_mix_11 : decode cX1_mix 11 = .ok (.putfield 337, 3) := dk_181 1 81 (dk_at dksX1_mix_0 11 rfl rfl)
theorem dX1_mix_14 : decode cX1_mix 14 = .ok (.return_, 1) := dk_177 (dk_at dksX1_mix_0 14 rfl rfl)
abbrev cX1_mixOffers : ByteArray := prog_1_method_76_code
def yX1_mixOffers : MethodName := ⟨RX1, "mixOffers", "()V"⟩
def dkwX1_mixOffers_9 : List UInt8 := [167, 255, 70, 177]
abbrev dktX1_mixOffers_9 : List UInt8 := dkwX1_mixOffers_9 ++ []
def dkwX1_mixOffers_8 : List UInt8 := [182, 1, 85, 42, 42, 180, 0, 29, 180, 0, 131, 25, 5, 182, 1, 48, 133, 182, 1, 85, 132, 4, 1]
abbrev dktX1_mixOffers_8 : List UInt8 := dkwX1_mixOffers_8 ++ dktX1_mixOffers_9
def dkwX1_mixOffers_7 : List UInt8 := [184, 1, 7, 133, 182, 1, 85, 42, 44, 21, 4, 46, 133, 182, 1, 85, 42, 45, 21, 4, 46, 133]
abbrev dktX1_mixOffers_7 : List UInt8 := dkwX1_mixOffers_7 ++ dktX1_mixOffers_8
def dkwX1_mixOffers_6 : List UInt8 := [42, 180, 0, 29, 25, 5, 182, 0, 218, 184, 1, 7, 133, 182, 1, 85, 42, 42, 43, 25, 5, 182, 0, 232]
abbrev dktX1_mixOffers_6 : List UInt8 := dkwX1_mixOffers_6 ++ dktX1_mixOffers_7
def dkwX1_mixOffers_5 : List UInt8 := [25, 5, 182, 0, 212, 133, 182, 1, 85, 42, 42, 180, 0, 29, 25, 5, 182, 0, 215, 133, 182, 1, 85, 42]
abbrev dktX1_mixOffers_5 : List UInt8 := dkwX1_mixOffers_5 ++ dktX1_mixOffers_6
def dkwX1_mixOffers_4 : List UInt8 := [42, 180, 0, 29, 180, 0, 131, 25, 5, 182, 0, 196, 184, 1, 7, 133, 182, 1, 85, 42, 42, 180, 0, 29]
abbrev dktX1_mixOffers_4 : List UInt8 := dkwX1_mixOffers_4 ++ dktX1_mixOffers_5
def dkwX1_mixOffers_3 : List UInt8 := [162, 0, 23, 25, 6, 21, 8, 46, 54, 9, 42, 21, 9, 133, 182, 1, 85, 132, 8, 1, 167, 255, 232, 42]
abbrev dktX1_mixOffers_3 : List UInt8 := dkwX1_mixOffers_3 ++ dktX1_mixOffers_4
def dkwX1_mixOffers_2 : List UInt8 := [182, 0, 76, 58, 5, 25, 5, 180, 0, 185, 58, 6, 25, 6, 190, 54, 7, 3, 54, 8, 21, 8, 21, 7]
abbrev dktX1_mixOffers_2 : List UInt8 := dkwX1_mixOffers_2 ++ dktX1_mixOffers_3
def dkwX1_mixOffers_1 : List UInt8 := [3, 54, 4, 21, 4, 42, 180, 0, 29, 180, 0, 167, 182, 0, 171, 162, 0, 177, 42, 180, 0, 29, 21, 4]
abbrev dktX1_mixOffers_1 : List UInt8 := dkwX1_mixOffers_1 ++ dktX1_mixOffers_2
def dkwX1_mixOffers_0 : List UInt8 := [42, 180, 0, 29, 182, 0, 229, 76, 42, 180, 0, 29, 182, 0, 252, 77, 42, 180, 0, 29, 182, 1, 0, 78]
abbrev dktX1_mixOffers_0 : List UInt8 := dkwX1_mixOffers_0 ++ dktX1_mixOffers_1
theorem dksX1_mixOffers_0 : cX1_mixOffers.data.toList.drop 0 = dktX1_mixOffers_0 := by decide +kernel
theorem dksX1_mixOffers_1 : cX1_mixOffers.data.toList.drop 24 = dktX1_mixOffers_1 := dk_seg dksX1_mixOffers_0 24 rfl rfl
theorem dksX1_mixOffers_2 : cX1_mixOffers.data.toList.drop 48 = dktX1_mixOffers_2 := dk_seg dksX1_mixOffers_1 24 rfl rfl
theorem dksX1_mixOffers_3 : cX1_mixOffers.data.toList.drop 72 = dktX1_mixOffers_3 := dk_seg dksX1_mixOffers_2 24 rfl rfl
theorem dksX1_mixOffers_4 : cX1_mixOffers.data.toList.drop 96 = dktX1_mixOffers_4 := dk_seg dksX1_mixOffers_3 24 rfl rfl
theorem dksX1_mixOffers_5 : cX1_mixOffers.data.toList.drop 120 = dktX1_mixOffers_5 := dk_seg dksX1_mixOffers_4 24 rfl rfl
theorem dksX1_mixOffers_6 : cX1_mixOffers.data.toList.drop 144 = dktX1_mixOffers_6 := dk_seg dksX1_mixOffers_5 24 rfl rfl
theorem dksX1_mixOffers_7 : cX1_mixOffers.data.toList.drop 168 = dktX1_mixOffers_7 := dk_seg dksX1_mixOffers_6 24 rfl rfl
theorem dksX1_mixOffers_8 : cX1_mixOffers.data.toList.drop 190 = dktX1_mixOffers_8 := dk_seg dksX1_mixOffers_7 22 rfl rfl
theorem dksX1_mixOffers_9 : cX1_mixOffers.data.toList.drop 213 = dktX1_mixOffers_9 := dk_seg dksX1_mixOffers_8 23 rfl rfl
theorem dX1_mixOffers_0 : decode cX1_mixOffers 0 = .ok (.aload_n 0, 1) := dk_42 (dk_at dksX1_mixOffers_0 0 rfl rfl)
theorem dX1_mixOffers_1 : decode cX1_mixOffers 1 = .ok (.getfield 29, 3) := dk_180 0 29 (dk_at dksX1_mixOffers_0 1 rfl rfl)
theorem dX1_mixOffers_4 : decode cX1_mixOffers 4 = .ok (.invokevirtual 229, 3) := dk_182 0 229 (dk_at dksX1_mixOffers_0 4 rfl rfl)
theorem dX1_mixOffers_7 : decode cX1_mixOffers 7 = .ok (.astore_n 1, 1) := dk_76 (dk_at dksX1_mixOffers_0 7 rfl rfl)
theorem dX1_mixOffers_8 : decode cX1_mixOffers 8 = .ok (.aload_n 0, 1) := dk_42 (dk_at dksX1_mixOffers_0 8 rfl rfl)
theorem dX1_mixOffers_9 : decode cX1_mixOffers 9 = .ok (.getfield 29, 3) := dk_180 0 29 (dk_at dksX1_mixOffers_0 9 rfl rfl)
theorem dX1_mixOffers_12 : decode cX1_mixOffers 12 = .ok (.invokevirtual 252, 3) := dk_182 0 252 (dk_at dksX1_mixOffers_0 12 rfl rfl)
theorem dX1_mixOffers_15 : decode cX1_mixOffers 15 = .ok (.astore_n 2, 1) := dk_77 (dk_at dksX1_mixOffers_0 15 rfl rfl)
theorem dX1_mixOffers_16 : decode cX1_mixOffers 16 = .ok (.aload_n 0, 1) := dk_42 (dk_at dksX1_mixOffers_0 16 rfl rfl)
theorem dX1_mixOffers_17 : decode cX1_mixOffers 17 = .ok (.getfield 29, 3) := dk_180 0 29 (dk_at dksX1_mixOffers_0 17 rfl rfl)
theorem dX1_mixOffers_20 : decode cX1_mixOffers 20 = .ok (.invokevirtual 256, 3) := dk_182 1 0 (dk_at dksX1_mixOffers_0 20 rfl rfl)
theorem dX1_mixOffers_23 : decode cX1_mixOffers 23 = .ok (.astore_n 3, 1) := dk_78 (dk_at dksX1_mixOffers_0 23 rfl rfl)
theorem dX1_mixOffers_24 : decode cX1_mixOffers 24 = .ok (.iconst 0, 1) := dk_3 (dk_at dksX1_mixOffers_1 0 rfl rfl)
theorem dX1_mixOffers_25 : decode cX1_mixOffers 25 = .ok (.istore 4, 2) := dk_54 4 (dk_at dksX1_mixOffers_1 1 rfl rfl)
theorem dX1_mixOffers_27 : decode cX1_mixOffers 27 = .ok (.iload 4, 2) := dk_21 4 (dk_at dksX1_mixOffers_1 3 rfl rfl)
theorem dX1_mixOffers_29 : decode cX1_mixOffers 29 = .ok (.aload_n 0, 1) := dk_42 (dk_at dksX1_mixOffers_1 5 rfl rfl)
theorem dX1_mixOffers_30 : decode cX1_mixOffers 30 = .ok (.getfield 29, 3) := dk_180 0 29 (dk_at dksX1_mixOffers_1 6 rfl rfl)
theorem dX1_mixOffers_33 : decode cX1_mixOffers 33 = .ok (.getfield 167, 3) := dk_180 0 167 (dk_at dksX1_mixOffers_1 9 rfl rfl)
theorem dX1_mixOffers_36 : decode cX1_mixOffers 36 = .ok (.invokevirtual 171, 3) := dk_182 0 171 (dk_at dksX1_mixOffers_1 12 rfl rfl)
theorem dX1_mixOffers_39 : decode cX1_mixOffers 39 = .ok (.if_icmp .ge 177, 3) := dk_162 0 177 (dk_at dksX1_mixOffers_1 15 rfl rfl)
theorem dX1_mixOffers_42 : decode cX1_mixOffers 42 = .ok (.aload_n 0, 1) := dk_42 (dk_at dksX1_mixOffers_1 18 rfl rfl)
theorem dX1_mixOffers_43 : decode cX1_mixOffers 43 = .ok (.getfield 29, 3) := dk_180 0 29 (dk_at dksX1_mixOffers_1 19 rfl rfl)
theorem dX1_mixOffers_46 : decode cX1_mixOffers 46 = .ok (.iload 4, 2) := dk_21 4 (dk_at dksX1_mixOffers_1 22 rfl rfl)
theorem dX1_mixOffers_48 : decode cX1_mixOffers 48 = .ok (.invokevirtual 76, 3) := dk_182 0 76 (dk_at dksX1_mixOffers_2 0 rfl rfl)
theorem dX1_mixOffers_51 : decode cX1_mixOffers 51 = .ok (.astore 5, 2) := dk_58 5 (dk_at dksX1_mixOffers_2 3 rfl rfl)
theorem dX1_mixOffers_53 : decode cX1_mixOffers 53 = .ok (.aload 5, 2) := dk_25 5 (dk_at dksX1_mixOffers_2 5 rfl rfl)
theorem dX1_mixOffers_55 : decode cX1_mixOffers 55 = .ok (.getfield 185, 3) := dk_180 0 185 (dk_at dksX1_mixOffers_2 7 rfl rfl)
theorem dX1_mixOffers_58 : decode cX1_mixOffers 58 = .ok (.astore 6, 2) := dk_58 6 (dk_at dksX1_mixOffers_2 10 rfl rfl)
theorem dX1_mixOffers_60 : decode cX1_mixOffers 60 = .ok (.aload 6, 2) := dk_25 6 (dk_at dksX1_mixOffers_2 12 rfl rfl)
theorem dX1_mixOffers_62 : decode cX1_mixOffers 62 = .ok (.arraylength, 1) := dk_190 (dk_at dksX1_mixOffers_2 14 rfl rfl)
theorem dX1_mixOffers_63 : decode cX1_mixOffers 63 = .ok (.istore 7, 2) := dk_54 7 (dk_at dksX1_mixOffers_2 15 rfl rfl)
theorem dX1_mixOffers_65 : decode cX1_mixOffers 65 = .ok (.iconst 0, 1) := dk_3 (dk_at dksX1_mixOffers_2 17 rfl rfl)
theorem dX1_mixOffers_66 : decode cX1_mixOffers 66 = .ok (.istore 8, 2) := dk_54 8 (dk_at dksX1_mixOffers_2 18 rfl rfl)
theorem dX1_mixOffers_68 : decode cX1_mixOffers 68 = .ok (.iload 8, 2) := dk_21 8 (dk_at dksX1_mixOffers_2 20 rfl rfl)
theorem dX1_mixOffers_70 : decode cX1_mixOffers 70 = .ok (.iload 7, 2) := dk_21 7 (dk_at dksX1_mixOffers_2 22 rfl rfl)
theorem dX1_mixOffers_72 : decode cX1_mixOffers 72 = .ok (.if_icmp .ge 23, 3) := dk_162 0 23 (dk_at dksX1_mixOffers_3 0 rfl rfl)
theorem dX1_mixOffers_75 : decode cX1_mixOffers 75 = .ok (.aload 6, 2) := dk_25 6 (dk_at dksX1_mixOffers_3 3 rfl rfl)
theorem dX1_mixOffers_77 : decode cX1_mixOffers 77 = .ok (.iload 8, 2) := dk_21 8 (dk_at dksX1_mixOffers_3 5 rfl rfl)
theorem dX1_mixOffers_79 : decode cX1_mixOffers 79 = .ok (.iaload, 1) := dk_46 (dk_at dksX1_mixOffers_3 7 rfl rfl)
theorem dX1_mixOffers_80 : decode cX1_mixOffers 80 = .ok (.istore 9, 2) := dk_54 9 (dk_at dksX1_mixOffers_3 8 rfl rfl)
theorem dX1_mixOffers_82 : decode cX1_mixOffers 82 = .ok (.aload_n 0, 1) := dk_42 (dk_at dksX1_mixOffers_3 10 rfl rfl)
theorem dX1_mixOffers_83 : decode cX1_mixOffers 83 = .ok (.iload 9, 2) := dk_21 9 (dk_at dksX1_mixOffers_3 11 rfl rfl)
theorem dX1_mixOffers_85 : decode cX1_mixOffers 85 = .ok (.i2l, 1) := dk_133 (dk_at dksX1_mixOffers_3 13 rfl rfl)
theorem dX1_mixOffers_86 : decode cX1_mixOffers 86 = .ok (.invokevirtual 341, 3) := dk_182 1 85 (dk_at dksX1_mixOffers_3 14 rfl rfl)
theorem dX1_mixOffers_89 : decode cX1_mixOffers 89 = .ok (.iinc 8 1, 3) := dk_132 8 1 (dk_at dksX1_mixOffers_3 17 rfl rfl)
theorem dX1_mixOffers_92 : decode cX1_mixOffers 92 = .ok (.goto (-24), 3) := dk_167 255 232 (dk_at dksX1_mixOffers_3 20 rfl rfl)
theorem dX1_mixOffers_95 : decode cX1_mixOffers 95 = .ok (.aload_n 0, 1) := dk_42 (dk_at dksX1_mixOffers_3 23 rfl rfl)
theorem dX1_mixOffers_96 : decode cX1_mixOffers 96 = .ok (.aload_n 0, 1) := dk_42 (dk_at dksX1_mixOffers_4 0 rfl rfl)
theorem dX1_mixOffers_97 : decode cX1_mixOffers 97 = .ok (.getfield 29, 3) := dk_180 0 29 (dk_at dksX1_mixOffers_4 1 rfl rfl)
theorem dX1_mixOffers_100 : decode cX1_mixOffers 100 = .ok (.getfield 131, 3) := dk_180 0 131 (dk_at dksX1_mixOffers_4 4 rfl rfl)
theorem dX1_mixOffers_103 : decode cX1_mixOffers 103 = .ok (.aload 5, 2) := dk_25 5 (dk_at dksX1_mixOffers_4 7 rfl rfl)
theorem dX1_mixOffers_105 : decode cX1_mixOffers 105 = .ok (.invokevirtual 196, 3) := dk_182 0 196 (dk_at dksX1_mixOffers_4 9 rfl rfl)
theorem dX1_mixOffers_108 : decode cX1_mixOffers 108 = .ok (.invokestatic 263, 3) := dk_184 1 7 (dk_at dksX1_mixOffers_4 12 rfl rfl)
theorem dX1_mixOffers_111 : decode cX1_mixOffers 111 = .ok (.i2l, 1) := dk_133 (dk_at dksX1_mixOffers_4 15 rfl rfl)
theorem dX1_mixOffers_112 : decode cX1_mixOffers 112 = .ok (.invokevirtual 341, 3) := dk_182 1 85 (dk_at dksX1_mixOffers_4 16 rfl rfl)
theorem dX1_mixOffers_115 : decode cX1_mixOffers 115 = .ok (.aload_n 0, 1) := dk_42 (dk_at dksX1_mixOffers_4 19 rfl rfl)
theorem dX1_mixOffers_116 : decode cX1_mixOffers 116 = .ok (.aload_n 0, 1) := dk_42 (dk_at dksX1_mixOffers_4 20 rfl rfl)
theorem dX1_mixOffers_117 : decode cX1_mixOffers 117 = .ok (.getfield 29, 3) := dk_180 0 29 (dk_at dksX1_mixOffers_4 21 rfl rfl)
theorem dX1_mixOffers_120 : decode cX1_mixOffers 120 = .ok (.aload 5, 2) := dk_25 5 (dk_at dksX1_mixOffers_5 0 rfl rfl)
theorem dX1_mixOffers_122 : decode cX1_mixOffers 122 = .ok (.invokevirtual 212, 3) := dk_182 0 212 (dk_at dksX1_mixOffers_5 2 rfl rfl)
theorem dX1_mixOffers_125 : decode cX1_mixOffers 125 = .ok (.i2l, 1) := dk_133 (dk_at dksX1_mixOffers_5 5 rfl rfl)
theorem dX1_mixOffers_126 : decode cX1_mixOffers 126 = .ok (.invokevirtual 341, 3) := dk_182 1 85 (dk_at dksX1_mixOffers_5 6 rfl rfl)
theorem dX1_mixOffers_129 : decode cX1_mixOffers 129 = .ok (.aload_n 0, 1) := dk_42 (dk_at dksX1_mixOffers_5 9 rfl rfl)
theorem dX1_mixOffers_130 : decode cX1_mixOffers 130 = .ok (.aload_n 0, 1) := dk_42 (dk_at dksX1_mixOffers_5 10 rfl rfl)
theorem dX1_mixOffers_131 : decode cX1_mixOffers 131 = .ok (.getfield 29, 3) := dk_180 0 29 (dk_at dksX1_mixOffers_5 11 rfl rfl)
theorem dX1_mixOffers_134 : decode cX1_mixOffers 134 = .ok (.aload 5, 2) := dk_25 5 (dk_at dksX1_mixOffers_5 14 rfl rfl)
theorem dX1_mixOffers_136 : decode cX1_mixOffers 136 = .ok (.invokevirtual 215, 3) := dk_182 0 215 (dk_at dksX1_mixOffers_5 16 rfl rfl)
theorem dX1_mixOffers_139 : decode cX1_mixOffers 139 = .ok (.i2l, 1) := dk_133 (dk_at dksX1_mixOffers_5 19 rfl rfl)
theorem dX1_mixOffers_140 : decode cX1_mixOffers 140 = .ok (.invokevirtual 341, 3) := dk_182 1 85 (dk_at dksX1_mixOffers_5 20 rfl rfl)
theorem dX1_mixOffers_143 : decode cX1_mixOffers 143 = .ok (.aload_n 0, 1) := dk_42 (dk_at dksX1_mixOffers_5 23 rfl rfl)
theorem dX1_mixOffers_144 : decode cX1_mixOffers 144 = .ok (.aload_n 0, 1) := dk_42 (dk_at dksX1_mixOffers_6 0 rfl rfl)
theorem dX1_mixOffers_145 : decode cX1_mixOffers 145 = .ok (.getfield 29, 3) := dk_180 0 29 (dk_at dksX1_mixOffers_6 1 rfl rfl)
theorem dX1_mixOffers_148 : decode cX1_mixOffers 148 = .ok (.aload 5, 2) := dk_25 5 (dk_at dksX1_mixOffers_6 4 rfl rfl)
theorem dX1_mixOffers_150 : decode cX1_mixOffers 150 = .ok (.invokevirtual 218, 3) := dk_182 0 218 (dk_at dksX1_mixOffers_6 6 rfl rfl)
theorem dX1_mixOffers_153 : decode cX1_mixOffers 153 = .ok (.invokestatic 263, 3) := dk_184 1 7 (dk_at dksX1_mixOffers_6 9 rfl rfl)
theorem dX1_mixOffers_156 : decode cX1_mixOffers 156 = .ok (.i2l, 1) := dk_133 (dk_at dksX1_mixOffers_6 12 rfl rfl)
theorem dX1_mixOffers_157 : decode cX1_mixOffers 157 = .ok (.invokevirtual 341, 3) := dk_182 1 85 (dk_at dksX1_mixOffers_6 13 rfl rfl)
theorem dX1_mixOffers_160 : decode cX1_mixOffers 160 = .ok (.aload_n 0, 1) := dk_42 (dk_at dksX1_mixOffers_6 16 rfl rfl)
theorem dX1_mixOffers_161 : decode cX1_mixOffers 161 = .ok (.aload_n 0, 1) := dk_42 (dk_at dksX1_mixOffers_6 17 rfl rfl)
theorem dX1_mixOffers_162 : decode cX1_mixOffers 162 = .ok (.aload_n 1, 1) := dk_43 (dk_at dksX1_mixOffers_6 18 rfl rfl)
theorem dX1_mixOffers_163 : decode cX1_mixOffers 163 = .ok (.aload 5, 2) := dk_25 5 (dk_at dksX1_mixOffers_6 19 rfl rfl)
theorem dX1_mixOffers_165 : decode cX1_mixOffers 165 = .ok (.invokevirtual 232, 3) := dk_182 0 232 (dk_at dksX1_mixOffers_6 21 rfl rfl)
theorem dX1_mixOffers_168 : decode cX1_mixOffers 168 = .ok (.invokestatic 263, 3) := dk_184 1 7 (dk_at dksX1_mixOffers_7 0 rfl rfl)
theorem dX1_mixOffers_171 : decode cX1_mixOffers 171 = .ok (.i2l, 1) := dk_133 (dk_at dksX1_mixOffers_7 3 rfl rfl)
theorem dX1_mixOffers_172 : decode cX1_mixOffers 172 = .ok (.invokevirtual 341, 3) := dk_182 1 85 (dk_at dksX1_mixOffers_7 4 rfl rfl)
theorem dX1_mixOffers_175 : decode cX1_mixOffers 175 = .ok (.aload_n 0, 1) := dk_42 (dk_at dksX1_mixOffers_7 7 rfl rfl)
theorem dX1_mixOffers_176 : decode cX1_mixOffers 176 = .ok (.aload_n 2, 1) := dk_44 (dk_at dksX1_mixOffers_7 8 rfl rfl)
theorem dX1_mixOffers_177 : decode cX1_mixOffers 177 = .ok (.iload 4, 2) := dk_21 4 (dk_at dksX1_mixOffers_7 9 rfl rfl)
theorem dX1_mixOffers_179 : decode cX1_mixOffers 179 = .ok (.iaload, 1) := dk_46 (dk_at dksX1_mixOffers_7 11 rfl rfl)
theorem dX1_mixOffers_180 : decode cX1_mixOffers 180 = .ok (.i2l, 1) := dk_133 (dk_at dksX1_mixOffers_7 12 rfl rfl)
theorem dX1_mixOffers_181 : decode cX1_mixOffers 181 = .ok (.invokevirtual 341, 3) := dk_182 1 85 (dk_at dksX1_mixOffers_7 13 rfl rfl)
theorem dX1_mixOffers_184 : decode cX1_mixOffers 184 = .ok (.aload_n 0, 1) := dk_42 (dk_at dksX1_mixOffers_7 16 rfl rfl)
theorem dX1_mixOffers_185 : decode cX1_mixOffers 185 = .ok (.aload_n 3, 1) := dk_45 (dk_at dksX1_mixOffers_7 17 rfl rfl)
theorem dX1_mixOffers_186 : decode cX1_mixOffers 186 = .ok (.iload 4, 2) := dk_21 4 (dk_at dksX1_mixOffers_7 18 rfl rfl)
theorem dX1_mixOffers_188 : decode cX1_mixOffers 188 = .ok (.iaload, 1) := dk_46 (dk_at dksX1_mixOffers_7 20 rfl rfl)
theorem dX1_mixOffers_189 : decode cX1_mixOffers 189 = .ok (.i2l, 1) := dk_133 (dk_at dksX1_mixOffers_7 21 rfl rfl)
theorem dX1_mixOffers_190 : decode cX1_mixOffers 190 = .ok (.invokevirtual 341, 3) := dk_182 1 85 (dk_at dksX1_mixOffers_8 0 rfl rfl)
theorem dX1_mixOffers_193 : decode cX1_mixOffers 193 = .ok (.aload_n 0, 1) := dk_42 (dk_at dksX1_mixOffers_8 3 rfl rfl)
theorem dX1_mixOffers_194 : decode cX1_mixOffers 194 = .ok (.aload_n 0, 1) := dk_42 (dk_at dksX1_mixOffers_8 4 rfl rfl)
theorem dX1_mixOffers_195 : decode cX1_mixOffers 195 = .ok (.getfield 29, 3) := dk_180 0 29 (dk_at dksX1_mixOffers_8 5 rfl rfl)
theorem dX1_mixOffers_198 : decode cX1_mixOffers 198 = .ok (.getfield 131, 3) := dk_180 0 131 (dk_at dksX1_mixOffers_8 8 rfl rfl)
theorem dX1_mixOffers_201 : decode cX1_mixOffers 201 = .ok (.aload 5, 2) := dk_25 5 (dk_at dksX1_mixOffers_8 11 rfl rfl)
theorem dX1_mixOffers_203 : decode cX1_mixOffers 203 = .ok (.invokevirtual 304, 3) := dk_182 1 48 (dk_at dksX1_mixOffers_8 13 rfl rfl)
theorem dX1_mixOffers_206 : decode cX1_mixOffers 206 = .ok (.i2l, 1) := dk_133 (dk_at dksX1_mixOffers_8 16 rfl rfl)
theorem dX1_mixOffers_207 : decode cX1_mixOffers 207 = .ok (.invokevirtual 341, 3) := dk_182 1 85 (dk_at dksX1_mixOffers_8 17 rfl rfl)
theorem dX1_mixOffers_210 : decode cX1_mixOffers 210 = .ok (.iinc 4 1, 3) := dk_132 4 1 (dk_at dksX1_mixOffers_8 20 rfl rfl)
theorem dX1_mixOffers_213 : decode cX1_mixOffers 213 = .ok (.goto (-186), 3) := dk_167 255 70 (dk_at dksX1_mixOffers_9 0 rfl rfl)
theorem dX1_mixOffers_216 : decode cX1_mixOffers 216 = .ok (.return_, 1) := dk_177 (dk_at dksX1_mixOffers_9 3 rfl rfl)
abbrev cX1_isInWindow : ByteArray := prog_1_method_43_code
def yX1_isInWindow : MethodName := ⟨RX1, "isInWindow", "(LOfferSky$Bag;LOfferSky$Offer;)Z"⟩
def dkwX1_isInWindow_0 : List UInt8 := [43, 44, 186, 0, 221, 0, 0, 182, 0, 225, 172]
abbrev dktX1_isInWindow_0 : List UInt8 := dkwX1_isInWindow_0 ++ []
theorem dksX1_isInWindow_0 : cX1_isInWindow.data.toList.drop 0 = dktX1_isInWindow_0 := by decide +kernel
theorem dX1_isInWindow_0 : decode cX1_isInWindow 0 = .ok (.aload_n 1, 1) := dk_43 (dk_at dksX1_isInWindow_0 0 rfl rfl)
theorem dX1_isInWindow_1 : decode cX1_isInWindow 1 = .ok (.aload_n 2, 1) := dk_44 (dk_at dksX1_isInWindow_0 1 rfl rfl)
theorem dX1_isInWindow_2 : decode cX1_isInWindow 2 = .ok (.invokedynamic 221, 5) := by decide +kernel
theorem dX1_isInWindow_7 : decode cX1_isInWindow 7 = .ok (.invokevirtual 225, 3) := dk_182 0 225 (dk_at dksX1_isInWindow_0 7 rfl rfl)
theorem dX1_isInWindow_10 : decode cX1_isInWindow 10 = .ok (.ireturn, 1) := dk_172 (dk_at dksX1_isInWindow_0 10 rfl rfl)
abbrev cX1_lambda_isInWindow_0 : ByteArray := prog_1_method_81_code
def yX1_lambda_isInWindow_0 : MethodName := ⟨RX1, "lambda$isInWindow$0", "(LOfferSky$Offer;LOfferSky$Offer;)Z"⟩
def dkwX1_lambda_isInWindow_0_0 : List UInt8 := [43, 42, 166, 0, 7, 4, 167, 0, 4, 3, 172]
abbrev dktX1_lambda_isInWindow_0_0 : List UInt8 := dkwX1_lambda_isInWindow_0_0 ++ []
theorem dksX1_lambda_isInWindow_0_0 : cX1_lambda_isInWindow_0.data.toList.drop 0 = dktX1_lambda_isInWindow_0_0 := by decide +kernel
theorem dX1_lambda_isInWindow_0_0 : decode cX1_lambda_isInWindow_0 0 = .ok (.aload_n 1, 1) := dk_43 (dk_at dksX1_lambda_isInWindow_0_0 0 rfl rfl)
theorem dX1_lambda_isInWindow_0_1 : decode cX1_lambda_isInWindow_0 1 = .ok (.aload_n 0, 1) := dk_42 (dk_at dksX1_lambda_isInWindow_0_0 1 rfl rfl)
theorem dX1_lambda_isInWindow_0_2 : decode cX1_lambda_isInWindow_0 2 = .ok (.if_acmp .ne 7, 3) := dk_166 0 7 (dk_at dksX1_lambda_isInWindow_0_0 2 rfl rfl)
theorem dX1_lambda_isInWindow_0_5 : decode cX1_lambda_isInWindow_0 5 = .ok (.iconst 1, 1) := dk_4 (dk_at dksX1_lambda_isInWindow_0_0 5 rfl rfl)
theorem dX1_lambda_isInWindow_0_6 : decode cX1_lambda_isInWindow_0 6 = .ok (.goto 4, 3) := dk_167 0 4 (dk_at dksX1_lambda_isInWindow_0_0 6 rfl rfl)
theorem dX1_lambda_isInWindow_0_9 : decode cX1_lambda_isInWindow_0 9 = .ok (.iconst 0, 1) := dk_3 (dk_at dksX1_lambda_isInWindow_0_0 9 rfl rfl)
theorem dX1_lambda_isInWindow_0_10 : decode cX1_lambda_isInWindow_0 10 = .ok (.ireturn, 1) := dk_172 (dk_at dksX1_lambda_isInWindow_0_0 10 rfl rfl)
abbrev cX1_mixTold : ByteArray := prog_1_method_77_code
def yX1_mixTold : MethodName := ⟨RX1, "mixTold", "()V"⟩
def dkwX1_mixTold_5 : List UInt8 := [167, 255, 235, 42, 42, 180, 0, 29, 182, 1, 42, 133, 182, 1, 85, 177]
abbrev dktX1_mixTold_5 : List UInt8 := dkwX1_mixTold_5 ++ []
def dkwX1_mixTold_4 : List UInt8 := [4, 60, 27, 6, 163, 0, 22, 42, 42, 180, 0, 29, 27, 182, 1, 39, 133, 182, 1, 85, 132, 1, 1]
abbrev dktX1_mixTold_4 : List UInt8 := dkwX1_mixTold_4 ++ dktX1_mixTold_5
def dkwX1_mixTold_3 : List UInt8 := [180, 0, 29, 5, 182, 1, 21, 133, 182, 1, 85, 42, 42, 180, 0, 29, 6, 182, 1, 21, 133, 182, 1, 85]
abbrev dktX1_mixTold_3 : List UInt8 := dkwX1_mixTold_3 ++ dktX1_mixTold_4
def dkwX1_mixTold_2 : List UInt8 := [182, 1, 15, 133, 182, 1, 85, 42, 42, 180, 0, 29, 16, 12, 182, 1, 15, 133, 182, 1, 85, 42, 42]
abbrev dktX1_mixTold_2 : List UInt8 := dkwX1_mixTold_2 ++ dktX1_mixTold_3
def dkwX1_mixTold_1 : List UInt8 := [180, 0, 29, 42, 180, 0, 29, 182, 0, 252, 182, 1, 3, 133, 182, 1, 85, 42, 42, 180, 0, 29, 6]
abbrev dktX1_mixTold_1 : List UInt8 := dkwX1_mixTold_1 ++ dktX1_mixTold_2
def dkwX1_mixTold_0 : List UInt8 := [42, 42, 182, 0, 240, 133, 182, 1, 85, 42, 42, 180, 0, 29, 182, 0, 243, 133, 182, 1, 85, 42, 42]
abbrev dktX1_mixTold_0 : List UInt8 := dkwX1_mixTold_0 ++ dktX1_mixTold_1
theorem dksX1_mixTold_0 : cX1_mixTold.data.toList.drop 0 = dktX1_mixTold_0 := by decide +kernel
theorem dksX1_mixTold_1 : cX1_mixTold.data.toList.drop 23 = dktX1_mixTold_1 := dk_seg dksX1_mixTold_0 23 rfl rfl
theorem dksX1_mixTold_2 : cX1_mixTold.data.toList.drop 46 = dktX1_mixTold_2 := dk_seg dksX1_mixTold_1 23 rfl rfl
theorem dksX1_mixTold_3 : cX1_mixTold.data.toList.drop 69 = dktX1_mixTold_3 := dk_seg dksX1_mixTold_2 23 rfl rfl
theorem dksX1_mixTold_4 : cX1_mixTold.data.toList.drop 93 = dktX1_mixTold_4 := dk_seg dksX1_mixTold_3 24 rfl rfl
theorem dksX1_mixTold_5 : cX1_mixTold.data.toList.drop 116 = dktX1_mixTold_5 := dk_seg dksX1_mixTold_4 23 rfl rfl
theorem dX1_mixTold_0 : decode cX1_mixTold 0 = .ok (.aload_n 0, 1) := dk_42 (dk_at dksX1_mixTold_0 0 rfl rfl)
theorem dX1_mixTold_1 : decode cX1_mixTold 1 = .ok (.aload_n 0, 1) := dk_42 (dk_at dksX1_mixTold_0 1 rfl rfl)
theorem dX1_mixTold_2 : decode cX1_mixTold 2 = .ok (.invokevirtual 240, 3) := dk_182 0 240 (dk_at dksX1_mixTold_0 2 rfl rfl)
theorem dX1_mixTold_5 : decode cX1_mixTold 5 = .ok (.i2l, 1) := dk_133 (dk_at dksX1_mixTold_0 5 rfl rfl)
theorem dX1_mixTold_6 : decode cX1_mixTold 6 = .ok (.invokevirtual 341, 3) := dk_182 1 85 (dk_at dksX1_mixTold_0 6 rfl rfl)
theorem dX1_mixTold_9 : decode cX1_mixTold 9 = .ok (.aload_n 0, 1) := dk_42 (dk_at dksX1_mixTold_0 9 rfl rfl)
theorem dX1_mixTold_10 : decode cX1_mixTold 10 = .ok (.aload_n 0, 1) := dk_42 (dk_at dksX1_mixTold_0 10 rfl rfl)
theorem dX1_mixTold_11 : decode cX1_mixTold 11 = .ok (.getfield 29, 3) := dk_180 0 29 (dk_at dksX1_mixTold_0 11 rfl rfl)
theorem dX1_mixTold_14 : decode cX1_mixTold 14 = .ok (.invokevirtual 243, 3) := dk_182 0 243 (dk_at dksX1_mixTold_0 14 rfl rfl)
theorem dX1_mixTold_17 : decode cX1_mixTold 17 = .ok (.i2l, 1) := dk_133 (dk_at dksX1_mixTold_0 17 rfl rfl)
theorem dX1_mixTold_18 : decode cX1_mixTold 18 = .ok (.invokevirtual 341, 3) := dk_182 1 85 (dk_at dksX1_mixTold_0 18 rfl rfl)
theorem dX1_mixTold_21 : decode cX1_mixTold 21 = .ok (.aload_n 0, 1) := dk_42 (dk_at dksX1_mixTold_0 21 rfl rfl)
theorem dX1_mixTold_22 : decode cX1_mixTold 22 = .ok (.aload_n 0, 1) := dk_42 (dk_at dksX1_mixTold_0 22 rfl rfl)
theorem dX1_mixTold_23 : decode cX1_mixTold 23 = .ok (.getfield 29, 3) := dk_180 0 29 (dk_at dksX1_mixTold_1 0 rfl rfl)
theorem dX1_mixTold_26 : decode cX1_mixTold 26 = .ok (.aload_n 0, 1) := dk_42 (dk_at dksX1_mixTold_1 3 rfl rfl)
theorem dX1_mixTold_27 : decode cX1_mixTold 27 = .ok (.getfield 29, 3) := dk_180 0 29 (dk_at dksX1_mixTold_1 4 rfl rfl)
theorem dX1_mixTold_30 : decode cX1_mixTold 30 = .ok (.invokevirtual 252, 3) := dk_182 0 252 (dk_at dksX1_mixTold_1 7 rfl rfl)
theorem dX1_mixTold_33 : decode cX1_mixTold 33 = .ok (.invokevirtual 259, 3) := dk_182 1 3 (dk_at dksX1_mixTold_1 10 rfl rfl)
theorem dX1_mixTold_36 : decode cX1_mixTold 36 = .ok (.i2l, 1) := dk_133 (dk_at dksX1_mixTold_1 13 rfl rfl)
theorem dX1_mixTold_37 : decode cX1_mixTold 37 = .ok (.invokevirtual 341, 3) := dk_182 1 85 (dk_at dksX1_mixTold_1 14 rfl rfl)
theorem dX1_mixTold_40 : decode cX1_mixTold 40 = .ok (.aload_n 0, 1) := dk_42 (dk_at dksX1_mixTold_1 17 rfl rfl)
theorem dX1_mixTold_41 : decode cX1_mixTold 41 = .ok (.aload_n 0, 1) := dk_42 (dk_at dksX1_mixTold_1 18 rfl rfl)
theorem dX1_mixTold_42 : decode cX1_mixTold 42 = .ok (.getfield 29, 3) := dk_180 0 29 (dk_at dksX1_mixTold_1 19 rfl rfl)
theorem dX1_mixTold_45 : decode cX1_mixTold 45 = .ok (.iconst 3, 1) := dk_6 (dk_at dksX1_mixTold_1 22 rfl rfl)
theorem dX1_mixTold_46 : decode cX1_mixTold 46 = .ok (.invokevirtual 271, 3) := dk_182 1 15 (dk_at dksX1_mixTold_2 0 rfl rfl)
theorem dX1_mixTold_49 : decode cX1_mixTold 49 = .ok (.i2l, 1) := dk_133 (dk_at dksX1_mixTold_2 3 rfl rfl)
theorem dX1_mixTold_50 : decode cX1_mixTold 50 = .ok (.invokevirtual 341, 3) := dk_182 1 85 (dk_at dksX1_mixTold_2 4 rfl rfl)
theorem dX1_mixTold_53 : decode cX1_mixTold 53 = .ok (.aload_n 0, 1) := dk_42 (dk_at dksX1_mixTold_2 7 rfl rfl)
theorem dX1_mixTold_54 : decode cX1_mixTold 54 = .ok (.aload_n 0, 1) := dk_42 (dk_at dksX1_mixTold_2 8 rfl rfl)
theorem dX1_mixTold_55 : decode cX1_mixTold 55 = .ok (.getfield 29, 3) := dk_180 0 29 (dk_at dksX1_mixTold_2 9 rfl rfl)
theorem dX1_mixTold_58 : decode cX1_mixTold 58 = .ok (.bipush 12, 2) := dk_16 12 (dk_at dksX1_mixTold_2 12 rfl rfl)
theorem dX1_mixTold_60 : decode cX1_mixTold 60 = .ok (.invokevirtual 271, 3) := dk_182 1 15 (dk_at dksX1_mixTold_2 14 rfl rfl)
theorem dX1_mixTold_63 : decode cX1_mixTold 63 = .ok (.i2l, 1) := dk_133 (dk_at dksX1_mixTold_2 17 rfl rfl)
theorem dX1_mixTold_64 : decode cX1_mixTold 64 = .ok (.invokevirtual 341, 3) := dk_182 1 85 (dk_at dksX1_mixTold_2 18 rfl rfl)
theorem dX1_mixTold_67 : decode cX1_mixTold 67 = .ok (.aload_n 0, 1) := dk_42 (dk_at dksX1_mixTold_2 21 rfl rfl)
theorem dX1_mixTold_68 : decode cX1_mixTold 68 = .ok (.aload_n 0, 1) := dk_42 (dk_at dksX1_mixTold_2 22 rfl rfl)
theorem dX1_mixTold_69 : decode cX1_mixTold 69 = .ok (.getfield 29, 3) := dk_180 0 29 (dk_at dksX1_mixTold_3 0 rfl rfl)
theorem dX1_mixTold_72 : decode cX1_mixTold 72 = .ok (.iconst 2, 1) := dk_5 (dk_at dksX1_mixTold_3 3 rfl rfl)
theorem dX1_mixTold_73 : decode cX1_mixTold 73 = .ok (.invokevirtual 277, 3) := dk_182 1 21 (dk_at dksX1_mixTold_3 4 rfl rfl)
theorem dX1_mixTold_76 : decode cX1_mixTold 76 = .ok (.i2l, 1) := dk_133 (dk_at dksX1_mixTold_3 7 rfl rfl)
theorem dX1_mixTold_77 : decode cX1_mixTold 77 = .ok (.invokevirtual 341, 3) := dk_182 1 85 (dk_at dksX1_mixTold_3 8 rfl rfl)
theorem dX1_mixTold_80 : decode cX1_mixTold 80 = .ok (.aload_n 0, 1) := dk_42 (dk_at dksX1_mixTold_3 11 rfl rfl)
theorem dX1_mixTold_81 : decode cX1_mixTold 81 = .ok (.aload_n 0, 1) := dk_42 (dk_at dksX1_mixTold_3 12 rfl rfl)
theorem dX1_mixTold_82 : decode cX1_mixTold 82 = .ok (.getfield 29, 3) := dk_180 0 29 (dk_at dksX1_mixTold_3 13 rfl rfl)
theorem dX1_mixTold_85 : decode cX1_mixTold 85 = .ok (.iconst 3, 1) := dk_6 (dk_at dksX1_mixTold_3 16 rfl rfl)
theorem dX1_mixTold_86 : decode cX1_mixTold 86 = .ok (.invokevirtual 277, 3) := dk_182 1 21 (dk_at dksX1_mixTold_3 17 rfl rfl)
theorem dX1_mixTold_89 : decode cX1_mixTold 89 = .ok (.i2l, 1) := dk_133 (dk_at dksX1_mixTold_3 20 rfl rfl)
theorem dX1_mixTold_90 : decode cX1_mixTold 90 = .ok (.invokevirtual 341, 3) := dk_182 1 85 (dk_at dksX1_mixTold_3 21 rfl rfl)
theorem dX1_mixTold_93 : decode cX1_mixTold 93 = .ok (.iconst 1, 1) := dk_4 (dk_at dksX1_mixTold_4 0 rfl rfl)
theorem dX1_mixTold_94 : decode cX1_mixTold 94 = .ok (.istore_n 1, 1) := dk_60 (dk_at dksX1_mixTold_4 1 rfl rfl)
theorem dX1_mixTold_95 : decode cX1_mixTold 95 = .ok (.iload_n 1, 1) := dk_27 (dk_at dksX1_mixTold_4 2 rfl rfl)
theorem dX1_mixTold_96 : decode cX1_mixTold 96 = .ok (.iconst 3, 1) := dk_6 (dk_at dksX1_mixTold_4 3 rfl rfl)
theorem dX1_mixTold_97 : decode cX1_mixTold 97 = .ok (.if_icmp .gt 22, 3) := dk_163 0 22 (dk_at dksX1_mixTold_4 4 rfl rfl)
theorem dX1_mixTold_100 : decode cX1_mixTold 100 = .ok (.aload_n 0, 1) := dk_42 (dk_at dksX1_mixTold_4 7 rfl rfl)
theorem dX1_mixTold_101 : decode cX1_mixTold 101 = .ok (.aload_n 0, 1) := dk_42 (dk_at dksX1_mixTold_4 8 rfl rfl)
theorem dX1_mixTold_102 : decode cX1_mixTold 102 = .ok (.getfield 29, 3) := dk_180 0 29 (dk_at dksX1_mixTold_4 9 rfl rfl)
theorem dX1_mixTold_105 : decode cX1_mixTold 105 = .ok (.iload_n 1, 1) := dk_27 (dk_at dksX1_mixTold_4 12 rfl rfl)
theorem dX1_mixTold_106 : decode cX1_mixTold 106 = .ok (.invokevirtual 295, 3) := dk_182 1 39 (dk_at dksX1_mixTold_4 13 rfl rfl)
theorem dX1_mixTold_109 : decode cX1_mixTold 109 = .ok (.i2l, 1) := dk_133 (dk_at dksX1_mixTold_4 16 rfl rfl)
theorem dX1_mixTold_110 : decode cX1_mixTold 110 = .ok (.invokevirtual 341, 3) := dk_182 1 85 (dk_at dksX1_mixTold_4 17 rfl rfl)
theorem dX1_mixTold_113 : decode cX1_mixTold 113 = .ok (.iinc 1 1, 3) := dk_132 1 1 (dk_at dksX1_mixTold_4 20 rfl rfl)
theorem dX1_mixTold_116 : decode cX1_mixTold 116 = .ok (.goto (-21), 3) := dk_167 255 235 (dk_at dksX1_mixTold_5 0 rfl rfl)
theorem dX1_mixTold_119 : decode cX1_mixTold 119 = .ok (.aload_n 0, 1) := dk_42 (dk_at dksX1_mixTold_5 3 rfl rfl)
theorem dX1_mixTold_120 : decode cX1_mixTold 120 = .ok (.aload_n 0, 1) := dk_42 (dk_at dksX1_mixTold_5 4 rfl rfl)
theorem dX1_mixTold_121 : decode cX1_mixTold 121 = .ok (.getfield 29, 3) := dk_180 0 29 (dk_at dksX1_mixTold_5 5 rfl rfl)
theorem dX1_mixTold_124 : decode cX1_mixTold 124 = .ok (.invokevirtual 298, 3) := dk_182 1 42 (dk_at dksX1_mixTold_5 8 rfl rfl)
theorem dX1_mixTold_127 : decode cX1_mixTold 127 = .ok (.i2l, 1) := dk_133 (dk_at dksX1_mixTold_5 11 rfl rfl)
theorem dX1_mixTold_128 : decode cX1_mixTold 128 = .ok (.invokevirtual 341, 3) := dk_182 1 85 (dk_at dksX1_mixTold_5 12 rfl rfl)
theorem dX1_mixTold_131 : decode cX1_mixTold 131 = .ok (.return_, 1) := dk_177 (dk_at dksX1_mixTold_5 15 rfl rfl)
abbrev cX1_mixOrders : ByteArray := prog_1_method_78_code
def yX1_mixOrders : MethodName := ⟨RX1, "mixOrders", "()V"⟩
def dkwX1_mixOrders_3 : List UInt8 := [29, 182, 0, 246, 192, 0, 100, 182, 0, 249, 133, 182, 1, 85, 132, 3, 1, 167, 255, 221, 177]
abbrev dktX1_mixOrders_3 : List UInt8 := dkwX1_mixOrders_3 ++ []
def dkwX1_mixOrders_2 : List UInt8 := [182, 1, 51, 77, 3, 62, 29, 6, 44, 182, 0, 171, 184, 1, 89, 162, 0, 29, 42, 42, 180, 0, 29, 44]
abbrev dktX1_mixOrders_2 : List UInt8 := dkwX1_mixOrders_2 ++ dktX1_mixOrders_3
def dkwX1_mixOrders_1 : List UInt8 := [28, 182, 0, 246, 192, 0, 100, 182, 0, 249, 133, 182, 1, 85, 132, 2, 1, 167, 255, 225, 42, 180, 0, 29]
abbrev dktX1_mixOrders_1 : List UInt8 := dkwX1_mixOrders_1 ++ dktX1_mixOrders_2
def dkwX1_mixOrders_0 : List UInt8 := [42, 180, 0, 29, 182, 1, 45, 76, 3, 61, 28, 43, 182, 0, 171, 162, 0, 29, 42, 42, 180, 0, 29, 43]
abbrev dktX1_mixOrders_0 : List UInt8 := dkwX1_mixOrders_0 ++ dktX1_mixOrders_1
theorem dksX1_mixOrders_0 : cX1_mixOrders.data.toList.drop 0 = dktX1_mixOrders_0 := by decide +kernel
theorem dksX1_mixOrders_1 : cX1_mixOrders.data.toList.drop 24 = dktX1_mixOrders_1 := dk_seg dksX1_mixOrders_0 24 rfl rfl
theorem dksX1_mixOrders_2 : cX1_mixOrders.data.toList.drop 48 = dktX1_mixOrders_2 := dk_seg dksX1_mixOrders_1 24 rfl rfl
theorem dksX1_mixOrders_3 : cX1_mixOrders.data.toList.drop 72 = dktX1_mixOrders_3 := dk_seg dksX1_mixOrders_2 24 rfl rfl
theorem dX1_mixOrders_0 : decode cX1_mixOrders 0 = .ok (.aload_n 0, 1) := dk_42 (dk_at dksX1_mixOrders_0 0 rfl rfl)
theorem dX1_mixOrders_1 : decode cX1_mixOrders 1 = .ok (.getfield 29, 3) := dk_180 0 29 (dk_at dksX1_mixOrders_0 1 rfl rfl)
theorem dX1_mixOrders_4 : decode cX1_mixOrders 4 = .ok (.invokevirtual 301, 3) := dk_182 1 45 (dk_at dksX1_mixOrders_0 4 rfl rfl)
theorem dX1_mixOrders_7 : decode cX1_mixOrders 7 = .ok (.astore_n 1, 1) := dk_76 (dk_at dksX1_mixOrders_0 7 rfl rfl)
theorem dX1_mixOrders_8 : decode cX1_mixOrders 8 = .ok (.iconst 0, 1) := dk_3 (dk_at dksX1_mixOrders_0 8 rfl rfl)
theorem dX1_mixOrders_9 : decode cX1_mixOrders 9 = .ok (.istore_n 2, 1) := dk_61 (dk_at dksX1_mixOrders_0 9 rfl rfl)
theorem dX1_mixOrders_10 : decode cX1_mixOrders 10 = .ok (.iload_n 2, 1) := dk_28 (dk_at dksX1_mixOrders_0 10 rfl rfl)
theorem dX1_mixOrders_11 : decode cX1_mixOrders 11 = .ok (.aload_n 1, 1) := dk_43 (dk_at dksX1_mixOrders_0 11 rfl rfl)
theorem dX1_mixOrders_12 : decode cX1_mixOrders 12 = .ok (.invokevirtual 171, 3) := dk_182 0 171 (dk_at dksX1_mixOrders_0 12 rfl rfl)
theorem dX1_mixOrders_15 : decode cX1_mixOrders 15 = .ok (.if_icmp .ge 29, 3) := dk_162 0 29 (dk_at dksX1_mixOrders_0 15 rfl rfl)
theorem dX1_mixOrders_18 : decode cX1_mixOrders 18 = .ok (.aload_n 0, 1) := dk_42 (dk_at dksX1_mixOrders_0 18 rfl rfl)
theorem dX1_mixOrders_19 : decode cX1_mixOrders 19 = .ok (.aload_n 0, 1) := dk_42 (dk_at dksX1_mixOrders_0 19 rfl rfl)
theorem dX1_mixOrders_20 : decode cX1_mixOrders 20 = .ok (.getfield 29, 3) := dk_180 0 29 (dk_at dksX1_mixOrders_0 20 rfl rfl)
theorem dX1_mixOrders_23 : decode cX1_mixOrders 23 = .ok (.aload_n 1, 1) := dk_43 (dk_at dksX1_mixOrders_0 23 rfl rfl)
theorem dX1_mixOrders_24 : decode cX1_mixOrders 24 = .ok (.iload_n 2, 1) := dk_28 (dk_at dksX1_mixOrders_1 0 rfl rfl)
theorem dX1_mixOrders_25 : decode cX1_mixOrders 25 = .ok (.invokevirtual 246, 3) := dk_182 0 246 (dk_at dksX1_mixOrders_1 1 rfl rfl)
theorem dX1_mixOrders_28 : decode cX1_mixOrders 28 = .ok (.checkcast 100, 3) := dk_192 0 100 (dk_at dksX1_mixOrders_1 4 rfl rfl)
theorem dX1_mixOrders_31 : decode cX1_mixOrders 31 = .ok (.invokevirtual 249, 3) := dk_182 0 249 (dk_at dksX1_mixOrders_1 7 rfl rfl)
theorem dX1_mixOrders_34 : decode cX1_mixOrders 34 = .ok (.i2l, 1) := dk_133 (dk_at dksX1_mixOrders_1 10 rfl rfl)
theorem dX1_mixOrders_35 : decode cX1_mixOrders 35 = .ok (.invokevirtual 341, 3) := dk_182 1 85 (dk_at dksX1_mixOrders_1 11 rfl rfl)
theorem dX1_mixOrders_38 : decode cX1_mixOrders 38 = .ok (.iinc 2 1, 3) := dk_132 2 1 (dk_at dksX1_mixOrders_1 14 rfl rfl)
theorem dX1_mixOrders_41 : decode cX1_mixOrders 41 = .ok (.goto (-31), 3) := dk_167 255 225 (dk_at dksX1_mixOrders_1 17 rfl rfl)
theorem dX1_mixOrders_44 : decode cX1_mixOrders 44 = .ok (.aload_n 0, 1) := dk_42 (dk_at dksX1_mixOrders_1 20 rfl rfl)
theorem dX1_mixOrders_45 : decode cX1_mixOrders 45 = .ok (.getfield 29, 3) := dk_180 0 29 (dk_at dksX1_mixOrders_1 21 rfl rfl)
theorem dX1_mixOrders_48 : decode cX1_mixOrders 48 = .ok (.invokevirtual 307, 3) := dk_182 1 51 (dk_at dksX1_mixOrders_2 0 rfl rfl)
theorem dX1_mixOrders_51 : decode cX1_mixOrders 51 = .ok (.astore_n 2, 1) := dk_77 (dk_at dksX1_mixOrders_2 3 rfl rfl)
theorem dX1_mixOrders_52 : decode cX1_mixOrders 52 = .ok (.iconst 0, 1) := dk_3 (dk_at dksX1_mixOrders_2 4 rfl rfl)
theorem dX1_mixOrders_53 : decode cX1_mixOrders 53 = .ok (.istore_n 3, 1) := dk_62 (dk_at dksX1_mixOrders_2 5 rfl rfl)
theorem dX1_mixOrders_54 : decode cX1_mixOrders 54 = .ok (.iload_n 3, 1) := dk_29 (dk_at dksX1_mixOrders_2 6 rfl rfl)
theorem dX1_mixOrders_55 : decode cX1_mixOrders 55 = .ok (.iconst 3, 1) := dk_6 (dk_at dksX1_mixOrders_2 7 rfl rfl)
theorem dX1_mixOrders_56 : decode cX1_mixOrders 56 = .ok (.aload_n 2, 1) := dk_44 (dk_at dksX1_mixOrders_2 8 rfl rfl)
theorem dX1_mixOrders_57 : decode cX1_mixOrders 57 = .ok (.invokevirtual 171, 3) := dk_182 0 171 (dk_at dksX1_mixOrders_2 9 rfl rfl)
theorem dX1_mixOrders_60 : decode cX1_mixOrders 60 = .ok (.invokestatic 345, 3) := dk_184 1 89 (dk_at dksX1_mixOrders_2 12 rfl rfl)
theorem dX1_mixOrders_63 : decode cX1_mixOrders 63 = .ok (.if_icmp .ge 29, 3) := dk_162 0 29 (dk_at dksX1_mixOrders_2 15 rfl rfl)
theorem dX1_mixOrders_66 : decode cX1_mixOrders 66 = .ok (.aload_n 0, 1) := dk_42 (dk_at dksX1_mixOrders_2 18 rfl rfl)
theorem dX1_mixOrders_67 : decode cX1_mixOrders 67 = .ok (.aload_n 0, 1) := dk_42 (dk_at dksX1_mixOrders_2 19 rfl rfl)
theorem dX1_mixOrders_68 : decode cX1_mixOrders 68 = .ok (.getfield 29, 3) := dk_180 0 29 (dk_at dksX1_mixOrders_2 20 rfl rfl)
theorem dX1_mixOrders_71 : decode cX1_mixOrders 71 = .ok (.aload_n 2, 1) := dk_44 (dk_at dksX1_mixOrders_2 23 rfl rfl)
theorem dX1_mixOrders_72 : decode cX1_mixOrders 72 = .ok (.iload_n 3, 1) := dk_29 (dk_at dksX1_mixOrders_3 0 rfl rfl)
theorem dX1_mixOrders_73 : decode cX1_mixOrders 73 = .ok (.invokevirtual 246, 3) := dk_182 0 246 (dk_at dksX1_mixOrders_3 1 rfl rfl)
theorem dX1_mixOrders_76 : decode cX1_mixOrders 76 = .ok (.checkcast 100, 3) := dk_192 0 100 (dk_at dksX1_mixOrders_3 4 rfl rfl)
theorem dX1_mixOrders_79 : decode cX1_mixOrders 79 = .ok (.invokevirtual 249, 3) := dk_182 0 249 (dk_at dksX1_mixOrders_3 7 rfl rfl)
theorem dX1_mixOrders_82 : decode cX1_mixOrders 82 = .ok (.i2l, 1) := dk_133 (dk_at dksX1_mixOrders_3 10 rfl rfl)
theorem dX1_mixOrders_83 : decode cX1_mixOrders 83 = .ok (.invokevirtual 341, 3) := dk_182 1 85 (dk_at dksX1_mixOrders_3 11 rfl rfl)
theorem dX1_mixOrders_86 : decode cX1_mixOrders 86 = .ok (.iinc 3 1, 3) := dk_132 3 1 (dk_at dksX1_mixOrders_3 14 rfl rfl)
theorem dX1_mixOrders_89 : decode cX1_mixOrders 89 = .ok (.goto (-35), 3) := dk_167 255 221 (dk_at dksX1_mixOrders_3 17 rfl rfl)
theorem dX1_mixOrders_92 : decode cX1_mixOrders 92 = .ok (.return_, 1) := dk_177 (dk_at dksX1_mixOrders_3 20 rfl rfl)
abbrev cX1_mixReach : ByteArray := prog_1_method_79_code
def yX1_mixReach : MethodName := ⟨RX1, "mixReach", "()V"⟩
def dkwX1_mixReach_3 : List UInt8 := [177]
abbrev dktX1_mixReach_3 : List UInt8 := dkwX1_mixReach_3 ++ []
def dkwX1_mixReach_2 : List UInt8 := [180, 0, 29, 27, 28, 182, 1, 63, 133, 182, 1, 85, 132, 2, 1, 167, 255, 208, 132, 1, 1, 167, 255, 193]
abbrev dktX1_mixReach_2 : List UInt8 := dkwX1_mixReach_2 ++ dktX1_mixReach_3
def dkwX1_mixReach_1 : List UInt8 := [182, 1, 57, 153, 0, 31, 42, 42, 180, 0, 29, 27, 28, 182, 1, 60, 133, 182, 1, 85, 42, 42]
abbrev dktX1_mixReach_1 : List UInt8 := dkwX1_mixReach_1 ++ dktX1_mixReach_2
def dkwX1_mixReach_0 : List UInt8 := [3, 60, 27, 7, 162, 0, 64, 27, 4, 96, 61, 28, 7, 162, 0, 49, 42, 180, 0, 29, 27, 28]
abbrev dktX1_mixReach_0 : List UInt8 := dkwX1_mixReach_0 ++ dktX1_mixReach_1
theorem dksX1_mixReach_0 : cX1_mixReach.data.toList.drop 0 = dktX1_mixReach_0 := by decide +kernel
theorem dksX1_mixReach_1 : cX1_mixReach.data.toList.drop 22 = dktX1_mixReach_1 := dk_seg dksX1_mixReach_0 22 rfl rfl
theorem dksX1_mixReach_2 : cX1_mixReach.data.toList.drop 44 = dktX1_mixReach_2 := dk_seg dksX1_mixReach_1 22 rfl rfl
theorem dksX1_mixReach_3 : cX1_mixReach.data.toList.drop 68 = dktX1_mixReach_3 := dk_seg dksX1_mixReach_2 24 rfl rfl
theorem dX1_mixReach_0 : decode cX1_mixReach 0 = .ok (.iconst 0, 1) := dk_3 (dk_at dksX1_mixReach_0 0 rfl rfl)
theorem dX1_mixReach_1 : decode cX1_mixReach 1 = .ok (.istore_n 1, 1) := dk_60 (dk_at dksX1_mixReach_0 1 rfl rfl)
theorem dX1_mixReach_2 : decode cX1_mixReach 2 = .ok (.iload_n 1, 1) := dk_27 (dk_at dksX1_mixReach_0 2 rfl rfl)
theorem dX1_mixReach_3 : decode cX1_mixReach 3 = .ok (.iconst 4, 1) := dk_7 (dk_at dksX1_mixReach_0 3 rfl rfl)
theorem dX1_mixReach_4 : decode cX1_mixReach 4 = .ok (.if_icmp .ge 64, 3) := dk_162 0 64 (dk_at dksX1_mixReach_0 4 rfl rfl)
theorem dX1_mixReach_7 : decode cX1_mixReach 7 = .ok (.iload_n 1, 1) := dk_27 (dk_at dksX1_mixReach_0 7 rfl rfl)
theorem dX1_mixReach_8 : decode cX1_mixReach 8 = .ok (.iconst 1, 1) := dk_4 (dk_at dksX1_mixReach_0 8 rfl rfl)
theorem dX1_mixReach_9 : decode cX1_mixReach 9 = .ok (.iadd, 1) := dk_96 (dk_at dksX1_mixReach_0 9 rfl rfl)
theorem dX1_mixReach_10 : decode cX1_mixReach 10 = .ok (.istore_n 2, 1) := dk_61 (dk_at dksX1_mixReach_0 10 rfl rfl)
theorem dX1_mixReach_11 : decode cX1_mixReach 11 = .ok (.iload_n 2, 1) := dk_28 (dk_at dksX1_mixReach_0 11 rfl rfl)
theorem dX1_mixReach_12 : decode cX1_mixReach 12 = .ok (.iconst 4, 1) := dk_7 (dk_at dksX1_mixReach_0 12 rfl rfl)
theorem dX1_mixReach_13 : decode cX1_mixReach 13 = .ok (.if_icmp .ge 49, 3) := dk_162 0 49 (dk_at dksX1_mixReach_0 13 rfl rfl)
theorem dX1_mixReach_16 : decode cX1_mixReach 16 = .ok (.aload_n 0, 1) := dk_42 (dk_at dksX1_mixReach_0 16 rfl rfl)
theorem dX1_mixReach_17 : decode cX1_mixReach 17 = .ok (.getfield 29, 3) := dk_180 0 29 (dk_at dksX1_mixReach_0 17 rfl rfl)
theorem dX1_mixReach_20 : decode cX1_mixReach 20 = .ok (.iload_n 1, 1) := dk_27 (dk_at dksX1_mixReach_0 20 rfl rfl)
theorem dX1_mixReach_21 : decode cX1_mixReach 21 = .ok (.iload_n 2, 1) := dk_28 (dk_at dksX1_mixReach_0 21 rfl rfl)
theorem dX1_mixReach_22 : decode cX1_mixReach 22 = .ok (.invokevirtual 313, 3) := dk_182 1 57 (dk_at dksX1_mixReach_1 0 rfl rfl)
theorem dX1_mixReach_25 : decode cX1_mixReach 25 = .ok (.ifCond .eq 31, 3) := dk_153 0 31 (dk_at dksX1_mixReach_1 3 rfl rfl)
theorem dX1_mixReach_28 : decode cX1_mixReach 28 = .ok (.aload_n 0, 1) := dk_42 (dk_at dksX1_mixReach_1 6 rfl rfl)
theorem dX1_mixReach_29 : decode cX1_mixReach 29 = .ok (.aload_n 0, 1) := dk_42 (dk_at dksX1_mixReach_1 7 rfl rfl)
theorem dX1_mixReach_30 : decode cX1_mixReach 30 = .ok (.getfield 29, 3) := dk_180 0 29 (dk_at dksX1_mixReach_1 8 rfl rfl)
theorem dX1_mixReach_33 : decode cX1_mixReach 33 = .ok (.iload_n 1, 1) := dk_27 (dk_at dksX1_mixReach_1 11 rfl rfl)
theorem dX1_mixReach_34 : decode cX1_mixReach 34 = .ok (.iload_n 2, 1) := dk_28 (dk_at dksX1_mixReach_1 12 rfl rfl)
theorem dX1_mixReach_35 : decode cX1_mixReach 35 = .ok (.invokevirtual 316, 3) := dk_182 1 60 (dk_at dksX1_mixReach_1 13 rfl rfl)
theorem dX1_mixReach_38 : decode cX1_mixReach 38 = .ok (.i2l, 1) := dk_133 (dk_at dksX1_mixReach_1 16 rfl rfl)
theorem dX1_mixReach_39 : decode cX1_mixReach 39 = .ok (.invokevirtual 341, 3) := dk_182 1 85 (dk_at dksX1_mixReach_1 17 rfl rfl)
theorem dX1_mixReach_42 : decode cX1_mixReach 42 = .ok (.aload_n 0, 1) := dk_42 (dk_at dksX1_mixReach_1 20 rfl rfl)
theorem dX1_mixReach_43 : decode cX1_mixReach 43 = .ok (.aload_n 0, 1) := dk_42 (dk_at dksX1_mixReach_1 21 rfl rfl)
theorem dX1_mixReach_44 : decode cX1_mixReach 44 = .ok (.getfield 29, 3) := dk_180 0 29 (dk_at dksX1_mixReach_2 0 rfl rfl)
theorem dX1_mixReach_47 : decode cX1_mixReach 47 = .ok (.iload_n 1, 1) := dk_27 (dk_at dksX1_mixReach_2 3 rfl rfl)
theorem dX1_mixReach_48 : decode cX1_mixReach 48 = .ok (.iload_n 2, 1) := dk_28 (dk_at dksX1_mixReach_2 4 rfl rfl)
theorem dX1_mixReach_49 : decode cX1_mixReach 49 = .ok (.invokevirtual 319, 3) := dk_182 1 63 (dk_at dksX1_mixReach_2 5 rfl rfl)
theorem dX1_mixReach_52 : decode cX1_mixReach 52 = .ok (.i2l, 1) := dk_133 (dk_at dksX1_mixReach_2 8 rfl rfl)
theorem dX1_mixReach_53 : decode cX1_mixReach 53 = .ok (.invokevirtual 341, 3) := dk_182 1 85 (dk_at dksX1_mixReach_2 9 rfl rfl)
theorem dX1_mixReach_56 : decode cX1_mixReach 56 = .ok (.iinc 2 1, 3) := dk_132 2 1 (dk_at dksX1_mixReach_2 12 rfl rfl)
theorem dX1_mixReach_59 : decode cX1_mixReach 59 = .ok (.goto (-48), 3) := dk_167 255 208 (dk_at dksX1_mixReach_2 15 rfl rfl)
theorem dX1_mixReach_62 : decode cX1_mixReach 62 = .ok (.iinc 1 1, 3) := dk_132 1 1 (dk_at dksX1_mixReach_2 18 rfl rfl)
theorem dX1_mixReach_65 : decode cX1_mixReach 65 = .ok (.goto (-63), 3) := dk_167 255 193 (dk_at dksX1_mixReach_2 21 rfl rfl)
theorem dX1_mixReach_68 : decode cX1_mixReach 68 = .ok (.return_, 1) := dk_177 (dk_at dksX1_mixReach_3 0 rfl rfl)
abbrev cX1_add : ByteArray := prog_1_method_14_code
def yX1_add : MethodName := ⟨RX1, "add", "(IIII)I"⟩
def dkwX1_add_2 : List UInt8 := [29, 79, 89, 6, 21, 4, 79, 183, 0, 102, 182, 0, 105, 172]
abbrev dktX1_add_2 : List UInt8 := dkwX1_add_2 ++ []
def dkwX1_add_1 : List UInt8 := [182, 0, 97, 42, 180, 0, 29, 187, 0, 100, 89, 7, 188, 10, 89, 3, 27, 79, 89, 4, 28, 79, 89, 5]
abbrev dktX1_add_1 : List UInt8 := dkwX1_add_1 ++ dktX1_add_2
def dkwX1_add_0 : List UInt8 := [27, 28, 29, 21, 4, 184, 0, 83, 184, 0, 87, 42, 180, 0, 29, 182, 0, 90, 184, 0, 94, 42]
abbrev dktX1_add_0 : List UInt8 := dkwX1_add_0 ++ dktX1_add_1
theorem dksX1_add_0 : cX1_add.data.toList.drop 0 = dktX1_add_0 := by decide +kernel
theorem dksX1_add_1 : cX1_add.data.toList.drop 22 = dktX1_add_1 := dk_seg dksX1_add_0 22 rfl rfl
theorem dksX1_add_2 : cX1_add.data.toList.drop 46 = dktX1_add_2 := dk_seg dksX1_add_1 24 rfl rfl
theorem dX1_add_0 : decode cX1_add 0 = .ok (.iload_n 1, 1) := dk_27 (dk_at dksX1_add_0 0 rfl rfl)
theorem dX1_add_1 : decode cX1_add 1 = .ok (.iload_n 2, 1) := dk_28 (dk_at dksX1_add_0 1 rfl rfl)
theorem dX1_add_2 : decode cX1_add 2 = .ok (.iload_n 3, 1) := dk_29 (dk_at dksX1_add_0 2 rfl rfl)
theorem dX1_add_3 : decode cX1_add 3 = .ok (.iload 4, 2) := dk_21 4 (dk_at dksX1_add_0 3 rfl rfl)
theorem dX1_add_5 : decode cX1_add 5 = .ok (.invokestatic 83, 3) := dk_184 0 83 (dk_at dksX1_add_0 5 rfl rfl)
theorem dX1_add_8 : decode cX1_add 8 = .ok (.invokestatic 87, 3) := dk_184 0 87 (dk_at dksX1_add_0 8 rfl rfl)
theorem dX1_add_11 : decode cX1_add 11 = .ok (.aload_n 0, 1) := dk_42 (dk_at dksX1_add_0 11 rfl rfl)
theorem dX1_add_12 : decode cX1_add 12 = .ok (.getfield 29, 3) := dk_180 0 29 (dk_at dksX1_add_0 12 rfl rfl)
theorem dX1_add_15 : decode cX1_add 15 = .ok (.invokevirtual 90, 3) := dk_182 0 90 (dk_at dksX1_add_0 15 rfl rfl)
theorem dX1_add_18 : decode cX1_add 18 = .ok (.invokestatic 94, 3) := dk_184 0 94 (dk_at dksX1_add_0 18 rfl rfl)
theorem dX1_add_21 : decode cX1_add 21 = .ok (.aload_n 0, 1) := dk_42 (dk_at dksX1_add_0 21 rfl rfl)
theorem dX1_add_22 : decode cX1_add 22 = .ok (.invokevirtual 97, 3) := dk_182 0 97 (dk_at dksX1_add_1 0 rfl rfl)
theorem dX1_add_25 : decode cX1_add 25 = .ok (.aload_n 0, 1) := dk_42 (dk_at dksX1_add_1 3 rfl rfl)
theorem dX1_add_26 : decode cX1_add 26 = .ok (.getfield 29, 3) := dk_180 0 29 (dk_at dksX1_add_1 4 rfl rfl)
theorem dX1_add_29 : decode cX1_add 29 = .ok (.new 100, 3) := dk_187 0 100 (dk_at dksX1_add_1 7 rfl rfl)
theorem dX1_add_32 : decode cX1_add 32 = .ok (.dup, 1) := dk_89 (dk_at dksX1_add_1 10 rfl rfl)
theorem dX1_add_33 : decode cX1_add 33 = .ok (.iconst 4, 1) := dk_7 (dk_at dksX1_add_1 11 rfl rfl)
theorem dX1_add_34 : decode cX1_add 34 = .ok (.newarray .int, 2) := dk_188_10 (dk_at dksX1_add_1 12 rfl rfl)
theorem dX1_add_36 : decode cX1_add 36 = .ok (.dup, 1) := dk_89 (dk_at dksX1_add_1 14 rfl rfl)
theorem dX1_add_37 : decode cX1_add 37 = .ok (.iconst 0, 1) := dk_3 (dk_at dksX1_add_1 15 rfl rfl)
theorem dX1_add_38 : decode cX1_add 38 = .ok (.iload_n 1, 1) := dk_27 (dk_at dksX1_add_1 16 rfl rfl)
theorem dX1_add_39 : decode cX1_add 39 = .ok (.iastore, 1) := dk_79 (dk_at dksX1_add_1 17 rfl rfl)
theorem dX1_add_40 : decode cX1_add 40 = .ok (.dup, 1) := dk_89 (dk_at dksX1_add_1 18 rfl rfl)
theorem dX1_add_41 : decode cX1_add 41 = .ok (.iconst 1, 1) := dk_4 (dk_at dksX1_add_1 19 rfl rfl)
theorem dX1_add_42 : decode cX1_add 42 = .ok (.iload_n 2, 1) := dk_28 (dk_at dksX1_add_1 20 rfl rfl)
theorem dX1_add_43 : decode cX1_add 43 = .ok (.iastore, 1) := dk_79 (dk_at dksX1_add_1 21 rfl rfl)
theorem dX1_add_44 : decode cX1_add 44 = .ok (.dup, 1) := dk_89 (dk_at dksX1_add_1 22 rfl rfl)
theorem dX1_add_45 : decode cX1_add 45 = .ok (.iconst 2, 1) := dk_5 (dk_at dksX1_add_1 23 rfl rfl)
theorem dX1_add_46 : decode cX1_add 46 = .ok (.iload_n 3, 1) := dk_29 (dk_at dksX1_add_2 0 rfl rfl)
theorem dX1_add_47 : decode cX1_add 47 = .ok (.iastore, 1) := dk_79 (dk_at dksX1_add_2 1 rfl rfl)
theorem dX1_add_48 : decode cX1_add 48 = .ok (.dup, 1) := dk_89 (dk_at dksX1_add_2 2 rfl rfl)
theorem dX1_add_49 : decode cX1_add 49 = .ok (.iconst 3, 1) := dk_6 (dk_at dksX1_add_2 3 rfl rfl)
theorem dX1_add_50 : decode cX1_add 50 = .ok (.iload 4, 2) := dk_21 4 (dk_at dksX1_add_2 4 rfl rfl)
theorem dX1_add_52 : decode cX1_add 52 = .ok (.iastore, 1) := dk_79 (dk_at dksX1_add_2 6 rfl rfl)
theorem dX1_add_53 : decode cX1_add 53 = .ok (.invokespecial 102, 3) := dk_183 0 102 (dk_at dksX1_add_2 7 rfl rfl)
theorem dX1_add_56 : decode cX1_add 56 = .ok (.invokevirtual 105, 3) := dk_182 0 105 (dk_at dksX1_add_2 10 rfl rfl)
theorem dX1_add_59 : decode cX1_add 59 = .ok (.ireturn, 1) := dk_172 (dk_at dksX1_add_2 13 rfl rfl)
abbrev cX1_areValues : ByteArray := prog_1_method_8_code
def yX1_areValues : MethodName := ⟨RX1, "areValues", "(IIII)Z"⟩
def dkwX1_areValues_1 : List UInt8 := [184, 0, 19, 153, 0, 7, 4, 167, 0, 4, 3, 172]
abbrev dktX1_areValues_1 : List UInt8 := dkwX1_areValues_1 ++ []
def dkwX1_areValues_0 : List UInt8 := [26, 184, 0, 19, 153, 0, 28, 27, 184, 0, 19, 153, 0, 21, 28, 184, 0, 19, 153, 0, 14, 29]
abbrev dktX1_areValues_0 : List UInt8 := dkwX1_areValues_0 ++ dktX1_areValues_1
theorem dksX1_areValues_0 : cX1_areValues.data.toList.drop 0 = dktX1_areValues_0 := by decide +kernel
theorem dksX1_areValues_1 : cX1_areValues.data.toList.drop 22 = dktX1_areValues_1 := dk_seg dksX1_areValues_0 22 rfl rfl
theorem dX1_areValues_0 : decode cX1_areValues 0 = .ok (.iload_n 0, 1) := dk_26 (dk_at dksX1_areValues_0 0 rfl rfl)
theorem dX1_areValues_1 : decode cX1_areValues 1 = .ok (.invokestatic 19, 3) := dk_184 0 19 (dk_at dksX1_areValues_0 1 rfl rfl)
theorem dX1_areValues_4 : decode cX1_areValues 4 = .ok (.ifCond .eq 28, 3) := dk_153 0 28 (dk_at dksX1_areValues_0 4 rfl rfl)
theorem dX1_areValues_7 : decode cX1_areValues 7 = .ok (.iload_n 1, 1) := dk_27 (dk_at dksX1_areValues_0 7 rfl rfl)
theorem dX1_areValues_8 : decode cX1_areValues 8 = .ok (.invokestatic 19, 3) := dk_184 0 19 (dk_at dksX1_areValues_0 8 rfl rfl)
theorem dX1_areValues_11 : decode cX1_areValues 11 = .ok (.ifCond .eq 21, 3) := dk_153 0 21 (dk_at dksX1_areValues_0 11 rfl rfl)
theorem dX1_areValues_14 : decode cX1_areValues 14 = .ok (.iload_n 2, 1) := dk_28 (dk_at dksX1_areValues_0 14 rfl rfl)
theorem dX1_areValues_15 : decode cX1_areValues 15 = .ok (.invokestatic 19, 3) := dk_184 0 19 (dk_at dksX1_areValues_0 15 rfl rfl)
theorem dX1_areValues_18 : decode cX1_areValues 18 = .ok (.ifCond .eq 14, 3) := dk_153 0 14 (dk_at dksX1_areValues_0 18 rfl rfl)
theorem dX1_areValues_21 : decode cX1_areValues 21 = .ok (.iload_n 3, 1) := dk_29 (dk_at dksX1_areValues_0 21 rfl rfl)
theorem dX1_areValues_22 : decode cX1_areValues 22 = .ok (.invokestatic 19, 3) := dk_184 0 19 (dk_at dksX1_areValues_1 0 rfl rfl)
theorem dX1_areValues_25 : decode cX1_areValues 25 = .ok (.ifCond .eq 7, 3) := dk_153 0 7 (dk_at dksX1_areValues_1 3 rfl rfl)
theorem dX1_areValues_28 : decode cX1_areValues 28 = .ok (.iconst 1, 1) := dk_4 (dk_at dksX1_areValues_1 6 rfl rfl)
theorem dX1_areValues_29 : decode cX1_areValues 29 = .ok (.goto 4, 3) := dk_167 0 4 (dk_at dksX1_areValues_1 7 rfl rfl)
theorem dX1_areValues_32 : decode cX1_areValues 32 = .ok (.iconst 0, 1) := dk_3 (dk_at dksX1_areValues_1 10 rfl rfl)
theorem dX1_areValues_33 : decode cX1_areValues 33 = .ok (.ireturn, 1) := dk_172 (dk_at dksX1_areValues_1 11 rfl rfl)
abbrev cX1_isValue : ByteArray := prog_1_method_7_code
def yX1_isValue : MethodName := ⟨RX1, "isValue", "(I)Z"⟩
def dkwX1_isValue_0 : List UInt8 := [26, 3, 16, 99, 184, 0, 15, 172]
abbrev dktX1_isValue_0 : List UInt8 := dkwX1_isValue_0 ++ []
theorem dksX1_isValue_0 : cX1_isValue.data.toList.drop 0 = dktX1_isValue_0 := by decide +kernel
theorem dX1_isValue_0 : decode cX1_isValue 0 = .ok (.iload_n 0, 1) := dk_26 (dk_at dksX1_isValue_0 0 rfl rfl)
theorem dX1_isValue_1 : decode cX1_isValue 1 = .ok (.iconst 0, 1) := dk_3 (dk_at dksX1_isValue_0 1 rfl rfl)
theorem dX1_isValue_2 : decode cX1_isValue 2 = .ok (.bipush 99, 2) := dk_16 99 (dk_at dksX1_isValue_0 2 rfl rfl)
theorem dX1_isValue_4 : decode cX1_isValue 4 = .ok (.invokestatic 15, 3) := dk_184 0 15 (dk_at dksX1_isValue_0 4 rfl rfl)
theorem dX1_isValue_7 : decode cX1_isValue 7 = .ok (.ireturn, 1) := dk_172 (dk_at dksX1_isValue_0 7 rfl rfl)
abbrev cX1_require : ByteArray := prog_1_method_2_code
def yX1_require : MethodName := ⟨RX1, "require", "(Z)V"⟩
def dkwX1_require_0 : List UInt8 := [26, 154, 0, 11, 187, 0, 1, 89, 183, 0, 3, 191, 177]
abbrev dktX1_require_0 : List UInt8 := dkwX1_require_0 ++ []
theorem dksX1_require_0 : cX1_require.data.toList.drop 0 = dktX1_require_0 := by decide +kernel
theorem dX1_require_0 : decode cX1_require 0 = .ok (.iload_n 0, 1) := dk_26 (dk_at dksX1_require_0 0 rfl rfl)
theorem dX1_require_1 : decode cX1_require 1 = .ok (.ifCond .ne 11, 3) := dk_154 0 11 (dk_at dksX1_require_0 1 rfl rfl)
theorem dX1_require_4 : decode cX1_require 4 = .ok (.new 1, 3) := dk_187 0 1 (dk_at dksX1_require_0 4 rfl rfl)
theorem dX1_require_7 : decode cX1_require 7 = .ok (.dup, 1) := dk_89 (dk_at dksX1_require_0 7 rfl rfl)
theorem dX1_require_8 : decode cX1_require 8 = .ok (.invokespecial 3, 3) := dk_183 0 3 (dk_at dksX1_require_0 8 rfl rfl)
theorem dX1_require_11 : decode cX1_require 11 = .ok (.athrow, 1) := dk_191 (dk_at dksX1_require_0 11 rfl rfl)
theorem dX1_require_12 : decode cX1_require 12 = .ok (.return_, 1) := dk_177 (dk_at dksX1_require_0 12 rfl rfl)
abbrev cX1_requireState : ByteArray := prog_1_method_3_code
def yX1_requireState : MethodName := ⟨RX1, "requireState", "(Z)V"⟩
def dkwX1_requireState_0 : List UInt8 := [26, 154, 0, 11, 187, 0, 7, 89, 183, 0, 9, 191, 177]
abbrev dktX1_requireState_0 : List UInt8 := dkwX1_requireState_0 ++ []
theorem dksX1_requireState_0 : cX1_requireState.data.toList.drop 0 = dktX1_requireState_0 := by decide +kernel
theorem dX1_requireState_0 : decode cX1_requireState 0 = .ok (.iload_n 0, 1) := dk_26 (dk_at dksX1_requireState_0 0 rfl rfl)
theorem dX1_requireState_1 : decode cX1_requireState 1 = .ok (.ifCond .ne 11, 3) := dk_154 0 11 (dk_at dksX1_requireState_0 1 rfl rfl)
theorem dX1_requireState_4 : decode cX1_requireState 4 = .ok (.new 7, 3) := dk_187 0 7 (dk_at dksX1_requireState_0 4 rfl rfl)
theorem dX1_requireState_7 : decode cX1_requireState 7 = .ok (.dup, 1) := dk_89 (dk_at dksX1_requireState_0 7 rfl rfl)
theorem dX1_requireState_8 : decode cX1_requireState 8 = .ok (.invokespecial 9, 3) := dk_183 0 9 (dk_at dksX1_requireState_0 8 rfl rfl)
theorem dX1_requireState_11 : decode cX1_requireState 11 = .ok (.athrow, 1) := dk_191 (dk_at dksX1_requireState_0 11 rfl rfl)
theorem dX1_requireState_12 : decode cX1_requireState 12 = .ok (.return_, 1) := dk_177 (dk_at dksX1_requireState_0 12 rfl rfl)
abbrev cX1_remove : ByteArray := prog_1_method_15_code
def yX1_remove : MethodName := ⟨RX1, "remove", "(I)I"⟩
def dkwX1_remove_0 : List UInt8 := [42, 180, 0, 29, 27, 182, 0, 69, 184, 0, 72, 42, 182, 0, 97, 42, 180, 0, 29, 27, 182, 0, 109, 172]
abbrev dktX1_remove_0 : List UInt8 := dkwX1_remove_0 ++ []
theorem dksX1_remove_0 : cX1_remove.data.toList.drop 0 = dktX1_remove_0 := by decide +kernel
theorem dX1_remove_0 : decode cX1_remove 0 = .ok (.aload_n 0, 1) := dk_42 (dk_at dksX1_remove_0 0 rfl rfl)
theorem dX1_remove_1 : decode cX1_remove 1 = .ok (.getfield 29, 3) := dk_180 0 29 (dk_at dksX1_remove_0 1 rfl rfl)
theorem dX1_remove_4 : decode cX1_remove 4 = .ok (.iload_n 1, 1) := dk_27 (dk_at dksX1_remove_0 4 rfl rfl)
theorem dX1_remove_5 : decode cX1_remove 5 = .ok (.invokevirtual 69, 3) := dk_182 0 69 (dk_at dksX1_remove_0 5 rfl rfl)
theorem dX1_remove_8 : decode cX1_remove 8 = .ok (.invokestatic 72, 3) := dk_184 0 72 (dk_at dksX1_remove_0 8 rfl rfl)
theorem dX1_remove_11 : decode cX1_remove 11 = .ok (.aload_n 0, 1) := dk_42 (dk_at dksX1_remove_0 11 rfl rfl)
theorem dX1_remove_12 : decode cX1_remove 12 = .ok (.invokevirtual 97, 3) := dk_182 0 97 (dk_at dksX1_remove_0 12 rfl rfl)
theorem dX1_remove_15 : decode cX1_remove 15 = .ok (.aload_n 0, 1) := dk_42 (dk_at dksX1_remove_0 15 rfl rfl)
theorem dX1_remove_16 : decode cX1_remove 16 = .ok (.getfield 29, 3) := dk_180 0 29 (dk_at dksX1_remove_0 16 rfl rfl)
theorem dX1_remove_19 : decode cX1_remove 19 = .ok (.iload_n 1, 1) := dk_27 (dk_at dksX1_remove_0 19 rfl rfl)
theorem dX1_remove_20 : decode cX1_remove 20 = .ok (.invokevirtual 109, 3) := dk_182 0 109 (dk_at dksX1_remove_0 20 rfl rfl)
theorem dX1_remove_23 : decode cX1_remove 23 = .ok (.ireturn, 1) := dk_172 (dk_at dksX1_remove_0 23 rfl rfl)
abbrev cX1_requireIndex : ByteArray := prog_1_method_4_code
def yX1_requireIndex : MethodName := ⟨RX1, "requireIndex", "(Z)V"⟩
def dkwX1_requireIndex_0 : List UInt8 := [26, 154, 0, 11, 187, 0, 10, 89, 183, 0, 12, 191, 177]
abbrev dktX1_requireIndex_0 : List UInt8 := dkwX1_requireIndex_0 ++ []
theorem dksX1_requireIndex_0 : cX1_requireIndex.data.toList.drop 0 = dktX1_requireIndex_0 := by decide +kernel
theorem dX1_requireIndex_0 : decode cX1_requireIndex 0 = .ok (.iload_n 0, 1) := dk_26 (dk_at dksX1_requireIndex_0 0 rfl rfl)
theorem dX1_requireIndex_1 : decode cX1_requireIndex 1 = .ok (.ifCond .ne 11, 3) := dk_154 0 11 (dk_at dksX1_requireIndex_0 1 rfl rfl)
theorem dX1_requireIndex_4 : decode cX1_requireIndex 4 = .ok (.new 10, 3) := dk_187 0 10 (dk_at dksX1_requireIndex_0 4 rfl rfl)
theorem dX1_requireIndex_7 : decode cX1_requireIndex 7 = .ok (.dup, 1) := dk_89 (dk_at dksX1_requireIndex_0 7 rfl rfl)
theorem dX1_requireIndex_8 : decode cX1_requireIndex 8 = .ok (.invokespecial 12, 3) := dk_183 0 12 (dk_at dksX1_requireIndex_0 8 rfl rfl)
theorem dX1_requireIndex_11 : decode cX1_requireIndex 11 = .ok (.athrow, 1) := dk_191 (dk_at dksX1_requireIndex_0 11 rfl rfl)
theorem dX1_requireIndex_12 : decode cX1_requireIndex 12 = .ok (.return_, 1) := dk_177 (dk_at dksX1_requireIndex_0 12 rfl rfl)
abbrev cX1_change : ByteArray := prog_1_method_16_code
def yX1_change : MethodName := ⟨RX1, "change", "(III)I"⟩
def dkwX1_change_1 : List UInt8 := [27, 28, 29, 182, 0, 117, 172]
abbrev dktX1_change_1 : List UInt8 := dkwX1_change_1 ++ []
def dkwX1_change_0 : List UInt8 := [42, 27, 28, 182, 0, 113, 184, 0, 72, 29, 184, 0, 19, 184, 0, 87, 42, 182, 0, 97, 42, 180, 0, 29]
abbrev dktX1_change_0 : List UInt8 := dkwX1_change_0 ++ dktX1_change_1
theorem dksX1_change_0 : cX1_change.data.toList.drop 0 = dktX1_change_0 := by decide +kernel
theorem dksX1_change_1 : cX1_change.data.toList.drop 24 = dktX1_change_1 := dk_seg dksX1_change_0 24 rfl rfl
theorem dX1_change_0 : decode cX1_change 0 = .ok (.aload_n 0, 1) := dk_42 (dk_at dksX1_change_0 0 rfl rfl)
theorem dX1_change_1 : decode cX1_change 1 = .ok (.iload_n 1, 1) := dk_27 (dk_at dksX1_change_0 1 rfl rfl)
theorem dX1_change_2 : decode cX1_change 2 = .ok (.iload_n 2, 1) := dk_28 (dk_at dksX1_change_0 2 rfl rfl)
theorem dX1_change_3 : decode cX1_change 3 = .ok (.invokevirtual 113, 3) := dk_182 0 113 (dk_at dksX1_change_0 3 rfl rfl)
theorem dX1_change_6 : decode cX1_change 6 = .ok (.invokestatic 72, 3) := dk_184 0 72 (dk_at dksX1_change_0 6 rfl rfl)
theorem dX1_change_9 : decode cX1_change 9 = .ok (.iload_n 3, 1) := dk_29 (dk_at dksX1_change_0 9 rfl rfl)
theorem dX1_change_10 : decode cX1_change 10 = .ok (.invokestatic 19, 3) := dk_184 0 19 (dk_at dksX1_change_0 10 rfl rfl)
theorem dX1_change_13 : decode cX1_change 13 = .ok (.invokestatic 87, 3) := dk_184 0 87 (dk_at dksX1_change_0 13 rfl rfl)
theorem dX1_change_16 : decode cX1_change 16 = .ok (.aload_n 0, 1) := dk_42 (dk_at dksX1_change_0 16 rfl rfl)
theorem dX1_change_17 : decode cX1_change 17 = .ok (.invokevirtual 97, 3) := dk_182 0 97 (dk_at dksX1_change_0 17 rfl rfl)
theorem dX1_change_20 : decode cX1_change 20 = .ok (.aload_n 0, 1) := dk_42 (dk_at dksX1_change_0 20 rfl rfl)
theorem dX1_change_21 : decode cX1_change 21 = .ok (.getfield 29, 3) := dk_180 0 29 (dk_at dksX1_change_0 21 rfl rfl)
theorem dX1_change_24 : decode cX1_change 24 = .ok (.iload_n 1, 1) := dk_27 (dk_at dksX1_change_1 0 rfl rfl)
theorem dX1_change_25 : decode cX1_change 25 = .ok (.iload_n 2, 1) := dk_28 (dk_at dksX1_change_1 1 rfl rfl)
theorem dX1_change_26 : decode cX1_change 26 = .ok (.iload_n 3, 1) := dk_29 (dk_at dksX1_change_1 2 rfl rfl)
theorem dX1_change_27 : decode cX1_change 27 = .ok (.invokevirtual 117, 3) := dk_182 0 117 (dk_at dksX1_change_1 3 rfl rfl)
theorem dX1_change_30 : decode cX1_change 30 = .ok (.ireturn, 1) := dk_172 (dk_at dksX1_change_1 6 rfl rfl)
abbrev cX1_areBoth : ByteArray := prog_1_method_13_code
def yX1_areBoth : MethodName := ⟨RX1, "areBoth", "(II)Z"⟩
def dkwX1_areBoth_0 : List UInt8 := [42, 180, 0, 29, 27, 182, 0, 69, 153, 0, 14, 28, 184, 0, 80, 153, 0, 7, 4, 167, 0, 4, 3, 172]
abbrev dktX1_areBoth_0 : List UInt8 := dkwX1_areBoth_0 ++ []
theorem dksX1_areBoth_0 : cX1_areBoth.data.toList.drop 0 = dktX1_areBoth_0 := by decide +kernel
theorem dX1_areBoth_0 : decode cX1_areBoth 0 = .ok (.aload_n 0, 1) := dk_42 (dk_at dksX1_areBoth_0 0 rfl rfl)
theorem dX1_areBoth_1 : decode cX1_areBoth 1 = .ok (.getfield 29, 3) := dk_180 0 29 (dk_at dksX1_areBoth_0 1 rfl rfl)
theorem dX1_areBoth_4 : decode cX1_areBoth 4 = .ok (.iload_n 1, 1) := dk_27 (dk_at dksX1_areBoth_0 4 rfl rfl)
theorem dX1_areBoth_5 : decode cX1_areBoth 5 = .ok (.invokevirtual 69, 3) := dk_182 0 69 (dk_at dksX1_areBoth_0 5 rfl rfl)
theorem dX1_areBoth_8 : decode cX1_areBoth 8 = .ok (.ifCond .eq 14, 3) := dk_153 0 14 (dk_at dksX1_areBoth_0 8 rfl rfl)
theorem dX1_areBoth_11 : decode cX1_areBoth 11 = .ok (.iload_n 2, 1) := dk_28 (dk_at dksX1_areBoth_0 11 rfl rfl)
theorem dX1_areBoth_12 : decode cX1_areBoth 12 = .ok (.invokestatic 80, 3) := dk_184 0 80 (dk_at dksX1_areBoth_0 12 rfl rfl)
theorem dX1_areBoth_15 : decode cX1_areBoth 15 = .ok (.ifCond .eq 7, 3) := dk_153 0 7 (dk_at dksX1_areBoth_0 15 rfl rfl)
theorem dX1_areBoth_18 : decode cX1_areBoth 18 = .ok (.iconst 1, 1) := dk_4 (dk_at dksX1_areBoth_0 18 rfl rfl)
theorem dX1_areBoth_19 : decode cX1_areBoth 19 = .ok (.goto 4, 3) := dk_167 0 4 (dk_at dksX1_areBoth_0 19 rfl rfl)
theorem dX1_areBoth_22 : decode cX1_areBoth 22 = .ok (.iconst 0, 1) := dk_3 (dk_at dksX1_areBoth_0 22 rfl rfl)
theorem dX1_areBoth_23 : decode cX1_areBoth 23 = .ok (.ireturn, 1) := dk_172 (dk_at dksX1_areBoth_0 23 rfl rfl)
abbrev cX1_isSide : ByteArray := prog_1_method_6_code
def yX1_isSide : MethodName := ⟨RX1, "isSide", "(I)Z"⟩
def dkwX1_isSide_0 : List UInt8 := [26, 3, 6, 184, 0, 15, 172]
abbrev dktX1_isSide_0 : List UInt8 := dkwX1_isSide_0 ++ []
theorem dksX1_isSide_0 : cX1_isSide.data.toList.drop 0 = dktX1_isSide_0 := by decide +kernel
theorem dX1_isSide_0 : decode cX1_isSide 0 = .ok (.iload_n 0, 1) := dk_26 (dk_at dksX1_isSide_0 0 rfl rfl)
theorem dX1_isSide_1 : decode cX1_isSide 1 = .ok (.iconst 0, 1) := dk_3 (dk_at dksX1_isSide_0 1 rfl rfl)
theorem dX1_isSide_2 : decode cX1_isSide 2 = .ok (.iconst 3, 1) := dk_6 (dk_at dksX1_isSide_0 2 rfl rfl)
theorem dX1_isSide_3 : decode cX1_isSide 3 = .ok (.invokestatic 15, 3) := dk_184 0 15 (dk_at dksX1_isSide_0 3 rfl rfl)
theorem dX1_isSide_6 : decode cX1_isSide 6 = .ok (.ireturn, 1) := dk_172 (dk_at dksX1_isSide_0 6 rfl rfl)
abbrev cX1_setWish : ByteArray := prog_1_method_18_code
def yX1_setWish : MethodName := ⟨RX1, "setWish", "(II)I"⟩
def dkwX1_setWish_1 : List UInt8 := [27, 28, 182, 0, 124, 172]
abbrev dktX1_setWish_1 : List UInt8 := dkwX1_setWish_1 ++ []
def dkwX1_setWish_0 : List UInt8 := [27, 184, 0, 80, 184, 0, 72, 28, 3, 5, 184, 0, 15, 184, 0, 87, 42, 182, 0, 97, 42, 180, 0, 29]
abbrev dktX1_setWish_0 : List UInt8 := dkwX1_setWish_0 ++ dktX1_setWish_1
theorem dksX1_setWish_0 : cX1_setWish.data.toList.drop 0 = dktX1_setWish_0 := by decide +kernel
theorem dksX1_setWish_1 : cX1_setWish.data.toList.drop 24 = dktX1_setWish_1 := dk_seg dksX1_setWish_0 24 rfl rfl
theorem dX1_setWish_0 : decode cX1_setWish 0 = .ok (.iload_n 1, 1) := dk_27 (dk_at dksX1_setWish_0 0 rfl rfl)
theorem dX1_setWish_1 : decode cX1_setWish 1 = .ok (.invokestatic 80, 3) := dk_184 0 80 (dk_at dksX1_setWish_0 1 rfl rfl)
theorem dX1_setWish_4 : decode cX1_setWish 4 = .ok (.invokestatic 72, 3) := dk_184 0 72 (dk_at dksX1_setWish_0 4 rfl rfl)
theorem dX1_setWish_7 : decode cX1_setWish 7 = .ok (.iload_n 2, 1) := dk_28 (dk_at dksX1_setWish_0 7 rfl rfl)
theorem dX1_setWish_8 : decode cX1_setWish 8 = .ok (.iconst 0, 1) := dk_3 (dk_at dksX1_setWish_0 8 rfl rfl)
theorem dX1_setWish_9 : decode cX1_setWish 9 = .ok (.iconst 2, 1) := dk_5 (dk_at dksX1_setWish_0 9 rfl rfl)
theorem dX1_setWish_10 : decode cX1_setWish 10 = .ok (.invokestatic 15, 3) := dk_184 0 15 (dk_at dksX1_setWish_0 10 rfl rfl)
theorem dX1_setWish_13 : decode cX1_setWish 13 = .ok (.invokestatic 87, 3) := dk_184 0 87 (dk_at dksX1_setWish_0 13 rfl rfl)
theorem dX1_setWish_16 : decode cX1_setWish 16 = .ok (.aload_n 0, 1) := dk_42 (dk_at dksX1_setWish_0 16 rfl rfl)
theorem dX1_setWish_17 : decode cX1_setWish 17 = .ok (.invokevirtual 97, 3) := dk_182 0 97 (dk_at dksX1_setWish_0 17 rfl rfl)
theorem dX1_setWish_20 : decode cX1_setWish 20 = .ok (.aload_n 0, 1) := dk_42 (dk_at dksX1_setWish_0 20 rfl rfl)
theorem dX1_setWish_21 : decode cX1_setWish 21 = .ok (.getfield 29, 3) := dk_180 0 29 (dk_at dksX1_setWish_0 21 rfl rfl)
theorem dX1_setWish_24 : decode cX1_setWish 24 = .ok (.iload_n 1, 1) := dk_27 (dk_at dksX1_setWish_1 0 rfl rfl)
theorem dX1_setWish_25 : decode cX1_setWish 25 = .ok (.iload_n 2, 1) := dk_28 (dk_at dksX1_setWish_1 1 rfl rfl)
theorem dX1_setWish_26 : decode cX1_setWish 26 = .ok (.invokevirtual 124, 3) := dk_182 0 124 (dk_at dksX1_setWish_1 2 rfl rfl)
theorem dX1_setWish_29 : decode cX1_setWish 29 = .ok (.ireturn, 1) := dk_172 (dk_at dksX1_setWish_1 5 rfl rfl)
abbrev cX1_setBounds : ByteArray := prog_1_method_19_code
def yX1_setBounds : MethodName := ⟨RX1, "setBounds", "(III)I"⟩
def dkwX1_setBounds_1 : List UInt8 := [4, 167, 0, 4, 3, 184, 0, 87, 42, 182, 0, 97, 42, 180, 0, 29, 27, 28, 29, 182, 0, 128, 172]
abbrev dktX1_setBounds_1 : List UInt8 := dkwX1_setBounds_1 ++ []
def dkwX1_setBounds_0 : List UInt8 := [27, 184, 0, 80, 184, 0, 72, 28, 184, 0, 19, 153, 0, 17, 29, 28, 16, 99, 184, 0, 15, 153, 0, 7]
abbrev dktX1_setBounds_0 : List UInt8 := dkwX1_setBounds_0 ++ dktX1_setBounds_1
theorem dksX1_setBounds_0 : cX1_setBounds.data.toList.drop 0 = dktX1_setBounds_0 := by decide +kernel
theorem dksX1_setBounds_1 : cX1_setBounds.data.toList.drop 24 = dktX1_setBounds_1 := dk_seg dksX1_setBounds_0 24 rfl rfl
theorem dX1_setBounds_0 : decode cX1_setBounds 0 = .ok (.iload_n 1, 1) := dk_27 (dk_at dksX1_setBounds_0 0 rfl rfl)
theorem dX1_setBounds_1 : decode cX1_setBounds 1 = .ok (.invokestatic 80, 3) := dk_184 0 80 (dk_at dksX1_setBounds_0 1 rfl rfl)
theorem dX1_setBounds_4 : decode cX1_setBounds 4 = .ok (.invokestatic 72, 3) := dk_184 0 72 (dk_at dksX1_setBounds_0 4 rfl rfl)
theorem dX1_setBounds_7 : decode cX1_setBounds 7 = .ok (.iload_n 2, 1) := dk_28 (dk_at dksX1_setBounds_0 7 rfl rfl)
theorem dX1_setBounds_8 : decode cX1_setBounds 8 = .ok (.invokestatic 19, 3) := dk_184 0 19 (dk_at dksX1_setBounds_0 8 rfl rfl)
theorem dX1_setBounds_11 : decode cX1_setBounds 11 = .ok (.ifCond .eq 17, 3) := dk_153 0 17 (dk_at dksX1_setBounds_0 11 rfl rfl)
theorem dX1_setBounds_14 : decode cX1_setBounds 14 = .ok (.iload_n 3, 1) := dk_29 (dk_at dksX1_setBounds_0 14 rfl rfl)
theorem dX1_setBounds_15 : decode cX1_setBounds 15 = .ok (.iload_n 2, 1) := dk_28 (dk_at dksX1_setBounds_0 15 rfl rfl)
theorem dX1_setBounds_16 : decode cX1_setBounds 16 = .ok (.bipush 99, 2) := dk_16 99 (dk_at dksX1_setBounds_0 16 rfl rfl)
theorem dX1_setBounds_18 : decode cX1_setBounds 18 = .ok (.invokestatic 15, 3) := dk_184 0 15 (dk_at dksX1_setBounds_0 18 rfl rfl)
theorem dX1_setBounds_21 : decode cX1_setBounds 21 = .ok (.ifCond .eq 7, 3) := dk_153 0 7 (dk_at dksX1_setBounds_0 21 rfl rfl)
theorem dX1_setBounds_24 : decode cX1_setBounds 24 = .ok (.iconst 1, 1) := dk_4 (dk_at dksX1_setBounds_1 0 rfl rfl)
theorem dX1_setBounds_25 : decode cX1_setBounds 25 = .ok (.goto 4, 3) := dk_167 0 4 (dk_at dksX1_setBounds_1 1 rfl rfl)
theorem dX1_setBounds_28 : decode cX1_setBounds 28 = .ok (.iconst 0, 1) := dk_3 (dk_at dksX1_setBounds_1 4 rfl rfl)
theorem dX1_setBounds_29 : decode cX1_setBounds 29 = .ok (.invokestatic 87, 3) := dk_184 0 87 (dk_at dksX1_setBounds_1 5 rfl rfl)
theorem dX1_setBounds_32 : decode cX1_setBounds 32 = .ok (.aload_n 0, 1) := dk_42 (dk_at dksX1_setBounds_1 8 rfl rfl)
theorem dX1_setBounds_33 : decode cX1_setBounds 33 = .ok (.invokevirtual 97, 3) := dk_182 0 97 (dk_at dksX1_setBounds_1 9 rfl rfl)
theorem dX1_setBounds_36 : decode cX1_setBounds 36 = .ok (.aload_n 0, 1) := dk_42 (dk_at dksX1_setBounds_1 12 rfl rfl)
theorem dX1_setBounds_37 : decode cX1_setBounds 37 = .ok (.getfield 29, 3) := dk_180 0 29 (dk_at dksX1_setBounds_1 13 rfl rfl)
theorem dX1_setBounds_40 : decode cX1_setBounds 40 = .ok (.iload_n 1, 1) := dk_27 (dk_at dksX1_setBounds_1 16 rfl rfl)
theorem dX1_setBounds_41 : decode cX1_setBounds 41 = .ok (.iload_n 2, 1) := dk_28 (dk_at dksX1_setBounds_1 17 rfl rfl)
theorem dX1_setBounds_42 : decode cX1_setBounds 42 = .ok (.iload_n 3, 1) := dk_29 (dk_at dksX1_setBounds_1 18 rfl rfl)
theorem dX1_setBounds_43 : decode cX1_setBounds 43 = .ok (.invokevirtual 128, 3) := dk_182 0 128 (dk_at dksX1_setBounds_1 19 rfl rfl)
theorem dX1_setBounds_46 : decode cX1_setBounds 46 = .ok (.ireturn, 1) := dk_172 (dk_at dksX1_setBounds_1 22 rfl rfl)
abbrev cX1_setWeight : ByteArray := prog_1_method_20_code
def yX1_setWeight : MethodName := ⟨RX1, "setWeight", "(II)I"⟩
def dkwX1_setWeight_2 : List UInt8 := [79, 29, 172]
abbrev dktX1_setWeight_2 : List UInt8 := dkwX1_setWeight_2 ++ []
def dkwX1_setWeight_1 : List UInt8 := [180, 0, 29, 180, 0, 131, 180, 0, 135, 27, 46, 62, 42, 180, 0, 29, 180, 0, 131, 180, 0, 135, 27, 28]
abbrev dktX1_setWeight_1 : List UInt8 := dkwX1_setWeight_1 ++ dktX1_setWeight_2
def dkwX1_setWeight_0 : List UInt8 := [27, 184, 0, 80, 184, 0, 72, 28, 3, 16, 9, 184, 0, 15, 184, 0, 87, 42, 182, 0, 97, 42]
abbrev dktX1_setWeight_0 : List UInt8 := dkwX1_setWeight_0 ++ dktX1_setWeight_1
theorem dksX1_setWeight_0 : cX1_setWeight.data.toList.drop 0 = dktX1_setWeight_0 := by decide +kernel
theorem dksX1_setWeight_1 : cX1_setWeight.data.toList.drop 22 = dktX1_setWeight_1 := dk_seg dksX1_setWeight_0 22 rfl rfl
theorem dksX1_setWeight_2 : cX1_setWeight.data.toList.drop 46 = dktX1_setWeight_2 := dk_seg dksX1_setWeight_1 24 rfl rfl
theorem dX1_setWeight_0 : decode cX1_setWeight 0 = .ok (.iload_n 1, 1) := dk_27 (dk_at dksX1_setWeight_0 0 rfl rfl)
theorem dX1_setWeight_1 : decode cX1_setWeight 1 = .ok (.invokestatic 80, 3) := dk_184 0 80 (dk_at dksX1_setWeight_0 1 rfl rfl)
theorem dX1_setWeight_4 : decode cX1_setWeight 4 = .ok (.invokestatic 72, 3) := dk_184 0 72 (dk_at dksX1_setWeight_0 4 rfl rfl)
theorem dX1_setWeight_7 : decode cX1_setWeight 7 = .ok (.iload_n 2, 1) := dk_28 (dk_at dksX1_setWeight_0 7 rfl rfl)
theorem dX1_setWeight_8 : decode cX1_setWeight 8 = .ok (.iconst 0, 1) := dk_3 (dk_at dksX1_setWeight_0 8 rfl rfl)
theorem dX1_setWeight_9 : decode cX1_setWeight 9 = .ok (.bipush 9, 2) := dk_16 9 (dk_at dksX1_setWeight_0 9 rfl rfl)
theorem dX1_setWeight_11 : decode cX1_setWeight 11 = .ok (.invokestatic 15, 3) := dk_184 0 15 (dk_at dksX1_setWeight_0 11 rfl rfl)
theorem dX1_setWeight_14 : decode cX1_setWeight 14 = .ok (.invokestatic 87, 3) := dk_184 0 87 (dk_at dksX1_setWeight_0 14 rfl rfl)
theorem dX1_setWeight_17 : decode cX1_setWeight 17 = .ok (.aload_n 0, 1) := dk_42 (dk_at dksX1_setWeight_0 17 rfl rfl)
theorem dX1_setWeight_18 : decode cX1_setWeight 18 = .ok (.invokevirtual 97, 3) := dk_182 0 97 (dk_at dksX1_setWeight_0 18 rfl rfl)
theorem dX1_setWeight_21 : decode cX1_setWeight 21 = .ok (.aload_n 0, 1) := dk_42 (dk_at dksX1_setWeight_0 21 rfl rfl)
theorem dX1_setWeight_22 : decode cX1_setWeight 22 = .ok (.getfield 29, 3) := dk_180 0 29 (dk_at dksX1_setWeight_1 0 rfl rfl)
theorem dX1_setWeight_25 : decode cX1_setWeight 25 = .ok (.getfield 131, 3) := dk_180 0 131 (dk_at dksX1_setWeight_1 3 rfl rfl)
theorem dX1_setWeight_28 : decode cX1_setWeight 28 = .ok (.getfield 135, 3) := dk_180 0 135 (dk_at dksX1_setWeight_1 6 rfl rfl)
theorem dX1_setWeight_31 : decode cX1_setWeight 31 = .ok (.iload_n 1, 1) := dk_27 (dk_at dksX1_setWeight_1 9 rfl rfl)
theorem dX1_setWeight_32 : decode cX1_setWeight 32 = .ok (.iaload, 1) := dk_46 (dk_at dksX1_setWeight_1 10 rfl rfl)
theorem dX1_setWeight_33 : decode cX1_setWeight 33 = .ok (.istore_n 3, 1) := dk_62 (dk_at dksX1_setWeight_1 11 rfl rfl)
theorem dX1_setWeight_34 : decode cX1_setWeight 34 = .ok (.aload_n 0, 1) := dk_42 (dk_at dksX1_setWeight_1 12 rfl rfl)
theorem dX1_setWeight_35 : decode cX1_setWeight 35 = .ok (.getfield 29, 3) := dk_180 0 29 (dk_at dksX1_setWeight_1 13 rfl rfl)
theorem dX1_setWeight_38 : decode cX1_setWeight 38 = .ok (.getfield 131, 3) := dk_180 0 131 (dk_at dksX1_setWeight_1 16 rfl rfl)
theorem dX1_setWeight_41 : decode cX1_setWeight 41 = .ok (.getfield 135, 3) := dk_180 0 135 (dk_at dksX1_setWeight_1 19 rfl rfl)
theorem dX1_setWeight_44 : decode cX1_setWeight 44 = .ok (.iload_n 1, 1) := dk_27 (dk_at dksX1_setWeight_1 22 rfl rfl)
theorem dX1_setWeight_45 : decode cX1_setWeight 45 = .ok (.iload_n 2, 1) := dk_28 (dk_at dksX1_setWeight_1 23 rfl rfl)
theorem dX1_setWeight_46 : decode cX1_setWeight 46 = .ok (.iastore, 1) := dk_79 (dk_at dksX1_setWeight_2 0 rfl rfl)
theorem dX1_setWeight_47 : decode cX1_setWeight 47 = .ok (.iload_n 3, 1) := dk_29 (dk_at dksX1_setWeight_2 1 rfl rfl)
theorem dX1_setWeight_48 : decode cX1_setWeight 48 = .ok (.ireturn, 1) := dk_172 (dk_at dksX1_setWeight_2 2 rfl rfl)
abbrev cX1_append : ByteArray := prog_1_method_21_code
def yX1_append : MethodName := ⟨RX1, "append", "(I)I"⟩
def dkwX1_append_2 : List UInt8 := [172]
abbrev dktX1_append_2 : List UInt8 := dkwX1_append_2 ++ []
def dkwX1_append_1 : List UInt8 := [167, 0, 4, 3, 184, 0, 94, 42, 180, 0, 49, 27, 146, 182, 0, 144, 87, 42, 180, 0, 49, 182, 0, 141]
abbrev dktX1_append_1 : List UInt8 := dkwX1_append_1 ++ dktX1_append_2
def dkwX1_append_0 : List UInt8 := [27, 16, 33, 16, 126, 184, 0, 15, 184, 0, 87, 42, 180, 0, 49, 182, 0, 141, 16, 60, 162, 0, 7, 4]
abbrev dktX1_append_0 : List UInt8 := dkwX1_append_0 ++ dktX1_append_1
theorem dksX1_append_0 : cX1_append.data.toList.drop 0 = dktX1_append_0 := by decide +kernel
theorem dksX1_append_1 : cX1_append.data.toList.drop 24 = dktX1_append_1 := dk_seg dksX1_append_0 24 rfl rfl
theorem dksX1_append_2 : cX1_append.data.toList.drop 48 = dktX1_append_2 := dk_seg dksX1_append_1 24 rfl rfl
theorem dX1_append_0 : decode cX1_append 0 = .ok (.iload_n 1, 1) := dk_27 (dk_at dksX1_append_0 0 rfl rfl)
theorem dX1_append_1 : decode cX1_append 1 = .ok (.bipush 33, 2) := dk_16 33 (dk_at dksX1_append_0 1 rfl rfl)
theorem dX1_append_3 : decode cX1_append 3 = .ok (.bipush 126, 2) := dk_16 126 (dk_at dksX1_append_0 3 rfl rfl)
theorem dX1_append_5 : decode cX1_append 5 = .ok (.invokestatic 15, 3) := dk_184 0 15 (dk_at dksX1_append_0 5 rfl rfl)
theorem dX1_append_8 : decode cX1_append 8 = .ok (.invokestatic 87, 3) := dk_184 0 87 (dk_at dksX1_append_0 8 rfl rfl)
theorem dX1_append_11 : decode cX1_append 11 = .ok (.aload_n 0, 1) := dk_42 (dk_at dksX1_append_0 11 rfl rfl)
theorem dX1_append_12 : decode cX1_append 12 = .ok (.getfield 49, 3) := dk_180 0 49 (dk_at dksX1_append_0 12 rfl rfl)
theorem dX1_append_15 : decode cX1_append 15 = .ok (.invokevirtual 141, 3) := dk_182 0 141 (dk_at dksX1_append_0 15 rfl rfl)
theorem dX1_append_18 : decode cX1_append 18 = .ok (.bipush 60, 2) := dk_16 60 (dk_at dksX1_append_0 18 rfl rfl)
theorem dX1_append_20 : decode cX1_append 20 = .ok (.if_icmp .ge 7, 3) := dk_162 0 7 (dk_at dksX1_append_0 20 rfl rfl)
theorem dX1_append_23 : decode cX1_append 23 = .ok (.iconst 1, 1) := dk_4 (dk_at dksX1_append_0 23 rfl rfl)
theorem dX1_append_24 : decode cX1_append 24 = .ok (.goto 4, 3) := dk_167 0 4 (dk_at dksX1_append_1 0 rfl rfl)
theorem dX1_append_27 : decode cX1_append 27 = .ok (.iconst 0, 1) := dk_3 (dk_at dksX1_append_1 3 rfl rfl)
theorem dX1_append_28 : decode cX1_append 28 = .ok (.invokestatic 94, 3) := dk_184 0 94 (dk_at dksX1_append_1 4 rfl rfl)
theorem dX1_append_31 : decode cX1_append 31 = .ok (.aload_n 0, 1) := dk_42 (dk_at dksX1_append_1 7 rfl rfl)
theorem dX1_append_32 : decode cX1_append 32 = .ok (.getfield 49, 3) := dk_180 0 49 (dk_at dksX1_append_1 8 rfl rfl)
theorem dX1_append_35 : decode cX1_append 35 = .ok (.iload_n 1, 1) := dk_27 (dk_at dksX1_append_1 11 rfl rfl)
theorem dX1_append_36 : decode cX1_append 36 = .ok (.i2c, 1) := dk_146 (dk_at dksX1_append_1 12 rfl rfl)
theorem dX1_append_37 : decode cX1_append 37 = .ok (.invokevirtual 144, 3) := dk_182 0 144 (dk_at dksX1_append_1 13 rfl rfl)
theorem dX1_append_40 : decode cX1_append 40 = .ok (.pop, 1) := dk_87 (dk_at dksX1_append_1 16 rfl rfl)
theorem dX1_append_41 : decode cX1_append 41 = .ok (.aload_n 0, 1) := dk_42 (dk_at dksX1_append_1 17 rfl rfl)
theorem dX1_append_42 : decode cX1_append 42 = .ok (.getfield 49, 3) := dk_180 0 49 (dk_at dksX1_append_1 18 rfl rfl)
theorem dX1_append_45 : decode cX1_append 45 = .ok (.invokevirtual 141, 3) := dk_182 0 141 (dk_at dksX1_append_1 21 rfl rfl)
theorem dX1_append_48 : decode cX1_append 48 = .ok (.ireturn, 1) := dk_172 (dk_at dksX1_append_2 0 rfl rfl)
abbrev cX1_follow : ByteArray := prog_1_method_24_code
def yX1_follow : MethodName := ⟨RX1, "follow", "()I"⟩
def dkwX1_follow_2 : List UInt8 := [180, 0, 49, 3, 182, 0, 148, 42, 180, 0, 29, 180, 0, 167, 182, 0, 171, 172]
abbrev dktX1_follow_2 : List UInt8 := dkwX1_follow_2 ++ []
def dkwX1_follow_1 : List UInt8 := [187, 0, 151, 89, 42, 183, 0, 153, 43, 182, 0, 163, 42, 182, 0, 97, 42, 43, 181, 0, 29, 42]
abbrev dktX1_follow_1 : List UInt8 := dkwX1_follow_1 ++ dktX1_follow_2
def dkwX1_follow_0 : List UInt8 := [187, 0, 151, 89, 42, 183, 0, 153, 182, 0, 156, 184, 0, 87, 42, 180, 0, 29, 182, 0, 61, 76]
abbrev dktX1_follow_0 : List UInt8 := dkwX1_follow_0 ++ dktX1_follow_1
theorem dksX1_follow_0 : cX1_follow.data.toList.drop 0 = dktX1_follow_0 := by decide +kernel
theorem dksX1_follow_1 : cX1_follow.data.toList.drop 22 = dktX1_follow_1 := dk_seg dksX1_follow_0 22 rfl rfl
theorem dksX1_follow_2 : cX1_follow.data.toList.drop 44 = dktX1_follow_2 := dk_seg dksX1_follow_1 22 rfl rfl
theorem dX1_follow_0 : decode cX1_follow 0 = .ok (.new 151, 3) := dk_187 0 151 (dk_at dksX1_follow_0 0 rfl rfl)
theorem dX1_follow_3 : decode cX1_follow 3 = .ok (.dup, 1) := dk_89 (dk_at dksX1_follow_0 3 rfl rfl)
theorem dX1_follow_4 : decode cX1_follow 4 = .ok (.aload_n 0, 1) := dk_42 (dk_at dksX1_follow_0 4 rfl rfl)
theorem dX1_follow_5 : decode cX1_follow 5 = .ok (.invokespecial 153, 3) := dk_183 0 153 (dk_at dksX1_follow_0 5 rfl rfl)
theorem dX1_follow_8 : decode cX1_follow 8 = .ok (.invokevirtual 156, 3) := dk_182 0 156 (dk_at dksX1_follow_0 8 rfl rfl)
theorem dX1_follow_11 : decode cX1_follow 11 = .ok (.invokestatic 87, 3) := dk_184 0 87 (dk_at dksX1_follow_0 11 rfl rfl)
theorem dX1_follow_14 : decode cX1_follow 14 = .ok (.aload_n 0, 1) := dk_42 (dk_at dksX1_follow_0 14 rfl rfl)
theorem dX1_follow_15 : decode cX1_follow 15 = .ok (.getfield 29, 3) := dk_180 0 29 (dk_at dksX1_follow_0 15 rfl rfl)
theorem dX1_follow_18 : decode cX1_follow 18 = .ok (.invokevirtual 61, 3) := dk_182 0 61 (dk_at dksX1_follow_0 18 rfl rfl)
theorem dX1_follow_21 : decode cX1_follow 21 = .ok (.astore_n 1, 1) := dk_76 (dk_at dksX1_follow_0 21 rfl rfl)
theorem dX1_follow_22 : decode cX1_follow 22 = .ok (.new 151, 3) := dk_187 0 151 (dk_at dksX1_follow_1 0 rfl rfl)
theorem dX1_follow_25 : decode cX1_follow 25 = .ok (.dup, 1) := dk_89 (dk_at dksX1_follow_1 3 rfl rfl)
theorem dX1_follow_26 : decode cX1_follow 26 = .ok (.aload_n 0, 1) := dk_42 (dk_at dksX1_follow_1 4 rfl rfl)
theorem dX1_follow_27 : decode cX1_follow 27 = .ok (.invokespecial 153, 3) := dk_183 0 153 (dk_at dksX1_follow_1 5 rfl rfl)
theorem dX1_follow_30 : decode cX1_follow 30 = .ok (.aload_n 1, 1) := dk_43 (dk_at dksX1_follow_1 8 rfl rfl)
theorem dX1_follow_31 : decode cX1_follow 31 = .ok (.invokevirtual 163, 3) := dk_182 0 163 (dk_at dksX1_follow_1 9 rfl rfl)
theorem dX1_follow_34 : decode cX1_follow 34 = .ok (.aload_n 0, 1) := dk_42 (dk_at dksX1_follow_1 12 rfl rfl)
theorem dX1_follow_35 : decode cX1_follow 35 = .ok (.invokevirtual 97, 3) := dk_182 0 97 (dk_at dksX1_follow_1 13 rfl rfl)
theorem dX1_follow_38 : decode cX1_follow 38 = .ok (.aload_n 0, 1) := dk_42 (dk_at dksX1_follow_1 16 rfl rfl)
theorem dX1_follow_39 : decode cX1_follow 39 = .ok (.aload_n 1, 1) := dk_43 (dk_at dksX1_follow_1 17 rfl rfl)
theorem dX1_follow_40 : decode cX1_follow 40 = .ok (.putfield 29, 3) := dk_181 0 29 (dk_at dksX1_follow_1 18 rfl rfl)
theorem dX1_follow_43 : decode cX1_follow 43 = .ok (.aload_n 0, 1) := dk_42 (dk_at dksX1_follow_1 21 rfl rfl)
theorem dX1_follow_44 : decode cX1_follow 44 = .ok (.getfield 49, 3) := dk_180 0 49 (dk_at dksX1_follow_2 0 rfl rfl)
theorem dX1_follow_47 : decode cX1_follow 47 = .ok (.iconst 0, 1) := dk_3 (dk_at dksX1_follow_2 3 rfl rfl)
theorem dX1_follow_48 : decode cX1_follow 48 = .ok (.invokevirtual 148, 3) := dk_182 0 148 (dk_at dksX1_follow_2 4 rfl rfl)
theorem dX1_follow_51 : decode cX1_follow 51 = .ok (.aload_n 0, 1) := dk_42 (dk_at dksX1_follow_2 7 rfl rfl)
theorem dX1_follow_52 : decode cX1_follow 52 = .ok (.getfield 29, 3) := dk_180 0 29 (dk_at dksX1_follow_2 8 rfl rfl)
theorem dX1_follow_55 : decode cX1_follow 55 = .ok (.getfield 167, 3) := dk_180 0 167 (dk_at dksX1_follow_2 11 rfl rfl)
theorem dX1_follow_58 : decode cX1_follow 58 = .ok (.invokevirtual 171, 3) := dk_182 0 171 (dk_at dksX1_follow_2 14 rfl rfl)
theorem dX1_follow_61 : decode cX1_follow 61 = .ok (.ireturn, 1) := dk_172 (dk_at dksX1_follow_2 17 rfl rfl)
abbrev cX1_keep : ByteArray := prog_1_method_26_code
def yX1_keep : MethodName := ⟨RX1, "keep", "(I)V"⟩
def dkwX1_keep_0 : List UInt8 := [27, 184, 0, 174, 184, 0, 87, 42, 180, 0, 42, 27, 42, 180, 0, 29, 182, 0, 61, 83, 177]
abbrev dktX1_keep_0 : List UInt8 := dkwX1_keep_0 ++ []
theorem dksX1_keep_0 : cX1_keep.data.toList.drop 0 = dktX1_keep_0 := by decide +kernel
theorem dX1_keep_0 : decode cX1_keep 0 = .ok (.iload_n 1, 1) := dk_27 (dk_at dksX1_keep_0 0 rfl rfl)
theorem dX1_keep_1 : decode cX1_keep 1 = .ok (.invokestatic 174, 3) := dk_184 0 174 (dk_at dksX1_keep_0 1 rfl rfl)
theorem dX1_keep_4 : decode cX1_keep 4 = .ok (.invokestatic 87, 3) := dk_184 0 87 (dk_at dksX1_keep_0 4 rfl rfl)
theorem dX1_keep_7 : decode cX1_keep 7 = .ok (.aload_n 0, 1) := dk_42 (dk_at dksX1_keep_0 7 rfl rfl)
theorem dX1_keep_8 : decode cX1_keep 8 = .ok (.getfield 42, 3) := dk_180 0 42 (dk_at dksX1_keep_0 8 rfl rfl)
theorem dX1_keep_11 : decode cX1_keep 11 = .ok (.iload_n 1, 1) := dk_27 (dk_at dksX1_keep_0 11 rfl rfl)
theorem dX1_keep_12 : decode cX1_keep 12 = .ok (.aload_n 0, 1) := dk_42 (dk_at dksX1_keep_0 12 rfl rfl)
theorem dX1_keep_13 : decode cX1_keep 13 = .ok (.getfield 29, 3) := dk_180 0 29 (dk_at dksX1_keep_0 13 rfl rfl)
theorem dX1_keep_16 : decode cX1_keep 16 = .ok (.invokevirtual 61, 3) := dk_182 0 61 (dk_at dksX1_keep_0 16 rfl rfl)
theorem dX1_keep_19 : decode cX1_keep 19 = .ok (.aastore, 1) := dk_83 (dk_at dksX1_keep_0 19 rfl rfl)
theorem dX1_keep_20 : decode cX1_keep 20 = .ok (.return_, 1) := dk_177 (dk_at dksX1_keep_0 20 rfl rfl)
abbrev cX1_isSlot : ByteArray := prog_1_method_25_code
def yX1_isSlot : MethodName := ⟨RX1, "isSlot", "(I)Z"⟩
def dkwX1_isSlot_0 : List UInt8 := [26, 3, 4, 184, 0, 15, 172]
abbrev dktX1_isSlot_0 : List UInt8 := dkwX1_isSlot_0 ++ []
theorem dksX1_isSlot_0 : cX1_isSlot.data.toList.drop 0 = dktX1_isSlot_0 := by decide +kernel
theorem dX1_isSlot_0 : decode cX1_isSlot 0 = .ok (.iload_n 0, 1) := dk_26 (dk_at dksX1_isSlot_0 0 rfl rfl)
theorem dX1_isSlot_1 : decode cX1_isSlot 1 = .ok (.iconst 0, 1) := dk_3 (dk_at dksX1_isSlot_0 1 rfl rfl)
theorem dX1_isSlot_2 : decode cX1_isSlot 2 = .ok (.iconst 1, 1) := dk_4 (dk_at dksX1_isSlot_0 2 rfl rfl)
theorem dX1_isSlot_3 : decode cX1_isSlot 3 = .ok (.invokestatic 15, 3) := dk_184 0 15 (dk_at dksX1_isSlot_0 3 rfl rfl)
theorem dX1_isSlot_6 : decode cX1_isSlot 6 = .ok (.ireturn, 1) := dk_172 (dk_at dksX1_isSlot_0 6 rfl rfl)
abbrev cX1_goBack : ByteArray := prog_1_method_27_code
def yX1_goBack : MethodName := ⟨RX1, "goBack", "(I)V"⟩
def dkwX1_goBack_1 : List UInt8 := [42, 182, 0, 97, 42, 42, 180, 0, 42, 27, 50, 182, 0, 61, 181, 0, 29, 177]
abbrev dktX1_goBack_1 : List UInt8 := dkwX1_goBack_1 ++ []
def dkwX1_goBack_0 : List UInt8 := [27, 184, 0, 174, 184, 0, 87, 42, 180, 0, 42, 27, 50, 198, 0, 7, 4, 167, 0, 4, 3, 184, 0, 94]
abbrev dktX1_goBack_0 : List UInt8 := dkwX1_goBack_0 ++ dktX1_goBack_1
theorem dksX1_goBack_0 : cX1_goBack.data.toList.drop 0 = dktX1_goBack_0 := by decide +kernel
theorem dksX1_goBack_1 : cX1_goBack.data.toList.drop 24 = dktX1_goBack_1 := dk_seg dksX1_goBack_0 24 rfl rfl
theorem dX1_goBack_0 : decode cX1_goBack 0 = .ok (.iload_n 1, 1) := dk_27 (dk_at dksX1_goBack_0 0 rfl rfl)
theorem dX1_goBack_1 : decode cX1_goBack 1 = .ok (.invokestatic 174, 3) := dk_184 0 174 (dk_at dksX1_goBack_0 1 rfl rfl)
theorem dX1_goBack_4 : decode cX1_goBack 4 = .ok (.invokestatic 87, 3) := dk_184 0 87 (dk_at dksX1_goBack_0 4 rfl rfl)
theorem dX1_goBack_7 : decode cX1_goBack 7 = .ok (.aload_n 0, 1) := dk_42 (dk_at dksX1_goBack_0 7 rfl rfl)
theorem dX1_goBack_8 : decode cX1_goBack 8 = .ok (.getfield 42, 3) := dk_180 0 42 (dk_at dksX1_goBack_0 8 rfl rfl)
theorem dX1_goBack_11 : decode cX1_goBack 11 = .ok (.iload_n 1, 1) := dk_27 (dk_at dksX1_goBack_0 11 rfl rfl)
theorem dX1_goBack_12 : decode cX1_goBack 12 = .ok (.aaload, 1) := dk_50 (dk_at dksX1_goBack_0 12 rfl rfl)
theorem dX1_goBack_13 : decode cX1_goBack 13 = .ok (.ifnull 7, 3) := dk_198 0 7 (dk_at dksX1_goBack_0 13 rfl rfl)
theorem dX1_goBack_16 : decode cX1_goBack 16 = .ok (.iconst 1, 1) := dk_4 (dk_at dksX1_goBack_0 16 rfl rfl)
theorem dX1_goBack_17 : decode cX1_goBack 17 = .ok (.goto 4, 3) := dk_167 0 4 (dk_at dksX1_goBack_0 17 rfl rfl)
theorem dX1_goBack_20 : decode cX1_goBack 20 = .ok (.iconst 0, 1) := dk_3 (dk_at dksX1_goBack_0 20 rfl rfl)
theorem dX1_goBack_21 : decode cX1_goBack 21 = .ok (.invokestatic 94, 3) := dk_184 0 94 (dk_at dksX1_goBack_0 21 rfl rfl)
theorem dX1_goBack_24 : decode cX1_goBack 24 = .ok (.aload_n 0, 1) := dk_42 (dk_at dksX1_goBack_1 0 rfl rfl)
theorem dX1_goBack_25 : decode cX1_goBack 25 = .ok (.invokevirtual 97, 3) := dk_182 0 97 (dk_at dksX1_goBack_1 1 rfl rfl)
theorem dX1_goBack_28 : decode cX1_goBack 28 = .ok (.aload_n 0, 1) := dk_42 (dk_at dksX1_goBack_1 4 rfl rfl)
theorem dX1_goBack_29 : decode cX1_goBack 29 = .ok (.aload_n 0, 1) := dk_42 (dk_at dksX1_goBack_1 5 rfl rfl)
theorem dX1_goBack_30 : decode cX1_goBack 30 = .ok (.getfield 42, 3) := dk_180 0 42 (dk_at dksX1_goBack_1 6 rfl rfl)
theorem dX1_goBack_33 : decode cX1_goBack 33 = .ok (.iload_n 1, 1) := dk_27 (dk_at dksX1_goBack_1 9 rfl rfl)
theorem dX1_goBack_34 : decode cX1_goBack 34 = .ok (.aaload, 1) := dk_50 (dk_at dksX1_goBack_1 10 rfl rfl)
theorem dX1_goBack_35 : decode cX1_goBack 35 = .ok (.invokevirtual 61, 3) := dk_182 0 61 (dk_at dksX1_goBack_1 11 rfl rfl)
theorem dX1_goBack_38 : decode cX1_goBack 38 = .ok (.putfield 29, 3) := dk_181 0 29 (dk_at dksX1_goBack_1 14 rfl rfl)
theorem dX1_goBack_41 : decode cX1_goBack 41 = .ok (.return_, 1) := dk_177 (dk_at dksX1_goBack_1 17 rfl rfl)
abbrev cX1_undo : ByteArray := prog_1_method_28_code
def yX1_undo : MethodName := ⟨RX1, "undo", "()V"⟩
def dkwX1_undo_1 : List UInt8 := [182, 0, 180, 192, 0, 26, 181, 0, 29, 177]
abbrev dktX1_undo_1 : List UInt8 := dkwX1_undo_1 ++ []
def dkwX1_undo_0 : List UInt8 := [42, 180, 0, 38, 182, 0, 177, 154, 0, 7, 4, 167, 0, 4, 3, 184, 0, 94, 42, 42, 180, 0, 38]
abbrev dktX1_undo_0 : List UInt8 := dkwX1_undo_0 ++ dktX1_undo_1
theorem dksX1_undo_0 : cX1_undo.data.toList.drop 0 = dktX1_undo_0 := by decide +kernel
theorem dksX1_undo_1 : cX1_undo.data.toList.drop 23 = dktX1_undo_1 := dk_seg dksX1_undo_0 23 rfl rfl
theorem dX1_undo_0 : decode cX1_undo 0 = .ok (.aload_n 0, 1) := dk_42 (dk_at dksX1_undo_0 0 rfl rfl)
theorem dX1_undo_1 : decode cX1_undo 1 = .ok (.getfield 38, 3) := dk_180 0 38 (dk_at dksX1_undo_0 1 rfl rfl)
theorem dX1_undo_4 : decode cX1_undo 4 = .ok (.invokevirtual 177, 3) := dk_182 0 177 (dk_at dksX1_undo_0 4 rfl rfl)
theorem dX1_undo_7 : decode cX1_undo 7 = .ok (.ifCond .ne 7, 3) := dk_154 0 7 (dk_at dksX1_undo_0 7 rfl rfl)
theorem dX1_undo_10 : decode cX1_undo 10 = .ok (.iconst 1, 1) := dk_4 (dk_at dksX1_undo_0 10 rfl rfl)
theorem dX1_undo_11 : decode cX1_undo 11 = .ok (.goto 4, 3) := dk_167 0 4 (dk_at dksX1_undo_0 11 rfl rfl)
theorem dX1_undo_14 : decode cX1_undo 14 = .ok (.iconst 0, 1) := dk_3 (dk_at dksX1_undo_0 14 rfl rfl)
theorem dX1_undo_15 : decode cX1_undo 15 = .ok (.invokestatic 94, 3) := dk_184 0 94 (dk_at dksX1_undo_0 15 rfl rfl)
theorem dX1_undo_18 : decode cX1_undo 18 = .ok (.aload_n 0, 1) := dk_42 (dk_at dksX1_undo_0 18 rfl rfl)
theorem dX1_undo_19 : decode cX1_undo 19 = .ok (.aload_n 0, 1) := dk_42 (dk_at dksX1_undo_0 19 rfl rfl)
theorem dX1_undo_20 : decode cX1_undo 20 = .ok (.getfield 38, 3) := dk_180 0 38 (dk_at dksX1_undo_0 20 rfl rfl)
theorem dX1_undo_23 : decode cX1_undo 23 = .ok (.invokevirtual 180, 3) := dk_182 0 180 (dk_at dksX1_undo_1 0 rfl rfl)
theorem dX1_undo_26 : decode cX1_undo 26 = .ok (.checkcast 26, 3) := dk_192 0 26 (dk_at dksX1_undo_1 3 rfl rfl)
theorem dX1_undo_29 : decode cX1_undo 29 = .ok (.putfield 29, 3) := dk_181 0 29 (dk_at dksX1_undo_1 6 rfl rfl)
theorem dX1_undo_32 : decode cX1_undo 32 = .ok (.return_, 1) := dk_177 (dk_at dksX1_undo_1 9 rfl rfl)
abbrev cX1_valueOf : ByteArray := prog_1_method_31_code
def yX1_valueOf : MethodName := ⟨RX1, "valueOf", "(II)I"⟩
def dkwX1_valueOf_0 : List UInt8 := [42, 27, 28, 182, 0, 113, 184, 0, 72, 42, 27, 182, 0, 183, 180, 0, 185, 28, 46, 172]
abbrev dktX1_valueOf_0 : List UInt8 := dkwX1_valueOf_0 ++ []
theorem dksX1_valueOf_0 : cX1_valueOf.data.toList.drop 0 = dktX1_valueOf_0 := by decide +kernel
theorem dX1_valueOf_0 : decode cX1_valueOf 0 = .ok (.aload_n 0, 1) := dk_42 (dk_at dksX1_valueOf_0 0 rfl rfl)
theorem dX1_valueOf_1 : decode cX1_valueOf 1 = .ok (.iload_n 1, 1) := dk_27 (dk_at dksX1_valueOf_0 1 rfl rfl)
theorem dX1_valueOf_2 : decode cX1_valueOf 2 = .ok (.iload_n 2, 1) := dk_28 (dk_at dksX1_valueOf_0 2 rfl rfl)
theorem dX1_valueOf_3 : decode cX1_valueOf 3 = .ok (.invokevirtual 113, 3) := dk_182 0 113 (dk_at dksX1_valueOf_0 3 rfl rfl)
theorem dX1_valueOf_6 : decode cX1_valueOf 6 = .ok (.invokestatic 72, 3) := dk_184 0 72 (dk_at dksX1_valueOf_0 6 rfl rfl)
theorem dX1_valueOf_9 : decode cX1_valueOf 9 = .ok (.aload_n 0, 1) := dk_42 (dk_at dksX1_valueOf_0 9 rfl rfl)
theorem dX1_valueOf_10 : decode cX1_valueOf 10 = .ok (.iload_n 1, 1) := dk_27 (dk_at dksX1_valueOf_0 10 rfl rfl)
theorem dX1_valueOf_11 : decode cX1_valueOf 11 = .ok (.invokevirtual 183, 3) := dk_182 0 183 (dk_at dksX1_valueOf_0 11 rfl rfl)
theorem dX1_valueOf_14 : decode cX1_valueOf 14 = .ok (.getfield 185, 3) := dk_180 0 185 (dk_at dksX1_valueOf_0 14 rfl rfl)
theorem dX1_valueOf_17 : decode cX1_valueOf 17 = .ok (.iload_n 2, 1) := dk_28 (dk_at dksX1_valueOf_0 17 rfl rfl)
theorem dX1_valueOf_18 : decode cX1_valueOf 18 = .ok (.iaload, 1) := dk_46 (dk_at dksX1_valueOf_0 18 rfl rfl)
theorem dX1_valueOf_19 : decode cX1_valueOf 19 = .ok (.ireturn, 1) := dk_172 (dk_at dksX1_valueOf_0 19 rfl rfl)
abbrev cX1_at : ByteArray := prog_1_method_12_code
def yX1_at : MethodName := ⟨RX1, "at", "(I)LOfferSky$Offer;"⟩
def dkwX1_at_0 : List UInt8 := [42, 180, 0, 29, 27, 182, 0, 69, 184, 0, 72, 42, 180, 0, 29, 27, 182, 0, 76, 176]
abbrev dktX1_at_0 : List UInt8 := dkwX1_at_0 ++ []
theorem dksX1_at_0 : cX1_at.data.toList.drop 0 = dktX1_at_0 := by decide +kernel
theorem dX1_at_0 : decode cX1_at 0 = .ok (.aload_n 0, 1) := dk_42 (dk_at dksX1_at_0 0 rfl rfl)
theorem dX1_at_1 : decode cX1_at 1 = .ok (.getfield 29, 3) := dk_180 0 29 (dk_at dksX1_at_0 1 rfl rfl)
theorem dX1_at_4 : decode cX1_at 4 = .ok (.iload_n 1, 1) := dk_27 (dk_at dksX1_at_0 4 rfl rfl)
theorem dX1_at_5 : decode cX1_at 5 = .ok (.invokevirtual 69, 3) := dk_182 0 69 (dk_at dksX1_at_0 5 rfl rfl)
theorem dX1_at_8 : decode cX1_at 8 = .ok (.invokestatic 72, 3) := dk_184 0 72 (dk_at dksX1_at_0 8 rfl rfl)
theorem dX1_at_11 : decode cX1_at 11 = .ok (.aload_n 0, 1) := dk_42 (dk_at dksX1_at_0 11 rfl rfl)
theorem dX1_at_12 : decode cX1_at 12 = .ok (.getfield 29, 3) := dk_180 0 29 (dk_at dksX1_at_0 12 rfl rfl)
theorem dX1_at_15 : decode cX1_at 15 = .ok (.iload_n 1, 1) := dk_27 (dk_at dksX1_at_0 15 rfl rfl)
theorem dX1_at_16 : decode cX1_at 16 = .ok (.invokevirtual 76, 3) := dk_182 0 76 (dk_at dksX1_at_0 16 rfl rfl)
theorem dX1_at_19 : decode cX1_at 19 = .ok (.areturn, 1) := dk_176 (dk_at dksX1_at_0 19 rfl rfl)
abbrev cX1_wishOf : ByteArray := prog_1_method_32_code
def yX1_wishOf : MethodName := ⟨RX1, "wishOf", "(I)I"⟩
def dkwX1_wishOf_0 : List UInt8 := [27, 184, 0, 80, 184, 0, 72, 42, 180, 0, 29, 180, 0, 131, 180, 0, 188, 27, 46, 172]
abbrev dktX1_wishOf_0 : List UInt8 := dkwX1_wishOf_0 ++ []
theorem dksX1_wishOf_0 : cX1_wishOf.data.toList.drop 0 = dktX1_wishOf_0 := by decide +kernel
theorem dX1_wishOf_0 : decode cX1_wishOf 0 = .ok (.iload_n 1, 1) := dk_27 (dk_at dksX1_wishOf_0 0 rfl rfl)
theorem dX1_wishOf_1 : decode cX1_wishOf 1 = .ok (.invokestatic 80, 3) := dk_184 0 80 (dk_at dksX1_wishOf_0 1 rfl rfl)
theorem dX1_wishOf_4 : decode cX1_wishOf 4 = .ok (.invokestatic 72, 3) := dk_184 0 72 (dk_at dksX1_wishOf_0 4 rfl rfl)
theorem dX1_wishOf_7 : decode cX1_wishOf 7 = .ok (.aload_n 0, 1) := dk_42 (dk_at dksX1_wishOf_0 7 rfl rfl)
theorem dX1_wishOf_8 : decode cX1_wishOf 8 = .ok (.getfield 29, 3) := dk_180 0 29 (dk_at dksX1_wishOf_0 8 rfl rfl)
theorem dX1_wishOf_11 : decode cX1_wishOf 11 = .ok (.getfield 131, 3) := dk_180 0 131 (dk_at dksX1_wishOf_0 11 rfl rfl)
theorem dX1_wishOf_14 : decode cX1_wishOf 14 = .ok (.getfield 188, 3) := dk_180 0 188 (dk_at dksX1_wishOf_0 14 rfl rfl)
theorem dX1_wishOf_17 : decode cX1_wishOf 17 = .ok (.iload_n 1, 1) := dk_27 (dk_at dksX1_wishOf_0 17 rfl rfl)
theorem dX1_wishOf_18 : decode cX1_wishOf 18 = .ok (.iaload, 1) := dk_46 (dk_at dksX1_wishOf_0 18 rfl rfl)
theorem dX1_wishOf_19 : decode cX1_wishOf 19 = .ok (.ireturn, 1) := dk_172 (dk_at dksX1_wishOf_0 19 rfl rfl)
abbrev cX1_leastOf : ByteArray := prog_1_method_33_code
def yX1_leastOf : MethodName := ⟨RX1, "leastOf", "(I)I"⟩
def dkwX1_leastOf_0 : List UInt8 := [27, 184, 0, 80, 184, 0, 72, 42, 180, 0, 29, 180, 0, 131, 180, 0, 190, 27, 46, 172]
abbrev dktX1_leastOf_0 : List UInt8 := dkwX1_leastOf_0 ++ []
theorem dksX1_leastOf_0 : cX1_leastOf.data.toList.drop 0 = dktX1_leastOf_0 := by decide +kernel
theorem dX1_leastOf_0 : decode cX1_leastOf 0 = .ok (.iload_n 1, 1) := dk_27 (dk_at dksX1_leastOf_0 0 rfl rfl)
theorem dX1_leastOf_1 : decode cX1_leastOf 1 = .ok (.invokestatic 80, 3) := dk_184 0 80 (dk_at dksX1_leastOf_0 1 rfl rfl)
theorem dX1_leastOf_4 : decode cX1_leastOf 4 = .ok (.invokestatic 72, 3) := dk_184 0 72 (dk_at dksX1_leastOf_0 4 rfl rfl)
theorem dX1_leastOf_7 : decode cX1_leastOf 7 = .ok (.aload_n 0, 1) := dk_42 (dk_at dksX1_leastOf_0 7 rfl rfl)
theorem dX1_leastOf_8 : decode cX1_leastOf 8 = .ok (.getfield 29, 3) := dk_180 0 29 (dk_at dksX1_leastOf_0 8 rfl rfl)
theorem dX1_leastOf_11 : decode cX1_leastOf 11 = .ok (.getfield 131, 3) := dk_180 0 131 (dk_at dksX1_leastOf_0 11 rfl rfl)
theorem dX1_leastOf_14 : decode cX1_leastOf 14 = .ok (.getfield 190, 3) := dk_180 0 190 (dk_at dksX1_leastOf_0 14 rfl rfl)
theorem dX1_leastOf_17 : decode cX1_leastOf 17 = .ok (.iload_n 1, 1) := dk_27 (dk_at dksX1_leastOf_0 17 rfl rfl)
theorem dX1_leastOf_18 : decode cX1_leastOf 18 = .ok (.iaload, 1) := dk_46 (dk_at dksX1_leastOf_0 18 rfl rfl)
theorem dX1_leastOf_19 : decode cX1_leastOf 19 = .ok (.ireturn, 1) := dk_172 (dk_at dksX1_leastOf_0 19 rfl rfl)
abbrev cX1_mostOf : ByteArray := prog_1_method_34_code
def yX1_mostOf : MethodName := ⟨RX1, "mostOf", "(I)I"⟩
def dkwX1_mostOf_0 : List UInt8 := [27, 184, 0, 80, 184, 0, 72, 42, 180, 0, 29, 180, 0, 131, 180, 0, 193, 27, 46, 172]
abbrev dktX1_mostOf_0 : List UInt8 := dkwX1_mostOf_0 ++ []
theorem dksX1_mostOf_0 : cX1_mostOf.data.toList.drop 0 = dktX1_mostOf_0 := by decide +kernel
theorem dX1_mostOf_0 : decode cX1_mostOf 0 = .ok (.iload_n 1, 1) := dk_27 (dk_at dksX1_mostOf_0 0 rfl rfl)
theorem dX1_mostOf_1 : decode cX1_mostOf 1 = .ok (.invokestatic 80, 3) := dk_184 0 80 (dk_at dksX1_mostOf_0 1 rfl rfl)
theorem dX1_mostOf_4 : decode cX1_mostOf 4 = .ok (.invokestatic 72, 3) := dk_184 0 72 (dk_at dksX1_mostOf_0 4 rfl rfl)
theorem dX1_mostOf_7 : decode cX1_mostOf 7 = .ok (.aload_n 0, 1) := dk_42 (dk_at dksX1_mostOf_0 7 rfl rfl)
theorem dX1_mostOf_8 : decode cX1_mostOf 8 = .ok (.getfield 29, 3) := dk_180 0 29 (dk_at dksX1_mostOf_0 8 rfl rfl)
theorem dX1_mostOf_11 : decode cX1_mostOf 11 = .ok (.getfield 131, 3) := dk_180 0 131 (dk_at dksX1_mostOf_0 11 rfl rfl)
theorem dX1_mostOf_14 : decode cX1_mostOf 14 = .ok (.getfield 193, 3) := dk_180 0 193 (dk_at dksX1_mostOf_0 14 rfl rfl)
theorem dX1_mostOf_17 : decode cX1_mostOf 17 = .ok (.iload_n 1, 1) := dk_27 (dk_at dksX1_mostOf_0 17 rfl rfl)
theorem dX1_mostOf_18 : decode cX1_mostOf 18 = .ok (.iaload, 1) := dk_46 (dk_at dksX1_mostOf_0 18 rfl rfl)
theorem dX1_mostOf_19 : decode cX1_mostOf 19 = .ok (.ireturn, 1) := dk_172 (dk_at dksX1_mostOf_0 19 rfl rfl)
abbrev cX1_weightOf : ByteArray := prog_1_method_35_code
def yX1_weightOf : MethodName := ⟨RX1, "weightOf", "(I)I"⟩
def dkwX1_weightOf_0 : List UInt8 := [27, 184, 0, 80, 184, 0, 72, 42, 180, 0, 29, 180, 0, 131, 180, 0, 135, 27, 46, 172]
abbrev dktX1_weightOf_0 : List UInt8 := dkwX1_weightOf_0 ++ []
theorem dksX1_weightOf_0 : cX1_weightOf.data.toList.drop 0 = dktX1_weightOf_0 := by decide +kernel
theorem dX1_weightOf_0 : decode cX1_weightOf 0 = .ok (.iload_n 1, 1) := dk_27 (dk_at dksX1_weightOf_0 0 rfl rfl)
theorem dX1_weightOf_1 : decode cX1_weightOf 1 = .ok (.invokestatic 80, 3) := dk_184 0 80 (dk_at dksX1_weightOf_0 1 rfl rfl)
theorem dX1_weightOf_4 : decode cX1_weightOf 4 = .ok (.invokestatic 72, 3) := dk_184 0 72 (dk_at dksX1_weightOf_0 4 rfl rfl)
theorem dX1_weightOf_7 : decode cX1_weightOf 7 = .ok (.aload_n 0, 1) := dk_42 (dk_at dksX1_weightOf_0 7 rfl rfl)
theorem dX1_weightOf_8 : decode cX1_weightOf 8 = .ok (.getfield 29, 3) := dk_180 0 29 (dk_at dksX1_weightOf_0 8 rfl rfl)
theorem dX1_weightOf_11 : decode cX1_weightOf 11 = .ok (.getfield 131, 3) := dk_180 0 131 (dk_at dksX1_weightOf_0 11 rfl rfl)
theorem dX1_weightOf_14 : decode cX1_weightOf 14 = .ok (.getfield 135, 3) := dk_180 0 135 (dk_at dksX1_weightOf_0 14 rfl rfl)
theorem dX1_weightOf_17 : decode cX1_weightOf 17 = .ok (.iload_n 1, 1) := dk_27 (dk_at dksX1_weightOf_0 17 rfl rfl)
theorem dX1_weightOf_18 : decode cX1_weightOf 18 = .ok (.iaload, 1) := dk_46 (dk_at dksX1_weightOf_0 18 rfl rfl)
theorem dX1_weightOf_19 : decode cX1_weightOf 19 = .ok (.ireturn, 1) := dk_172 (dk_at dksX1_weightOf_0 19 rfl rfl)
abbrev cX1_isCounted : ByteArray := prog_1_method_36_code
def yX1_isCounted : MethodName := ⟨RX1, "isCounted", "(I)Z"⟩
def dkwX1_isCounted_0 : List UInt8 := [42, 180, 0, 29, 180, 0, 131, 42, 27, 182, 0, 183, 182, 0, 196, 172]
abbrev dktX1_isCounted_0 : List UInt8 := dkwX1_isCounted_0 ++ []
theorem dksX1_isCounted_0 : cX1_isCounted.data.toList.drop 0 = dktX1_isCounted_0 := by decide +kernel
theorem dX1_isCounted_0 : decode cX1_isCounted 0 = .ok (.aload_n 0, 1) := dk_42 (dk_at dksX1_isCounted_0 0 rfl rfl)
theorem dX1_isCounted_1 : decode cX1_isCounted 1 = .ok (.getfield 29, 3) := dk_180 0 29 (dk_at dksX1_isCounted_0 1 rfl rfl)
theorem dX1_isCounted_4 : decode cX1_isCounted 4 = .ok (.getfield 131, 3) := dk_180 0 131 (dk_at dksX1_isCounted_0 4 rfl rfl)
theorem dX1_isCounted_7 : decode cX1_isCounted 7 = .ok (.aload_n 0, 1) := dk_42 (dk_at dksX1_isCounted_0 7 rfl rfl)
theorem dX1_isCounted_8 : decode cX1_isCounted 8 = .ok (.iload_n 1, 1) := dk_27 (dk_at dksX1_isCounted_0 8 rfl rfl)
theorem dX1_isCounted_9 : decode cX1_isCounted 9 = .ok (.invokevirtual 183, 3) := dk_182 0 183 (dk_at dksX1_isCounted_0 9 rfl rfl)
theorem dX1_isCounted_12 : decode cX1_isCounted 12 = .ok (.invokevirtual 196, 3) := dk_182 0 196 (dk_at dksX1_isCounted_0 12 rfl rfl)
theorem dX1_isCounted_15 : decode cX1_isCounted 15 = .ok (.ireturn, 1) := dk_172 (dk_at dksX1_isCounted_0 15 rfl rfl)
abbrev cX1_beats : ByteArray := prog_1_method_38_code
def yX1_beats : MethodName := ⟨RX1, "beats", "(II)Z"⟩
def dkwX1_beats_3 : List UInt8 := [153, 0, 7, 4, 167, 0, 4, 3, 172]
abbrev dktX1_beats_3 : List UInt8 := dkwX1_beats_3 ++ []
def dkwX1_beats_2 : List UInt8 := [54, 5, 21, 5, 153, 0, 25, 42, 180, 0, 29, 180, 0, 131, 45, 25, 4, 16, 15, 182, 0, 204]
abbrev dktX1_beats_2 : List UInt8 := dkwX1_beats_2 ++ dktX1_beats_3
def dkwX1_beats_1 : List UInt8 := [153, 0, 22, 42, 180, 0, 29, 180, 0, 131, 25, 4, 182, 0, 196, 153, 0, 7, 4, 167, 0, 4, 3]
abbrev dktX1_beats_1 : List UInt8 := dkwX1_beats_1 ++ dktX1_beats_2
def dkwX1_beats_0 : List UInt8 := [42, 27, 182, 0, 183, 78, 42, 28, 182, 0, 183, 58, 4, 42, 180, 0, 29, 180, 0, 131, 45, 182, 0, 196]
abbrev dktX1_beats_0 : List UInt8 := dkwX1_beats_0 ++ dktX1_beats_1
theorem dksX1_beats_0 : cX1_beats.data.toList.drop 0 = dktX1_beats_0 := by decide +kernel
theorem dksX1_beats_1 : cX1_beats.data.toList.drop 24 = dktX1_beats_1 := dk_seg dksX1_beats_0 24 rfl rfl
theorem dksX1_beats_2 : cX1_beats.data.toList.drop 47 = dktX1_beats_2 := dk_seg dksX1_beats_1 23 rfl rfl
theorem dksX1_beats_3 : cX1_beats.data.toList.drop 69 = dktX1_beats_3 := dk_seg dksX1_beats_2 22 rfl rfl
theorem dX1_beats_0 : decode cX1_beats 0 = .ok (.aload_n 0, 1) := dk_42 (dk_at dksX1_beats_0 0 rfl rfl)
theorem dX1_beats_1 : decode cX1_beats 1 = .ok (.iload_n 1, 1) := dk_27 (dk_at dksX1_beats_0 1 rfl rfl)
theorem dX1_beats_2 : decode cX1_beats 2 = .ok (.invokevirtual 183, 3) := dk_182 0 183 (dk_at dksX1_beats_0 2 rfl rfl)
theorem dX1_beats_5 : decode cX1_beats 5 = .ok (.astore_n 3, 1) := dk_78 (dk_at dksX1_beats_0 5 rfl rfl)
theorem dX1_beats_6 : decode cX1_beats 6 = .ok (.aload_n 0, 1) := dk_42 (dk_at dksX1_beats_0 6 rfl rfl)
theorem dX1_beats_7 : decode cX1_beats 7 = .ok (.iload_n 2, 1) := dk_28 (dk_at dksX1_beats_0 7 rfl rfl)
theorem dX1_beats_8 : decode cX1_beats 8 = .ok (.invokevirtual 183, 3) := dk_182 0 183 (dk_at dksX1_beats_0 8 rfl rfl)
theorem dX1_beats_11 : decode cX1_beats 11 = .ok (.astore 4, 2) := dk_58 4 (dk_at dksX1_beats_0 11 rfl rfl)
theorem dX1_beats_13 : decode cX1_beats 13 = .ok (.aload_n 0, 1) := dk_42 (dk_at dksX1_beats_0 13 rfl rfl)
theorem dX1_beats_14 : decode cX1_beats 14 = .ok (.getfield 29, 3) := dk_180 0 29 (dk_at dksX1_beats_0 14 rfl rfl)
theorem dX1_beats_17 : decode cX1_beats 17 = .ok (.getfield 131, 3) := dk_180 0 131 (dk_at dksX1_beats_0 17 rfl rfl)
theorem dX1_beats_20 : decode cX1_beats 20 = .ok (.aload_n 3, 1) := dk_45 (dk_at dksX1_beats_0 20 rfl rfl)
theorem dX1_beats_21 : decode cX1_beats 21 = .ok (.invokevirtual 196, 3) := dk_182 0 196 (dk_at dksX1_beats_0 21 rfl rfl)
theorem dX1_beats_24 : decode cX1_beats 24 = .ok (.ifCond .eq 22, 3) := dk_153 0 22 (dk_at dksX1_beats_1 0 rfl rfl)
theorem dX1_beats_27 : decode cX1_beats 27 = .ok (.aload_n 0, 1) := dk_42 (dk_at dksX1_beats_1 3 rfl rfl)
theorem dX1_beats_28 : decode cX1_beats 28 = .ok (.getfield 29, 3) := dk_180 0 29 (dk_at dksX1_beats_1 4 rfl rfl)
theorem dX1_beats_31 : decode cX1_beats 31 = .ok (.getfield 131, 3) := dk_180 0 131 (dk_at dksX1_beats_1 7 rfl rfl)
theorem dX1_beats_34 : decode cX1_beats 34 = .ok (.aload 4, 2) := dk_25 4 (dk_at dksX1_beats_1 10 rfl rfl)
theorem dX1_beats_36 : decode cX1_beats 36 = .ok (.invokevirtual 196, 3) := dk_182 0 196 (dk_at dksX1_beats_1 12 rfl rfl)
theorem dX1_beats_39 : decode cX1_beats 39 = .ok (.ifCond .eq 7, 3) := dk_153 0 7 (dk_at dksX1_beats_1 15 rfl rfl)
theorem dX1_beats_42 : decode cX1_beats 42 = .ok (.iconst 1, 1) := dk_4 (dk_at dksX1_beats_1 18 rfl rfl)
theorem dX1_beats_43 : decode cX1_beats 43 = .ok (.goto 4, 3) := dk_167 0 4 (dk_at dksX1_beats_1 19 rfl rfl)
theorem dX1_beats_46 : decode cX1_beats 46 = .ok (.iconst 0, 1) := dk_3 (dk_at dksX1_beats_1 22 rfl rfl)
theorem dX1_beats_47 : decode cX1_beats 47 = .ok (.istore 5, 2) := dk_54 5 (dk_at dksX1_beats_2 0 rfl rfl)
theorem dX1_beats_49 : decode cX1_beats 49 = .ok (.iload 5, 2) := dk_21 5 (dk_at dksX1_beats_2 2 rfl rfl)
theorem dX1_beats_51 : decode cX1_beats 51 = .ok (.ifCond .eq 25, 3) := dk_153 0 25 (dk_at dksX1_beats_2 4 rfl rfl)
theorem dX1_beats_54 : decode cX1_beats 54 = .ok (.aload_n 0, 1) := dk_42 (dk_at dksX1_beats_2 7 rfl rfl)
theorem dX1_beats_55 : decode cX1_beats 55 = .ok (.getfield 29, 3) := dk_180 0 29 (dk_at dksX1_beats_2 8 rfl rfl)
theorem dX1_beats_58 : decode cX1_beats 58 = .ok (.getfield 131, 3) := dk_180 0 131 (dk_at dksX1_beats_2 11 rfl rfl)
theorem dX1_beats_61 : decode cX1_beats 61 = .ok (.aload_n 3, 1) := dk_45 (dk_at dksX1_beats_2 14 rfl rfl)
theorem dX1_beats_62 : decode cX1_beats 62 = .ok (.aload 4, 2) := dk_25 4 (dk_at dksX1_beats_2 15 rfl rfl)
theorem dX1_beats_64 : decode cX1_beats 64 = .ok (.bipush 15, 2) := dk_16 15 (dk_at dksX1_beats_2 17 rfl rfl)
theorem dX1_beats_66 : decode cX1_beats 66 = .ok (.invokevirtual 204, 3) := dk_182 0 204 (dk_at dksX1_beats_2 19 rfl rfl)
theorem dX1_beats_69 : decode cX1_beats 69 = .ok (.ifCond .eq 7, 3) := dk_153 0 7 (dk_at dksX1_beats_3 0 rfl rfl)
theorem dX1_beats_72 : decode cX1_beats 72 = .ok (.iconst 1, 1) := dk_4 (dk_at dksX1_beats_3 3 rfl rfl)
theorem dX1_beats_73 : decode cX1_beats 73 = .ok (.goto 4, 3) := dk_167 0 4 (dk_at dksX1_beats_3 4 rfl rfl)
theorem dX1_beats_76 : decode cX1_beats 76 = .ok (.iconst 0, 1) := dk_3 (dk_at dksX1_beats_3 7 rfl rfl)
theorem dX1_beats_77 : decode cX1_beats 77 = .ok (.ireturn, 1) := dk_172 (dk_at dksX1_beats_3 8 rfl rfl)
abbrev cX1_betterOn : ByteArray := prog_1_method_39_code
def yX1_betterOn : MethodName := ⟨RX1, "betterOn", "(II)I"⟩
def dkwX1_betterOn_0 : List UInt8 := [42, 180, 0, 29, 180, 0, 131, 42, 27, 182, 0, 183, 42, 28, 182, 0, 183, 16, 15, 182, 0, 208, 172]
abbrev dktX1_betterOn_0 : List UInt8 := dkwX1_betterOn_0 ++ []
theorem dksX1_betterOn_0 : cX1_betterOn.data.toList.drop 0 = dktX1_betterOn_0 := by decide +kernel
theorem dX1_betterOn_0 : decode cX1_betterOn 0 = .ok (.aload_n 0, 1) := dk_42 (dk_at dksX1_betterOn_0 0 rfl rfl)
theorem dX1_betterOn_1 : decode cX1_betterOn 1 = .ok (.getfield 29, 3) := dk_180 0 29 (dk_at dksX1_betterOn_0 1 rfl rfl)
theorem dX1_betterOn_4 : decode cX1_betterOn 4 = .ok (.getfield 131, 3) := dk_180 0 131 (dk_at dksX1_betterOn_0 4 rfl rfl)
theorem dX1_betterOn_7 : decode cX1_betterOn 7 = .ok (.aload_n 0, 1) := dk_42 (dk_at dksX1_betterOn_0 7 rfl rfl)
theorem dX1_betterOn_8 : decode cX1_betterOn 8 = .ok (.iload_n 1, 1) := dk_27 (dk_at dksX1_betterOn_0 8 rfl rfl)
theorem dX1_betterOn_9 : decode cX1_betterOn 9 = .ok (.invokevirtual 183, 3) := dk_182 0 183 (dk_at dksX1_betterOn_0 9 rfl rfl)
theorem dX1_betterOn_12 : decode cX1_betterOn 12 = .ok (.aload_n 0, 1) := dk_42 (dk_at dksX1_betterOn_0 12 rfl rfl)
theorem dX1_betterOn_13 : decode cX1_betterOn 13 = .ok (.iload_n 2, 1) := dk_28 (dk_at dksX1_betterOn_0 13 rfl rfl)
theorem dX1_betterOn_14 : decode cX1_betterOn 14 = .ok (.invokevirtual 183, 3) := dk_182 0 183 (dk_at dksX1_betterOn_0 14 rfl rfl)
theorem dX1_betterOn_17 : decode cX1_betterOn 17 = .ok (.bipush 15, 2) := dk_16 15 (dk_at dksX1_betterOn_0 17 rfl rfl)
theorem dX1_betterOn_19 : decode cX1_betterOn 19 = .ok (.invokevirtual 208, 3) := dk_182 0 208 (dk_at dksX1_betterOn_0 19 rfl rfl)
theorem dX1_betterOn_22 : decode cX1_betterOn 22 = .ok (.ireturn, 1) := dk_172 (dk_at dksX1_betterOn_0 22 rfl rfl)
abbrev cX1_beatersOf : ByteArray := prog_1_method_40_code
def yX1_beatersOf : MethodName := ⟨RX1, "beatersOf", "(I)I"⟩
def dkwX1_beatersOf_0 : List UInt8 := [42, 180, 0, 29, 42, 27, 182, 0, 183, 182, 0, 212, 172]
abbrev dktX1_beatersOf_0 : List UInt8 := dkwX1_beatersOf_0 ++ []
theorem dksX1_beatersOf_0 : cX1_beatersOf.data.toList.drop 0 = dktX1_beatersOf_0 := by decide +kernel
theorem dX1_beatersOf_0 : decode cX1_beatersOf 0 = .ok (.aload_n 0, 1) := dk_42 (dk_at dksX1_beatersOf_0 0 rfl rfl)
theorem dX1_beatersOf_1 : decode cX1_beatersOf 1 = .ok (.getfield 29, 3) := dk_180 0 29 (dk_at dksX1_beatersOf_0 1 rfl rfl)
theorem dX1_beatersOf_4 : decode cX1_beatersOf 4 = .ok (.aload_n 0, 1) := dk_42 (dk_at dksX1_beatersOf_0 4 rfl rfl)
theorem dX1_beatersOf_5 : decode cX1_beatersOf 5 = .ok (.iload_n 1, 1) := dk_27 (dk_at dksX1_beatersOf_0 5 rfl rfl)
theorem dX1_beatersOf_6 : decode cX1_beatersOf 6 = .ok (.invokevirtual 183, 3) := dk_182 0 183 (dk_at dksX1_beatersOf_0 6 rfl rfl)
theorem dX1_beatersOf_9 : decode cX1_beatersOf 9 = .ok (.invokevirtual 212, 3) := dk_182 0 212 (dk_at dksX1_beatersOf_0 9 rfl rfl)
theorem dX1_beatersOf_12 : decode cX1_beatersOf 12 = .ok (.ireturn, 1) := dk_172 (dk_at dksX1_beatersOf_0 12 rfl rfl)
abbrev cX1_beatenBy : ByteArray := prog_1_method_41_code
def yX1_beatenBy : MethodName := ⟨RX1, "beatenBy", "(I)I"⟩
def dkwX1_beatenBy_0 : List UInt8 := [42, 180, 0, 29, 42, 27, 182, 0, 183, 182, 0, 215, 172]
abbrev dktX1_beatenBy_0 : List UInt8 := dkwX1_beatenBy_0 ++ []
theorem dksX1_beatenBy_0 : cX1_beatenBy.data.toList.drop 0 = dktX1_beatenBy_0 := by decide +kernel
theorem dX1_beatenBy_0 : decode cX1_beatenBy 0 = .ok (.aload_n 0, 1) := dk_42 (dk_at dksX1_beatenBy_0 0 rfl rfl)
theorem dX1_beatenBy_1 : decode cX1_beatenBy 1 = .ok (.getfield 29, 3) := dk_180 0 29 (dk_at dksX1_beatenBy_0 1 rfl rfl)
theorem dX1_beatenBy_4 : decode cX1_beatenBy 4 = .ok (.aload_n 0, 1) := dk_42 (dk_at dksX1_beatenBy_0 4 rfl rfl)
theorem dX1_beatenBy_5 : decode cX1_beatenBy 5 = .ok (.iload_n 1, 1) := dk_27 (dk_at dksX1_beatenBy_0 5 rfl rfl)
theorem dX1_beatenBy_6 : decode cX1_beatenBy 6 = .ok (.invokevirtual 183, 3) := dk_182 0 183 (dk_at dksX1_beatenBy_0 6 rfl rfl)
theorem dX1_beatenBy_9 : decode cX1_beatenBy 9 = .ok (.invokevirtual 215, 3) := dk_182 0 215 (dk_at dksX1_beatenBy_0 9 rfl rfl)
theorem dX1_beatenBy_12 : decode cX1_beatenBy 12 = .ok (.ireturn, 1) := dk_172 (dk_at dksX1_beatenBy_0 12 rfl rfl)
abbrev cX1_isToldByPairs : ByteArray := prog_1_method_42_code
def yX1_isToldByPairs : MethodName := ⟨RX1, "isToldByPairs", "(I)Z"⟩
def dkwX1_isToldByPairs_0 : List UInt8 := [42, 180, 0, 29, 42, 27, 182, 0, 183, 182, 0, 218, 172]
abbrev dktX1_isToldByPairs_0 : List UInt8 := dkwX1_isToldByPairs_0 ++ []
theorem dksX1_isToldByPairs_0 : cX1_isToldByPairs.data.toList.drop 0 = dktX1_isToldByPairs_0 := by decide +kernel
theorem dX1_isToldByPairs_0 : decode cX1_isToldByPairs 0 = .ok (.aload_n 0, 1) := dk_42 (dk_at dksX1_isToldByPairs_0 0 rfl rfl)
theorem dX1_isToldByPairs_1 : decode cX1_isToldByPairs 1 = .ok (.getfield 29, 3) := dk_180 0 29 (dk_at dksX1_isToldByPairs_0 1 rfl rfl)
theorem dX1_isToldByPairs_4 : decode cX1_isToldByPairs 4 = .ok (.aload_n 0, 1) := dk_42 (dk_at dksX1_isToldByPairs_0 4 rfl rfl)
theorem dX1_isToldByPairs_5 : decode cX1_isToldByPairs 5 = .ok (.iload_n 1, 1) := dk_27 (dk_at dksX1_isToldByPairs_0 5 rfl rfl)
theorem dX1_isToldByPairs_6 : decode cX1_isToldByPairs 6 = .ok (.invokevirtual 183, 3) := dk_182 0 183 (dk_at dksX1_isToldByPairs_0 6 rfl rfl)
theorem dX1_isToldByPairs_9 : decode cX1_isToldByPairs 9 = .ok (.invokevirtual 218, 3) := dk_182 0 218 (dk_at dksX1_isToldByPairs_0 9 rfl rfl)
theorem dX1_isToldByPairs_12 : decode cX1_isToldByPairs 12 = .ok (.ireturn, 1) := dk_172 (dk_at dksX1_isToldByPairs_0 12 rfl rfl)
abbrev cX1_isToldByWindow : ByteArray := prog_1_method_44_code
def yX1_isToldByWindow : MethodName := ⟨RX1, "isToldByWindow", "(I)Z"⟩
def dkwX1_isToldByWindow_0 : List UInt8 := [42, 27, 182, 0, 183, 77, 42, 42, 180, 0, 29, 182, 0, 229, 44, 182, 0, 232, 172]
abbrev dktX1_isToldByWindow_0 : List UInt8 := dkwX1_isToldByWindow_0 ++ []
theorem dksX1_isToldByWindow_0 : cX1_isToldByWindow.data.toList.drop 0 = dktX1_isToldByWindow_0 := by decide +kernel
theorem dX1_isToldByWindow_0 : decode cX1_isToldByWindow 0 = .ok (.aload_n 0, 1) := dk_42 (dk_at dksX1_isToldByWindow_0 0 rfl rfl)
theorem dX1_isToldByWindow_1 : decode cX1_isToldByWindow 1 = .ok (.iload_n 1, 1) := dk_27 (dk_at dksX1_isToldByWindow_0 1 rfl rfl)
theorem dX1_isToldByWindow_2 : decode cX1_isToldByWindow 2 = .ok (.invokevirtual 183, 3) := dk_182 0 183 (dk_at dksX1_isToldByWindow_0 2 rfl rfl)
theorem dX1_isToldByWindow_5 : decode cX1_isToldByWindow 5 = .ok (.astore_n 2, 1) := dk_77 (dk_at dksX1_isToldByWindow_0 5 rfl rfl)
theorem dX1_isToldByWindow_6 : decode cX1_isToldByWindow 6 = .ok (.aload_n 0, 1) := dk_42 (dk_at dksX1_isToldByWindow_0 6 rfl rfl)
theorem dX1_isToldByWindow_7 : decode cX1_isToldByWindow 7 = .ok (.aload_n 0, 1) := dk_42 (dk_at dksX1_isToldByWindow_0 7 rfl rfl)
theorem dX1_isToldByWindow_8 : decode cX1_isToldByWindow 8 = .ok (.getfield 29, 3) := dk_180 0 29 (dk_at dksX1_isToldByWindow_0 8 rfl rfl)
theorem dX1_isToldByWindow_11 : decode cX1_isToldByWindow 11 = .ok (.invokevirtual 229, 3) := dk_182 0 229 (dk_at dksX1_isToldByWindow_0 11 rfl rfl)
theorem dX1_isToldByWindow_14 : decode cX1_isToldByWindow 14 = .ok (.aload_n 2, 1) := dk_44 (dk_at dksX1_isToldByWindow_0 14 rfl rfl)
theorem dX1_isToldByWindow_15 : decode cX1_isToldByWindow 15 = .ok (.invokevirtual 232, 3) := dk_182 0 232 (dk_at dksX1_isToldByWindow_0 15 rfl rfl)
theorem dX1_isToldByWindow_18 : decode cX1_isToldByWindow 18 = .ok (.ireturn, 1) := dk_172 (dk_at dksX1_isToldByWindow_0 18 rfl rfl)
abbrev cX1_toldAt : ByteArray := prog_1_method_48_code
def yX1_toldAt : MethodName := ⟨RX1, "toldAt", "(I)I"⟩
def dkwX1_toldAt_1 : List UInt8 := [184, 0, 15, 184, 0, 72, 42, 180, 0, 29, 44, 27, 182, 0, 246, 192, 0, 100, 182, 0, 249, 172]
abbrev dktX1_toldAt_1 : List UInt8 := dkwX1_toldAt_1 ++ []
def dkwX1_toldAt_0 : List UInt8 := [42, 180, 0, 29, 42, 180, 0, 29, 182, 0, 200, 182, 0, 236, 77, 27, 3, 44, 182, 0, 171, 4, 100]
abbrev dktX1_toldAt_0 : List UInt8 := dkwX1_toldAt_0 ++ dktX1_toldAt_1
theorem dksX1_toldAt_0 : cX1_toldAt.data.toList.drop 0 = dktX1_toldAt_0 := by decide +kernel
theorem dksX1_toldAt_1 : cX1_toldAt.data.toList.drop 23 = dktX1_toldAt_1 := dk_seg dksX1_toldAt_0 23 rfl rfl
theorem dX1_toldAt_0 : decode cX1_toldAt 0 = .ok (.aload_n 0, 1) := dk_42 (dk_at dksX1_toldAt_0 0 rfl rfl)
theorem dX1_toldAt_1 : decode cX1_toldAt 1 = .ok (.getfield 29, 3) := dk_180 0 29 (dk_at dksX1_toldAt_0 1 rfl rfl)
theorem dX1_toldAt_4 : decode cX1_toldAt 4 = .ok (.aload_n 0, 1) := dk_42 (dk_at dksX1_toldAt_0 4 rfl rfl)
theorem dX1_toldAt_5 : decode cX1_toldAt 5 = .ok (.getfield 29, 3) := dk_180 0 29 (dk_at dksX1_toldAt_0 5 rfl rfl)
theorem dX1_toldAt_8 : decode cX1_toldAt 8 = .ok (.invokevirtual 200, 3) := dk_182 0 200 (dk_at dksX1_toldAt_0 8 rfl rfl)
theorem dX1_toldAt_11 : decode cX1_toldAt 11 = .ok (.invokevirtual 236, 3) := dk_182 0 236 (dk_at dksX1_toldAt_0 11 rfl rfl)
theorem dX1_toldAt_14 : decode cX1_toldAt 14 = .ok (.astore_n 2, 1) := dk_77 (dk_at dksX1_toldAt_0 14 rfl rfl)
theorem dX1_toldAt_15 : decode cX1_toldAt 15 = .ok (.iload_n 1, 1) := dk_27 (dk_at dksX1_toldAt_0 15 rfl rfl)
theorem dX1_toldAt_16 : decode cX1_toldAt 16 = .ok (.iconst 0, 1) := dk_3 (dk_at dksX1_toldAt_0 16 rfl rfl)
theorem dX1_toldAt_17 : decode cX1_toldAt 17 = .ok (.aload_n 2, 1) := dk_44 (dk_at dksX1_toldAt_0 17 rfl rfl)
theorem dX1_toldAt_18 : decode cX1_toldAt 18 = .ok (.invokevirtual 171, 3) := dk_182 0 171 (dk_at dksX1_toldAt_0 18 rfl rfl)
theorem dX1_toldAt_21 : decode cX1_toldAt 21 = .ok (.iconst 1, 1) := dk_4 (dk_at dksX1_toldAt_0 21 rfl rfl)
theorem dX1_toldAt_22 : decode cX1_toldAt 22 = .ok (.isub, 1) := dk_100 (dk_at dksX1_toldAt_0 22 rfl rfl)
theorem dX1_toldAt_23 : decode cX1_toldAt 23 = .ok (.invokestatic 15, 3) := dk_184 0 15 (dk_at dksX1_toldAt_1 0 rfl rfl)
theorem dX1_toldAt_26 : decode cX1_toldAt 26 = .ok (.invokestatic 72, 3) := dk_184 0 72 (dk_at dksX1_toldAt_1 3 rfl rfl)
theorem dX1_toldAt_29 : decode cX1_toldAt 29 = .ok (.aload_n 0, 1) := dk_42 (dk_at dksX1_toldAt_1 6 rfl rfl)
theorem dX1_toldAt_30 : decode cX1_toldAt 30 = .ok (.getfield 29, 3) := dk_180 0 29 (dk_at dksX1_toldAt_1 7 rfl rfl)
theorem dX1_toldAt_33 : decode cX1_toldAt 33 = .ok (.aload_n 2, 1) := dk_44 (dk_at dksX1_toldAt_1 10 rfl rfl)
theorem dX1_toldAt_34 : decode cX1_toldAt 34 = .ok (.iload_n 1, 1) := dk_27 (dk_at dksX1_toldAt_1 11 rfl rfl)
theorem dX1_toldAt_35 : decode cX1_toldAt 35 = .ok (.invokevirtual 246, 3) := dk_182 0 246 (dk_at dksX1_toldAt_1 12 rfl rfl)
theorem dX1_toldAt_38 : decode cX1_toldAt 38 = .ok (.checkcast 100, 3) := dk_192 0 100 (dk_at dksX1_toldAt_1 15 rfl rfl)
theorem dX1_toldAt_41 : decode cX1_toldAt 41 = .ok (.invokevirtual 249, 3) := dk_182 0 249 (dk_at dksX1_toldAt_1 18 rfl rfl)
theorem dX1_toldAt_44 : decode cX1_toldAt 44 = .ok (.ireturn, 1) := dk_172 (dk_at dksX1_toldAt_1 21 rfl rfl)
abbrev cX1_layerByPeeling : ByteArray := prog_1_method_49_code
def yX1_layerByPeeling : MethodName := ⟨RX1, "layerByPeeling", "(I)I"⟩
def dkwX1_layerByPeeling_0 : List UInt8 := [42, 180, 0, 29, 27, 182, 0, 69, 184, 0, 72, 42, 180, 0, 29, 182, 0, 252, 27, 46, 172]
abbrev dktX1_layerByPeeling_0 : List UInt8 := dkwX1_layerByPeeling_0 ++ []
theorem dksX1_layerByPeeling_0 : cX1_layerByPeeling.data.toList.drop 0 = dktX1_layerByPeeling_0 := by decide +kernel
theorem dX1_layerByPeeling_0 : decode cX1_layerByPeeling 0 = .ok (.aload_n 0, 1) := dk_42 (dk_at dksX1_layerByPeeling_0 0 rfl rfl)
theorem dX1_layerByPeeling_1 : decode cX1_layerByPeeling 1 = .ok (.getfield 29, 3) := dk_180 0 29 (dk_at dksX1_layerByPeeling_0 1 rfl rfl)
theorem dX1_layerByPeeling_4 : decode cX1_layerByPeeling 4 = .ok (.iload_n 1, 1) := dk_27 (dk_at dksX1_layerByPeeling_0 4 rfl rfl)
theorem dX1_layerByPeeling_5 : decode cX1_layerByPeeling 5 = .ok (.invokevirtual 69, 3) := dk_182 0 69 (dk_at dksX1_layerByPeeling_0 5 rfl rfl)
theorem dX1_layerByPeeling_8 : decode cX1_layerByPeeling 8 = .ok (.invokestatic 72, 3) := dk_184 0 72 (dk_at dksX1_layerByPeeling_0 8 rfl rfl)
theorem dX1_layerByPeeling_11 : decode cX1_layerByPeeling 11 = .ok (.aload_n 0, 1) := dk_42 (dk_at dksX1_layerByPeeling_0 11 rfl rfl)
theorem dX1_layerByPeeling_12 : decode cX1_layerByPeeling 12 = .ok (.getfield 29, 3) := dk_180 0 29 (dk_at dksX1_layerByPeeling_0 12 rfl rfl)
theorem dX1_layerByPeeling_15 : decode cX1_layerByPeeling 15 = .ok (.invokevirtual 252, 3) := dk_182 0 252 (dk_at dksX1_layerByPeeling_0 15 rfl rfl)
theorem dX1_layerByPeeling_18 : decode cX1_layerByPeeling 18 = .ok (.iload_n 1, 1) := dk_27 (dk_at dksX1_layerByPeeling_0 18 rfl rfl)
theorem dX1_layerByPeeling_19 : decode cX1_layerByPeeling 19 = .ok (.iaload, 1) := dk_46 (dk_at dksX1_layerByPeeling_0 19 rfl rfl)
theorem dX1_layerByPeeling_20 : decode cX1_layerByPeeling 20 = .ok (.ireturn, 1) := dk_172 (dk_at dksX1_layerByPeeling_0 20 rfl rfl)
abbrev cX1_layerByRows : ByteArray := prog_1_method_50_code
def yX1_layerByRows : MethodName := ⟨RX1, "layerByRows", "(I)I"⟩
def dkwX1_layerByRows_0 : List UInt8 := [42, 180, 0, 29, 27, 182, 0, 69, 184, 0, 72, 42, 180, 0, 29, 182, 1, 0, 27, 46, 172]
abbrev dktX1_layerByRows_0 : List UInt8 := dkwX1_layerByRows_0 ++ []
theorem dksX1_layerByRows_0 : cX1_layerByRows.data.toList.drop 0 = dktX1_layerByRows_0 := by decide +kernel
theorem dX1_layerByRows_0 : decode cX1_layerByRows 0 = .ok (.aload_n 0, 1) := dk_42 (dk_at dksX1_layerByRows_0 0 rfl rfl)
theorem dX1_layerByRows_1 : decode cX1_layerByRows 1 = .ok (.getfield 29, 3) := dk_180 0 29 (dk_at dksX1_layerByRows_0 1 rfl rfl)
theorem dX1_layerByRows_4 : decode cX1_layerByRows 4 = .ok (.iload_n 1, 1) := dk_27 (dk_at dksX1_layerByRows_0 4 rfl rfl)
theorem dX1_layerByRows_5 : decode cX1_layerByRows 5 = .ok (.invokevirtual 69, 3) := dk_182 0 69 (dk_at dksX1_layerByRows_0 5 rfl rfl)
theorem dX1_layerByRows_8 : decode cX1_layerByRows 8 = .ok (.invokestatic 72, 3) := dk_184 0 72 (dk_at dksX1_layerByRows_0 8 rfl rfl)
theorem dX1_layerByRows_11 : decode cX1_layerByRows 11 = .ok (.aload_n 0, 1) := dk_42 (dk_at dksX1_layerByRows_0 11 rfl rfl)
theorem dX1_layerByRows_12 : decode cX1_layerByRows 12 = .ok (.getfield 29, 3) := dk_180 0 29 (dk_at dksX1_layerByRows_0 12 rfl rfl)
theorem dX1_layerByRows_15 : decode cX1_layerByRows 15 = .ok (.invokevirtual 256, 3) := dk_182 1 0 (dk_at dksX1_layerByRows_0 15 rfl rfl)
theorem dX1_layerByRows_18 : decode cX1_layerByRows 18 = .ok (.iload_n 1, 1) := dk_27 (dk_at dksX1_layerByRows_0 18 rfl rfl)
theorem dX1_layerByRows_19 : decode cX1_layerByRows 19 = .ok (.iaload, 1) := dk_46 (dk_at dksX1_layerByRows_0 19 rfl rfl)
theorem dX1_layerByRows_20 : decode cX1_layerByRows 20 = .ok (.ireturn, 1) := dk_172 (dk_at dksX1_layerByRows_0 20 rfl rfl)
abbrev cX1_inLayer : ByteArray := prog_1_method_53_code
def yX1_inLayer : MethodName := ⟨RX1, "inLayer", "(I)I"⟩
def dkwX1_inLayer_1 : List UInt8 := [172]
abbrev dktX1_inLayer_1 : List UInt8 := dkwX1_inLayer_1 ++ []
def dkwX1_inLayer_0 : List UInt8 := [27, 4, 161, 0, 7, 4, 167, 0, 4, 3, 184, 0, 87, 42, 180, 0, 29, 182, 0, 252, 27, 184, 1, 11]
abbrev dktX1_inLayer_0 : List UInt8 := dkwX1_inLayer_0 ++ dktX1_inLayer_1
theorem dksX1_inLayer_0 : cX1_inLayer.data.toList.drop 0 = dktX1_inLayer_0 := by decide +kernel
theorem dksX1_inLayer_1 : cX1_inLayer.data.toList.drop 24 = dktX1_inLayer_1 := dk_seg dksX1_inLayer_0 24 rfl rfl
theorem dX1_inLayer_0 : decode cX1_inLayer 0 = .ok (.iload_n 1, 1) := dk_27 (dk_at dksX1_inLayer_0 0 rfl rfl)
theorem dX1_inLayer_1 : decode cX1_inLayer 1 = .ok (.iconst 1, 1) := dk_4 (dk_at dksX1_inLayer_0 1 rfl rfl)
theorem dX1_inLayer_2 : decode cX1_inLayer 2 = .ok (.if_icmp .lt 7, 3) := dk_161 0 7 (dk_at dksX1_inLayer_0 2 rfl rfl)
theorem dX1_inLayer_5 : decode cX1_inLayer 5 = .ok (.iconst 1, 1) := dk_4 (dk_at dksX1_inLayer_0 5 rfl rfl)
theorem dX1_inLayer_6 : decode cX1_inLayer 6 = .ok (.goto 4, 3) := dk_167 0 4 (dk_at dksX1_inLayer_0 6 rfl rfl)
theorem dX1_inLayer_9 : decode cX1_inLayer 9 = .ok (.iconst 0, 1) := dk_3 (dk_at dksX1_inLayer_0 9 rfl rfl)
theorem dX1_inLayer_10 : decode cX1_inLayer 10 = .ok (.invokestatic 87, 3) := dk_184 0 87 (dk_at dksX1_inLayer_0 10 rfl rfl)
theorem dX1_inLayer_13 : decode cX1_inLayer 13 = .ok (.aload_n 0, 1) := dk_42 (dk_at dksX1_inLayer_0 13 rfl rfl)
theorem dX1_inLayer_14 : decode cX1_inLayer 14 = .ok (.getfield 29, 3) := dk_180 0 29 (dk_at dksX1_inLayer_0 14 rfl rfl)
theorem dX1_inLayer_17 : decode cX1_inLayer 17 = .ok (.invokevirtual 252, 3) := dk_182 0 252 (dk_at dksX1_inLayer_0 17 rfl rfl)
theorem dX1_inLayer_20 : decode cX1_inLayer 20 = .ok (.iload_n 1, 1) := dk_27 (dk_at dksX1_inLayer_0 20 rfl rfl)
theorem dX1_inLayer_21 : decode cX1_inLayer 21 = .ok (.invokestatic 267, 3) := dk_184 1 11 (dk_at dksX1_inLayer_0 21 rfl rfl)
theorem dX1_inLayer_24 : decode cX1_inLayer 24 = .ok (.ireturn, 1) := dk_172 (dk_at dksX1_inLayer_1 0 rfl rfl)
abbrev cX1_manyIn : ByteArray := prog_1_method_52_code
def yX1_manyIn : MethodName := ⟨RX1, "manyIn", "([II)I"⟩
def dkwX1_manyIn_2 : List UInt8 := [172]
abbrev dktX1_manyIn_2 : List UInt8 := dkwX1_manyIn_2 ++ []
def dkwX1_manyIn_1 : List UInt8 := [28, 21, 6, 27, 160, 0, 7, 4, 167, 0, 4, 3, 184, 1, 7, 96, 61, 132, 5, 1, 167, 255, 223, 28]
abbrev dktX1_manyIn_1 : List UInt8 := dkwX1_manyIn_1 ++ dktX1_manyIn_2
def dkwX1_manyIn_0 : List UInt8 := [3, 61, 42, 78, 45, 190, 54, 4, 3, 54, 5, 21, 5, 21, 4, 162, 0, 32, 45, 21, 5, 46, 54, 6]
abbrev dktX1_manyIn_0 : List UInt8 := dkwX1_manyIn_0 ++ dktX1_manyIn_1
theorem dksX1_manyIn_0 : cX1_manyIn.data.toList.drop 0 = dktX1_manyIn_0 := by decide +kernel
theorem dksX1_manyIn_1 : cX1_manyIn.data.toList.drop 24 = dktX1_manyIn_1 := dk_seg dksX1_manyIn_0 24 rfl rfl
theorem dksX1_manyIn_2 : cX1_manyIn.data.toList.drop 48 = dktX1_manyIn_2 := dk_seg dksX1_manyIn_1 24 rfl rfl
theorem dX1_manyIn_0 : decode cX1_manyIn 0 = .ok (.iconst 0, 1) := dk_3 (dk_at dksX1_manyIn_0 0 rfl rfl)
theorem dX1_manyIn_1 : decode cX1_manyIn 1 = .ok (.istore_n 2, 1) := dk_61 (dk_at dksX1_manyIn_0 1 rfl rfl)
theorem dX1_manyIn_2 : decode cX1_manyIn 2 = .ok (.aload_n 0, 1) := dk_42 (dk_at dksX1_manyIn_0 2 rfl rfl)
theorem dX1_manyIn_3 : decode cX1_manyIn 3 = .ok (.astore_n 3, 1) := dk_78 (dk_at dksX1_manyIn_0 3 rfl rfl)
theorem dX1_manyIn_4 : decode cX1_manyIn 4 = .ok (.aload_n 3, 1) := dk_45 (dk_at dksX1_manyIn_0 4 rfl rfl)
theorem dX1_manyIn_5 : decode cX1_manyIn 5 = .ok (.arraylength, 1) := dk_190 (dk_at dksX1_manyIn_0 5 rfl rfl)
theorem dX1_manyIn_6 : decode cX1_manyIn 6 = .ok (.istore 4, 2) := dk_54 4 (dk_at dksX1_manyIn_0 6 rfl rfl)
theorem dX1_manyIn_8 : decode cX1_manyIn 8 = .ok (.iconst 0, 1) := dk_3 (dk_at dksX1_manyIn_0 8 rfl rfl)
theorem dX1_manyIn_9 : decode cX1_manyIn 9 = .ok (.istore 5, 2) := dk_54 5 (dk_at dksX1_manyIn_0 9 rfl rfl)
theorem dX1_manyIn_11 : decode cX1_manyIn 11 = .ok (.iload 5, 2) := dk_21 5 (dk_at dksX1_manyIn_0 11 rfl rfl)
theorem dX1_manyIn_13 : decode cX1_manyIn 13 = .ok (.iload 4, 2) := dk_21 4 (dk_at dksX1_manyIn_0 13 rfl rfl)
theorem dX1_manyIn_15 : decode cX1_manyIn 15 = .ok (.if_icmp .ge 32, 3) := dk_162 0 32 (dk_at dksX1_manyIn_0 15 rfl rfl)
theorem dX1_manyIn_18 : decode cX1_manyIn 18 = .ok (.aload_n 3, 1) := dk_45 (dk_at dksX1_manyIn_0 18 rfl rfl)
theorem dX1_manyIn_19 : decode cX1_manyIn 19 = .ok (.iload 5, 2) := dk_21 5 (dk_at dksX1_manyIn_0 19 rfl rfl)
theorem dX1_manyIn_21 : decode cX1_manyIn 21 = .ok (.iaload, 1) := dk_46 (dk_at dksX1_manyIn_0 21 rfl rfl)
theorem dX1_manyIn_22 : decode cX1_manyIn 22 = .ok (.istore 6, 2) := dk_54 6 (dk_at dksX1_manyIn_0 22 rfl rfl)
theorem dX1_manyIn_24 : decode cX1_manyIn 24 = .ok (.iload_n 2, 1) := dk_28 (dk_at dksX1_manyIn_1 0 rfl rfl)
theorem dX1_manyIn_25 : decode cX1_manyIn 25 = .ok (.iload 6, 2) := dk_21 6 (dk_at dksX1_manyIn_1 1 rfl rfl)
theorem dX1_manyIn_27 : decode cX1_manyIn 27 = .ok (.iload_n 1, 1) := dk_27 (dk_at dksX1_manyIn_1 3 rfl rfl)
theorem dX1_manyIn_28 : decode cX1_manyIn 28 = .ok (.if_icmp .ne 7, 3) := dk_160 0 7 (dk_at dksX1_manyIn_1 4 rfl rfl)
theorem dX1_manyIn_31 : decode cX1_manyIn 31 = .ok (.iconst 1, 1) := dk_4 (dk_at dksX1_manyIn_1 7 rfl rfl)
theorem dX1_manyIn_32 : decode cX1_manyIn 32 = .ok (.goto 4, 3) := dk_167 0 4 (dk_at dksX1_manyIn_1 8 rfl rfl)
theorem dX1_manyIn_35 : decode cX1_manyIn 35 = .ok (.iconst 0, 1) := dk_3 (dk_at dksX1_manyIn_1 11 rfl rfl)
theorem dX1_manyIn_36 : decode cX1_manyIn 36 = .ok (.invokestatic 263, 3) := dk_184 1 7 (dk_at dksX1_manyIn_1 12 rfl rfl)
theorem dX1_manyIn_39 : decode cX1_manyIn 39 = .ok (.iadd, 1) := dk_96 (dk_at dksX1_manyIn_1 15 rfl rfl)
theorem dX1_manyIn_40 : decode cX1_manyIn 40 = .ok (.istore_n 2, 1) := dk_61 (dk_at dksX1_manyIn_1 16 rfl rfl)
theorem dX1_manyIn_41 : decode cX1_manyIn 41 = .ok (.iinc 5 1, 3) := dk_132 5 1 (dk_at dksX1_manyIn_1 17 rfl rfl)
theorem dX1_manyIn_44 : decode cX1_manyIn 44 = .ok (.goto (-33), 3) := dk_167 255 223 (dk_at dksX1_manyIn_1 20 rfl rfl)
theorem dX1_manyIn_47 : decode cX1_manyIn 47 = .ok (.iload_n 2, 1) := dk_28 (dk_at dksX1_manyIn_1 23 rfl rfl)
theorem dX1_manyIn_48 : decode cX1_manyIn 48 = .ok (.ireturn, 1) := dk_172 (dk_at dksX1_manyIn_2 0 rfl rfl)
abbrev cX1_toldOn : ByteArray := prog_1_method_54_code
def yX1_toldOn : MethodName := ⟨RX1, "toldOn", "(I)I"⟩
def dkwX1_toldOn_0 : List UInt8 := [27, 4, 16, 15, 184, 0, 15, 184, 0, 87, 42, 180, 0, 29, 27, 182, 1, 15, 172]
abbrev dktX1_toldOn_0 : List UInt8 := dkwX1_toldOn_0 ++ []
theorem dksX1_toldOn_0 : cX1_toldOn.data.toList.drop 0 = dktX1_toldOn_0 := by decide +kernel
theorem dX1_toldOn_0 : decode cX1_toldOn 0 = .ok (.iload_n 1, 1) := dk_27 (dk_at dksX1_toldOn_0 0 rfl rfl)
theorem dX1_toldOn_1 : decode cX1_toldOn 1 = .ok (.iconst 1, 1) := dk_4 (dk_at dksX1_toldOn_0 1 rfl rfl)
theorem dX1_toldOn_2 : decode cX1_toldOn 2 = .ok (.bipush 15, 2) := dk_16 15 (dk_at dksX1_toldOn_0 2 rfl rfl)
theorem dX1_toldOn_4 : decode cX1_toldOn 4 = .ok (.invokestatic 15, 3) := dk_184 0 15 (dk_at dksX1_toldOn_0 4 rfl rfl)
theorem dX1_toldOn_7 : decode cX1_toldOn 7 = .ok (.invokestatic 87, 3) := dk_184 0 87 (dk_at dksX1_toldOn_0 7 rfl rfl)
theorem dX1_toldOn_10 : decode cX1_toldOn 10 = .ok (.aload_n 0, 1) := dk_42 (dk_at dksX1_toldOn_0 10 rfl rfl)
theorem dX1_toldOn_11 : decode cX1_toldOn 11 = .ok (.getfield 29, 3) := dk_180 0 29 (dk_at dksX1_toldOn_0 11 rfl rfl)
theorem dX1_toldOn_14 : decode cX1_toldOn 14 = .ok (.iload_n 1, 1) := dk_27 (dk_at dksX1_toldOn_0 14 rfl rfl)
theorem dX1_toldOn_15 : decode cX1_toldOn 15 = .ok (.invokevirtual 271, 3) := dk_182 1 15 (dk_at dksX1_toldOn_0 15 rfl rfl)
theorem dX1_toldOn_18 : decode cX1_toldOn 18 = .ok (.ireturn, 1) := dk_172 (dk_at dksX1_toldOn_0 18 rfl rfl)
abbrev cX1_setsFor : ByteArray := prog_1_method_55_code
def yX1_setsFor : MethodName := ⟨RX1, "setsFor", "(I)I"⟩
def dkwX1_setsFor_0 : List UInt8 := [42, 180, 0, 29, 42, 27, 182, 0, 183, 182, 1, 18, 172]
abbrev dktX1_setsFor_0 : List UInt8 := dkwX1_setsFor_0 ++ []
theorem dksX1_setsFor_0 : cX1_setsFor.data.toList.drop 0 = dktX1_setsFor_0 := by decide +kernel
theorem dX1_setsFor_0 : decode cX1_setsFor 0 = .ok (.aload_n 0, 1) := dk_42 (dk_at dksX1_setsFor_0 0 rfl rfl)
theorem dX1_setsFor_1 : decode cX1_setsFor 1 = .ok (.getfield 29, 3) := dk_180 0 29 (dk_at dksX1_setsFor_0 1 rfl rfl)
theorem dX1_setsFor_4 : decode cX1_setsFor 4 = .ok (.aload_n 0, 1) := dk_42 (dk_at dksX1_setsFor_0 4 rfl rfl)
theorem dX1_setsFor_5 : decode cX1_setsFor 5 = .ok (.iload_n 1, 1) := dk_27 (dk_at dksX1_setsFor_0 5 rfl rfl)
theorem dX1_setsFor_6 : decode cX1_setsFor 6 = .ok (.invokevirtual 183, 3) := dk_182 0 183 (dk_at dksX1_setsFor_0 6 rfl rfl)
theorem dX1_setsFor_9 : decode cX1_setsFor 9 = .ok (.invokevirtual 274, 3) := dk_182 1 18 (dk_at dksX1_setsFor_0 9 rfl rfl)
theorem dX1_setsFor_12 : decode cX1_setsFor 12 = .ok (.ireturn, 1) := dk_172 (dk_at dksX1_setsFor_0 12 rfl rfl)
abbrev cX1_toldWeakly : ByteArray := prog_1_method_56_code
def yX1_toldWeakly : MethodName := ⟨RX1, "toldWeakly", "(I)I"⟩
def dkwX1_toldWeakly_0 : List UInt8 := [27, 4, 7, 184, 0, 15, 184, 0, 87, 42, 180, 0, 29, 27, 182, 1, 21, 172]
abbrev dktX1_toldWeakly_0 : List UInt8 := dkwX1_toldWeakly_0 ++ []
theorem dksX1_toldWeakly_0 : cX1_toldWeakly.data.toList.drop 0 = dktX1_toldWeakly_0 := by decide +kernel
theorem dX1_toldWeakly_0 : decode cX1_toldWeakly 0 = .ok (.iload_n 1, 1) := dk_27 (dk_at dksX1_toldWeakly_0 0 rfl rfl)
theorem dX1_toldWeakly_1 : decode cX1_toldWeakly 1 = .ok (.iconst 1, 1) := dk_4 (dk_at dksX1_toldWeakly_0 1 rfl rfl)
theorem dX1_toldWeakly_2 : decode cX1_toldWeakly 2 = .ok (.iconst 4, 1) := dk_7 (dk_at dksX1_toldWeakly_0 2 rfl rfl)
theorem dX1_toldWeakly_3 : decode cX1_toldWeakly 3 = .ok (.invokestatic 15, 3) := dk_184 0 15 (dk_at dksX1_toldWeakly_0 3 rfl rfl)
theorem dX1_toldWeakly_6 : decode cX1_toldWeakly 6 = .ok (.invokestatic 87, 3) := dk_184 0 87 (dk_at dksX1_toldWeakly_0 6 rfl rfl)
theorem dX1_toldWeakly_9 : decode cX1_toldWeakly 9 = .ok (.aload_n 0, 1) := dk_42 (dk_at dksX1_toldWeakly_0 9 rfl rfl)
theorem dX1_toldWeakly_10 : decode cX1_toldWeakly 10 = .ok (.getfield 29, 3) := dk_180 0 29 (dk_at dksX1_toldWeakly_0 10 rfl rfl)
theorem dX1_toldWeakly_13 : decode cX1_toldWeakly 13 = .ok (.iload_n 1, 1) := dk_27 (dk_at dksX1_toldWeakly_0 13 rfl rfl)
theorem dX1_toldWeakly_14 : decode cX1_toldWeakly 14 = .ok (.invokevirtual 277, 3) := dk_182 1 21 (dk_at dksX1_toldWeakly_0 14 rfl rfl)
theorem dX1_toldWeakly_17 : decode cX1_toldWeakly 17 = .ok (.ireturn, 1) := dk_172 (dk_at dksX1_toldWeakly_0 17 rfl rfl)
abbrev cX1_wouldBeTold : ByteArray := prog_1_method_57_code
def yX1_wouldBeTold : MethodName := ⟨RX1, "wouldBeTold", "(IIII)Z"⟩
def dkwX1_wouldBeTold_1 : List UInt8 := [27, 79, 89, 4, 28, 79, 89, 5, 29, 79, 89, 6, 21, 4, 79, 183, 0, 102, 182, 1, 24, 172]
abbrev dktX1_wouldBeTold_1 : List UInt8 := dkwX1_wouldBeTold_1 ++ []
def dkwX1_wouldBeTold_0 : List UInt8 := [27, 28, 29, 21, 4, 184, 0, 83, 184, 0, 87, 42, 180, 0, 29, 187, 0, 100, 89, 7, 188, 10, 89, 3]
abbrev dktX1_wouldBeTold_0 : List UInt8 := dkwX1_wouldBeTold_0 ++ dktX1_wouldBeTold_1
theorem dksX1_wouldBeTold_0 : cX1_wouldBeTold.data.toList.drop 0 = dktX1_wouldBeTold_0 := by decide +kernel
theorem dksX1_wouldBeTold_1 : cX1_wouldBeTold.data.toList.drop 24 = dktX1_wouldBeTold_1 := dk_seg dksX1_wouldBeTold_0 24 rfl rfl
theorem dX1_wouldBeTold_0 : decode cX1_wouldBeTold 0 = .ok (.iload_n 1, 1) := dk_27 (dk_at dksX1_wouldBeTold_0 0 rfl rfl)
theorem dX1_wouldBeTold_1 : decode cX1_wouldBeTold 1 = .ok (.iload_n 2, 1) := dk_28 (dk_at dksX1_wouldBeTold_0 1 rfl rfl)
theorem dX1_wouldBeTold_2 : decode cX1_wouldBeTold 2 = .ok (.iload_n 3, 1) := dk_29 (dk_at dksX1_wouldBeTold_0 2 rfl rfl)
theorem dX1_wouldBeTold_3 : decode cX1_wouldBeTold 3 = .ok (.iload 4, 2) := dk_21 4 (dk_at dksX1_wouldBeTold_0 3 rfl rfl)
theorem dX1_wouldBeTold_5 : decode cX1_wouldBeTold 5 = .ok (.invokestatic 83, 3) := dk_184 0 83 (dk_at dksX1_wouldBeTold_0 5 rfl rfl)
theorem dX1_wouldBeTold_8 : decode cX1_wouldBeTold 8 = .ok (.invokestatic 87, 3) := dk_184 0 87 (dk_at dksX1_wouldBeTold_0 8 rfl rfl)
theorem dX1_wouldBeTold_11 : decode cX1_wouldBeTold 11 = .ok (.aload_n 0, 1) := dk_42 (dk_at dksX1_wouldBeTold_0 11 rfl rfl)
theorem dX1_wouldBeTold_12 : decode cX1_wouldBeTold 12 = .ok (.getfield 29, 3) := dk_180 0 29 (dk_at dksX1_wouldBeTold_0 12 rfl rfl)
theorem dX1_wouldBeTold_15 : decode cX1_wouldBeTold 15 = .ok (.new 100, 3) := dk_187 0 100 (dk_at dksX1_wouldBeTold_0 15 rfl rfl)
theorem dX1_wouldBeTold_18 : decode cX1_wouldBeTold 18 = .ok (.dup, 1) := dk_89 (dk_at dksX1_wouldBeTold_0 18 rfl rfl)
theorem dX1_wouldBeTold_19 : decode cX1_wouldBeTold 19 = .ok (.iconst 4, 1) := dk_7 (dk_at dksX1_wouldBeTold_0 19 rfl rfl)
theorem dX1_wouldBeTold_20 : decode cX1_wouldBeTold 20 = .ok (.newarray .int, 2) := dk_188_10 (dk_at dksX1_wouldBeTold_0 20 rfl rfl)
theorem dX1_wouldBeTold_22 : decode cX1_wouldBeTold 22 = .ok (.dup, 1) := dk_89 (dk_at dksX1_wouldBeTold_0 22 rfl rfl)
theorem dX1_wouldBeTold_23 : decode cX1_wouldBeTold 23 = .ok (.iconst 0, 1) := dk_3 (dk_at dksX1_wouldBeTold_0 23 rfl rfl)
theorem dX1_wouldBeTold_24 : decode cX1_wouldBeTold 24 = .ok (.iload_n 1, 1) := dk_27 (dk_at dksX1_wouldBeTold_1 0 rfl rfl)
theorem dX1_wouldBeTold_25 : decode cX1_wouldBeTold 25 = .ok (.iastore, 1) := dk_79 (dk_at dksX1_wouldBeTold_1 1 rfl rfl)
theorem dX1_wouldBeTold_26 : decode cX1_wouldBeTold 26 = .ok (.dup, 1) := dk_89 (dk_at dksX1_wouldBeTold_1 2 rfl rfl)
theorem dX1_wouldBeTold_27 : decode cX1_wouldBeTold 27 = .ok (.iconst 1, 1) := dk_4 (dk_at dksX1_wouldBeTold_1 3 rfl rfl)
theorem dX1_wouldBeTold_28 : decode cX1_wouldBeTold 28 = .ok (.iload_n 2, 1) := dk_28 (dk_at dksX1_wouldBeTold_1 4 rfl rfl)
theorem dX1_wouldBeTold_29 : decode cX1_wouldBeTold 29 = .ok (.iastore, 1) := dk_79 (dk_at dksX1_wouldBeTold_1 5 rfl rfl)
theorem dX1_wouldBeTold_30 : decode cX1_wouldBeTold 30 = .ok (.dup, 1) := dk_89 (dk_at dksX1_wouldBeTold_1 6 rfl rfl)
theorem dX1_wouldBeTold_31 : decode cX1_wouldBeTold 31 = .ok (.iconst 2, 1) := dk_5 (dk_at dksX1_wouldBeTold_1 7 rfl rfl)
theorem dX1_wouldBeTold_32 : decode cX1_wouldBeTold 32 = .ok (.iload_n 3, 1) := dk_29 (dk_at dksX1_wouldBeTold_1 8 rfl rfl)
theorem dX1_wouldBeTold_33 : decode cX1_wouldBeTold 33 = .ok (.iastore, 1) := dk_79 (dk_at dksX1_wouldBeTold_1 9 rfl rfl)
theorem dX1_wouldBeTold_34 : decode cX1_wouldBeTold 34 = .ok (.dup, 1) := dk_89 (dk_at dksX1_wouldBeTold_1 10 rfl rfl)
theorem dX1_wouldBeTold_35 : decode cX1_wouldBeTold 35 = .ok (.iconst 3, 1) := dk_6 (dk_at dksX1_wouldBeTold_1 11 rfl rfl)
theorem dX1_wouldBeTold_36 : decode cX1_wouldBeTold 36 = .ok (.iload 4, 2) := dk_21 4 (dk_at dksX1_wouldBeTold_1 12 rfl rfl)
theorem dX1_wouldBeTold_38 : decode cX1_wouldBeTold 38 = .ok (.iastore, 1) := dk_79 (dk_at dksX1_wouldBeTold_1 14 rfl rfl)
theorem dX1_wouldBeTold_39 : decode cX1_wouldBeTold 39 = .ok (.invokespecial 102, 3) := dk_183 0 102 (dk_at dksX1_wouldBeTold_1 15 rfl rfl)
theorem dX1_wouldBeTold_42 : decode cX1_wouldBeTold 42 = .ok (.invokevirtual 280, 3) := dk_182 1 24 (dk_at dksX1_wouldBeTold_1 18 rfl rfl)
theorem dX1_wouldBeTold_45 : decode cX1_wouldBeTold 45 = .ok (.ireturn, 1) := dk_172 (dk_at dksX1_wouldBeTold_1 21 rfl rfl)
abbrev cX1_wouldBeat : ByteArray := prog_1_method_58_code
def yX1_wouldBeat : MethodName := ⟨RX1, "wouldBeat", "(IIII)I"⟩
def dkwX1_wouldBeat_1 : List UInt8 := [27, 79, 89, 4, 28, 79, 89, 5, 29, 79, 89, 6, 21, 4, 79, 183, 0, 102, 182, 1, 27, 172]
abbrev dktX1_wouldBeat_1 : List UInt8 := dkwX1_wouldBeat_1 ++ []
def dkwX1_wouldBeat_0 : List UInt8 := [27, 28, 29, 21, 4, 184, 0, 83, 184, 0, 87, 42, 180, 0, 29, 187, 0, 100, 89, 7, 188, 10, 89, 3]
abbrev dktX1_wouldBeat_0 : List UInt8 := dkwX1_wouldBeat_0 ++ dktX1_wouldBeat_1
theorem dksX1_wouldBeat_0 : cX1_wouldBeat.data.toList.drop 0 = dktX1_wouldBeat_0 := by decide +kernel
theorem dksX1_wouldBeat_1 : cX1_wouldBeat.data.toList.drop 24 = dktX1_wouldBeat_1 := dk_seg dksX1_wouldBeat_0 24 rfl rfl
theorem dX1_wouldBeat_0 : decode cX1_wouldBeat 0 = .ok (.iload_n 1, 1) := dk_27 (dk_at dksX1_wouldBeat_0 0 rfl rfl)
theorem dX1_wouldBeat_1 : decode cX1_wouldBeat 1 = .ok (.iload_n 2, 1) := dk_28 (dk_at dksX1_wouldBeat_0 1 rfl rfl)
theorem dX1_wouldBeat_2 : decode cX1_wouldBeat 2 = .ok (.iload_n 3, 1) := dk_29 (dk_at dksX1_wouldBeat_0 2 rfl rfl)
theorem dX1_wouldBeat_3 : decode cX1_wouldBeat 3 = .ok (.iload 4, 2) := dk_21 4 (dk_at dksX1_wouldBeat_0 3 rfl rfl)
theorem dX1_wouldBeat_5 : decode cX1_wouldBeat 5 = .ok (.invokestatic 83, 3) := dk_184 0 83 (dk_at dksX1_wouldBeat_0 5 rfl rfl)
theorem dX1_wouldBeat_8 : decode cX1_wouldBeat 8 = .ok (.invokestatic 87, 3) := dk_184 0 87 (dk_at dksX1_wouldBeat_0 8 rfl rfl)
theorem dX1_wouldBeat_11 : decode cX1_wouldBeat 11 = .ok (.aload_n 0, 1) := dk_42 (dk_at dksX1_wouldBeat_0 11 rfl rfl)
theorem dX1_wouldBeat_12 : decode cX1_wouldBeat 12 = .ok (.getfield 29, 3) := dk_180 0 29 (dk_at dksX1_wouldBeat_0 12 rfl rfl)
theorem dX1_wouldBeat_15 : decode cX1_wouldBeat 15 = .ok (.new 100, 3) := dk_187 0 100 (dk_at dksX1_wouldBeat_0 15 rfl rfl)
theorem dX1_wouldBeat_18 : decode cX1_wouldBeat 18 = .ok (.dup, 1) := dk_89 (dk_at dksX1_wouldBeat_0 18 rfl rfl)
theorem dX1_wouldBeat_19 : decode cX1_wouldBeat 19 = .ok (.iconst 4, 1) := dk_7 (dk_at dksX1_wouldBeat_0 19 rfl rfl)
theorem dX1_wouldBeat_20 : decode cX1_wouldBeat 20 = .ok (.newarray .int, 2) := dk_188_10 (dk_at dksX1_wouldBeat_0 20 rfl rfl)
theorem dX1_wouldBeat_22 : decode cX1_wouldBeat 22 = .ok (.dup, 1) := dk_89 (dk_at dksX1_wouldBeat_0 22 rfl rfl)
theorem dX1_wouldBeat_23 : decode cX1_wouldBeat 23 = .ok (.iconst 0, 1) := dk_3 (dk_at dksX1_wouldBeat_0 23 rfl rfl)
theorem dX1_wouldBeat_24 : decode cX1_wouldBeat 24 = .ok (.iload_n 1, 1) := dk_27 (dk_at dksX1_wouldBeat_1 0 rfl rfl)
theorem dX1_wouldBeat_25 : decode cX1_wouldBeat 25 = .ok (.iastore, 1) := dk_79 (dk_at dksX1_wouldBeat_1 1 rfl rfl)
theorem dX1_wouldBeat_26 : decode cX1_wouldBeat 26 = .ok (.dup, 1) := dk_89 (dk_at dksX1_wouldBeat_1 2 rfl rfl)
theorem dX1_wouldBeat_27 : decode cX1_wouldBeat 27 = .ok (.iconst 1, 1) := dk_4 (dk_at dksX1_wouldBeat_1 3 rfl rfl)
theorem dX1_wouldBeat_28 : decode cX1_wouldBeat 28 = .ok (.iload_n 2, 1) := dk_28 (dk_at dksX1_wouldBeat_1 4 rfl rfl)
theorem dX1_wouldBeat_29 : decode cX1_wouldBeat 29 = .ok (.iastore, 1) := dk_79 (dk_at dksX1_wouldBeat_1 5 rfl rfl)
theorem dX1_wouldBeat_30 : decode cX1_wouldBeat 30 = .ok (.dup, 1) := dk_89 (dk_at dksX1_wouldBeat_1 6 rfl rfl)
theorem dX1_wouldBeat_31 : decode cX1_wouldBeat 31 = .ok (.iconst 2, 1) := dk_5 (dk_at dksX1_wouldBeat_1 7 rfl rfl)
theorem dX1_wouldBeat_32 : decode cX1_wouldBeat 32 = .ok (.iload_n 3, 1) := dk_29 (dk_at dksX1_wouldBeat_1 8 rfl rfl)
theorem dX1_wouldBeat_33 : decode cX1_wouldBeat 33 = .ok (.iastore, 1) := dk_79 (dk_at dksX1_wouldBeat_1 9 rfl rfl)
theorem dX1_wouldBeat_34 : decode cX1_wouldBeat 34 = .ok (.dup, 1) := dk_89 (dk_at dksX1_wouldBeat_1 10 rfl rfl)
theorem dX1_wouldBeat_35 : decode cX1_wouldBeat 35 = .ok (.iconst 3, 1) := dk_6 (dk_at dksX1_wouldBeat_1 11 rfl rfl)
theorem dX1_wouldBeat_36 : decode cX1_wouldBeat 36 = .ok (.iload 4, 2) := dk_21 4 (dk_at dksX1_wouldBeat_1 12 rfl rfl)
theorem dX1_wouldBeat_38 : decode cX1_wouldBeat 38 = .ok (.iastore, 1) := dk_79 (dk_at dksX1_wouldBeat_1 14 rfl rfl)
theorem dX1_wouldBeat_39 : decode cX1_wouldBeat 39 = .ok (.invokespecial 102, 3) := dk_183 0 102 (dk_at dksX1_wouldBeat_1 15 rfl rfl)
theorem dX1_wouldBeat_42 : decode cX1_wouldBeat 42 = .ok (.invokevirtual 283, 3) := dk_182 1 27 (dk_at dksX1_wouldBeat_1 18 rfl rfl)
theorem dX1_wouldBeat_45 : decode cX1_wouldBeat 45 = .ok (.ireturn, 1) := dk_172 (dk_at dksX1_wouldBeat_1 21 rfl rfl)
abbrev cX1_raiseByTrying : ByteArray := prog_1_method_60_code
def yX1_raiseByTrying : MethodName := ⟨RX1, "raiseByTrying", "(II)I"⟩
def dkwX1_raiseByTrying_1 : List UInt8 := [184, 1, 34, 172]
abbrev dktX1_raiseByTrying_1 : List UInt8 := dkwX1_raiseByTrying_1 ++ []
def dkwX1_raiseByTrying_0 : List UInt8 := [42, 27, 28, 182, 0, 113, 184, 0, 72, 42, 180, 0, 29, 42, 27, 182, 0, 183, 28, 182, 1, 30]
abbrev dktX1_raiseByTrying_0 : List UInt8 := dkwX1_raiseByTrying_0 ++ dktX1_raiseByTrying_1
theorem dksX1_raiseByTrying_0 : cX1_raiseByTrying.data.toList.drop 0 = dktX1_raiseByTrying_0 := by decide +kernel
theorem dksX1_raiseByTrying_1 : cX1_raiseByTrying.data.toList.drop 22 = dktX1_raiseByTrying_1 := dk_seg dksX1_raiseByTrying_0 22 rfl rfl
theorem dX1_raiseByTrying_0 : decode cX1_raiseByTrying 0 = .ok (.aload_n 0, 1) := dk_42 (dk_at dksX1_raiseByTrying_0 0 rfl rfl)
theorem dX1_raiseByTrying_1 : decode cX1_raiseByTrying 1 = .ok (.iload_n 1, 1) := dk_27 (dk_at dksX1_raiseByTrying_0 1 rfl rfl)
theorem dX1_raiseByTrying_2 : decode cX1_raiseByTrying 2 = .ok (.iload_n 2, 1) := dk_28 (dk_at dksX1_raiseByTrying_0 2 rfl rfl)
theorem dX1_raiseByTrying_3 : decode cX1_raiseByTrying 3 = .ok (.invokevirtual 113, 3) := dk_182 0 113 (dk_at dksX1_raiseByTrying_0 3 rfl rfl)
theorem dX1_raiseByTrying_6 : decode cX1_raiseByTrying 6 = .ok (.invokestatic 72, 3) := dk_184 0 72 (dk_at dksX1_raiseByTrying_0 6 rfl rfl)
theorem dX1_raiseByTrying_9 : decode cX1_raiseByTrying 9 = .ok (.aload_n 0, 1) := dk_42 (dk_at dksX1_raiseByTrying_0 9 rfl rfl)
theorem dX1_raiseByTrying_10 : decode cX1_raiseByTrying 10 = .ok (.getfield 29, 3) := dk_180 0 29 (dk_at dksX1_raiseByTrying_0 10 rfl rfl)
theorem dX1_raiseByTrying_13 : decode cX1_raiseByTrying 13 = .ok (.aload_n 0, 1) := dk_42 (dk_at dksX1_raiseByTrying_0 13 rfl rfl)
theorem dX1_raiseByTrying_14 : decode cX1_raiseByTrying 14 = .ok (.iload_n 1, 1) := dk_27 (dk_at dksX1_raiseByTrying_0 14 rfl rfl)
theorem dX1_raiseByTrying_15 : decode cX1_raiseByTrying 15 = .ok (.invokevirtual 183, 3) := dk_182 0 183 (dk_at dksX1_raiseByTrying_0 15 rfl rfl)
theorem dX1_raiseByTrying_18 : decode cX1_raiseByTrying 18 = .ok (.iload_n 2, 1) := dk_28 (dk_at dksX1_raiseByTrying_0 18 rfl rfl)
theorem dX1_raiseByTrying_19 : decode cX1_raiseByTrying 19 = .ok (.invokevirtual 286, 3) := dk_182 1 30 (dk_at dksX1_raiseByTrying_0 19 rfl rfl)
theorem dX1_raiseByTrying_22 : decode cX1_raiseByTrying 22 = .ok (.invokestatic 290, 3) := dk_184 1 34 (dk_at dksX1_raiseByTrying_1 0 rfl rfl)
theorem dX1_raiseByTrying_25 : decode cX1_raiseByTrying 25 = .ok (.ireturn, 1) := dk_172 (dk_at dksX1_raiseByTrying_1 3 rfl rfl)
abbrev cX1_told : ByteArray := prog_1_method_59_code
def yX1_told : MethodName := ⟨RX1, "told", "(I)I"⟩
def dkwX1_told_0 : List UInt8 := [26, 2, 159, 0, 7, 4, 167, 0, 4, 3, 184, 0, 94, 26, 172]
abbrev dktX1_told_0 : List UInt8 := dkwX1_told_0 ++ []
theorem dksX1_told_0 : cX1_told.data.toList.drop 0 = dktX1_told_0 := by decide +kernel
theorem dX1_told_0 : decode cX1_told 0 = .ok (.iload_n 0, 1) := dk_26 (dk_at dksX1_told_0 0 rfl rfl)
theorem dX1_told_1 : decode cX1_told 1 = .ok (.iconst (-1), 1) := dk_2 (dk_at dksX1_told_0 1 rfl rfl)
theorem dX1_told_2 : decode cX1_told 2 = .ok (.if_icmp .eq 7, 3) := dk_159 0 7 (dk_at dksX1_told_0 2 rfl rfl)
theorem dX1_told_5 : decode cX1_told 5 = .ok (.iconst 1, 1) := dk_4 (dk_at dksX1_told_0 5 rfl rfl)
theorem dX1_told_6 : decode cX1_told 6 = .ok (.goto 4, 3) := dk_167 0 4 (dk_at dksX1_told_0 6 rfl rfl)
theorem dX1_told_9 : decode cX1_told 9 = .ok (.iconst 0, 1) := dk_3 (dk_at dksX1_told_0 9 rfl rfl)
theorem dX1_told_10 : decode cX1_told 10 = .ok (.invokestatic 94, 3) := dk_184 0 94 (dk_at dksX1_told_0 10 rfl rfl)
theorem dX1_told_13 : decode cX1_told 13 = .ok (.iload_n 0, 1) := dk_26 (dk_at dksX1_told_0 13 rfl rfl)
theorem dX1_told_14 : decode cX1_told 14 = .ok (.ireturn, 1) := dk_172 (dk_at dksX1_told_0 14 rfl rfl)
abbrev cX1_raiseByBeaters : ByteArray := prog_1_method_61_code
def yX1_raiseByBeaters : MethodName := ⟨RX1, "raiseByBeaters", "(II)I"⟩
def dkwX1_raiseByBeaters_1 : List UInt8 := [184, 1, 34, 172]
abbrev dktX1_raiseByBeaters_1 : List UInt8 := dkwX1_raiseByBeaters_1 ++ []
def dkwX1_raiseByBeaters_0 : List UInt8 := [42, 27, 28, 182, 0, 113, 184, 0, 72, 42, 180, 0, 29, 42, 27, 182, 0, 183, 28, 182, 1, 36]
abbrev dktX1_raiseByBeaters_0 : List UInt8 := dkwX1_raiseByBeaters_0 ++ dktX1_raiseByBeaters_1
theorem dksX1_raiseByBeaters_0 : cX1_raiseByBeaters.data.toList.drop 0 = dktX1_raiseByBeaters_0 := by decide +kernel
theorem dksX1_raiseByBeaters_1 : cX1_raiseByBeaters.data.toList.drop 22 = dktX1_raiseByBeaters_1 := dk_seg dksX1_raiseByBeaters_0 22 rfl rfl
theorem dX1_raiseByBeaters_0 : decode cX1_raiseByBeaters 0 = .ok (.aload_n 0, 1) := dk_42 (dk_at dksX1_raiseByBeaters_0 0 rfl rfl)
theorem dX1_raiseByBeaters_1 : decode cX1_raiseByBeaters 1 = .ok (.iload_n 1, 1) := dk_27 (dk_at dksX1_raiseByBeaters_0 1 rfl rfl)
theorem dX1_raiseByBeaters_2 : decode cX1_raiseByBeaters 2 = .ok (.iload_n 2, 1) := dk_28 (dk_at dksX1_raiseByBeaters_0 2 rfl rfl)
theorem dX1_raiseByBeaters_3 : decode cX1_raiseByBeaters 3 = .ok (.invokevirtual 113, 3) := dk_182 0 113 (dk_at dksX1_raiseByBeaters_0 3 rfl rfl)
theorem dX1_raiseByBeaters_6 : decode cX1_raiseByBeaters 6 = .ok (.invokestatic 72, 3) := dk_184 0 72 (dk_at dksX1_raiseByBeaters_0 6 rfl rfl)
theorem dX1_raiseByBeaters_9 : decode cX1_raiseByBeaters 9 = .ok (.aload_n 0, 1) := dk_42 (dk_at dksX1_raiseByBeaters_0 9 rfl rfl)
theorem dX1_raiseByBeaters_10 : decode cX1_raiseByBeaters 10 = .ok (.getfield 29, 3) := dk_180 0 29 (dk_at dksX1_raiseByBeaters_0 10 rfl rfl)
theorem dX1_raiseByBeaters_13 : decode cX1_raiseByBeaters 13 = .ok (.aload_n 0, 1) := dk_42 (dk_at dksX1_raiseByBeaters_0 13 rfl rfl)
theorem dX1_raiseByBeaters_14 : decode cX1_raiseByBeaters 14 = .ok (.iload_n 1, 1) := dk_27 (dk_at dksX1_raiseByBeaters_0 14 rfl rfl)
theorem dX1_raiseByBeaters_15 : decode cX1_raiseByBeaters 15 = .ok (.invokevirtual 183, 3) := dk_182 0 183 (dk_at dksX1_raiseByBeaters_0 15 rfl rfl)
theorem dX1_raiseByBeaters_18 : decode cX1_raiseByBeaters 18 = .ok (.iload_n 2, 1) := dk_28 (dk_at dksX1_raiseByBeaters_0 18 rfl rfl)
theorem dX1_raiseByBeaters_19 : decode cX1_raiseByBeaters 19 = .ok (.invokevirtual 292, 3) := dk_182 1 36 (dk_at dksX1_raiseByBeaters_0 19 rfl rfl)
theorem dX1_raiseByBeaters_22 : decode cX1_raiseByBeaters 22 = .ok (.invokestatic 290, 3) := dk_184 1 34 (dk_at dksX1_raiseByBeaters_1 0 rfl rfl)
theorem dX1_raiseByBeaters_25 : decode cX1_raiseByBeaters 25 = .ok (.ireturn, 1) := dk_172 (dk_at dksX1_raiseByBeaters_1 3 rfl rfl)
abbrev cX1_coveredGreedily : ByteArray := prog_1_method_62_code
def yX1_coveredGreedily : MethodName := ⟨RX1, "coveredGreedily", "(I)I"⟩
def dkwX1_coveredGreedily_0 : List UInt8 := [27, 4, 8, 184, 0, 15, 184, 0, 87, 42, 180, 0, 29, 27, 182, 1, 39, 172]
abbrev dktX1_coveredGreedily_0 : List UInt8 := dkwX1_coveredGreedily_0 ++ []
theorem dksX1_coveredGreedily_0 : cX1_coveredGreedily.data.toList.drop 0 = dktX1_coveredGreedily_0 := by decide +kernel
theorem dX1_coveredGreedily_0 : decode cX1_coveredGreedily 0 = .ok (.iload_n 1, 1) := dk_27 (dk_at dksX1_coveredGreedily_0 0 rfl rfl)
theorem dX1_coveredGreedily_1 : decode cX1_coveredGreedily 1 = .ok (.iconst 1, 1) := dk_4 (dk_at dksX1_coveredGreedily_0 1 rfl rfl)
theorem dX1_coveredGreedily_2 : decode cX1_coveredGreedily 2 = .ok (.iconst 5, 1) := dk_8 (dk_at dksX1_coveredGreedily_0 2 rfl rfl)
theorem dX1_coveredGreedily_3 : decode cX1_coveredGreedily 3 = .ok (.invokestatic 15, 3) := dk_184 0 15 (dk_at dksX1_coveredGreedily_0 3 rfl rfl)
theorem dX1_coveredGreedily_6 : decode cX1_coveredGreedily 6 = .ok (.invokestatic 87, 3) := dk_184 0 87 (dk_at dksX1_coveredGreedily_0 6 rfl rfl)
theorem dX1_coveredGreedily_9 : decode cX1_coveredGreedily 9 = .ok (.aload_n 0, 1) := dk_42 (dk_at dksX1_coveredGreedily_0 9 rfl rfl)
theorem dX1_coveredGreedily_10 : decode cX1_coveredGreedily 10 = .ok (.getfield 29, 3) := dk_180 0 29 (dk_at dksX1_coveredGreedily_0 10 rfl rfl)
theorem dX1_coveredGreedily_13 : decode cX1_coveredGreedily 13 = .ok (.iload_n 1, 1) := dk_27 (dk_at dksX1_coveredGreedily_0 13 rfl rfl)
theorem dX1_coveredGreedily_14 : decode cX1_coveredGreedily 14 = .ok (.invokevirtual 295, 3) := dk_182 1 39 (dk_at dksX1_coveredGreedily_0 14 rfl rfl)
theorem dX1_coveredGreedily_17 : decode cX1_coveredGreedily 17 = .ok (.ireturn, 1) := dk_172 (dk_at dksX1_coveredGreedily_0 17 rfl rfl)
abbrev cX1_takenAt : ByteArray := prog_1_method_64_code
def yX1_takenAt : MethodName := ⟨RX1, "takenAt", "(I)I"⟩
def dkwX1_takenAt_1 : List UInt8 := [180, 0, 29, 44, 27, 182, 0, 246, 192, 0, 100, 182, 0, 249, 172]
abbrev dktX1_takenAt_1 : List UInt8 := dkwX1_takenAt_1 ++ []
def dkwX1_takenAt_0 : List UInt8 := [42, 180, 0, 29, 182, 1, 45, 77, 27, 3, 44, 182, 0, 171, 4, 100, 184, 0, 15, 184, 0, 72, 42]
abbrev dktX1_takenAt_0 : List UInt8 := dkwX1_takenAt_0 ++ dktX1_takenAt_1
theorem dksX1_takenAt_0 : cX1_takenAt.data.toList.drop 0 = dktX1_takenAt_0 := by decide +kernel
theorem dksX1_takenAt_1 : cX1_takenAt.data.toList.drop 23 = dktX1_takenAt_1 := dk_seg dksX1_takenAt_0 23 rfl rfl
theorem dX1_takenAt_0 : decode cX1_takenAt 0 = .ok (.aload_n 0, 1) := dk_42 (dk_at dksX1_takenAt_0 0 rfl rfl)
theorem dX1_takenAt_1 : decode cX1_takenAt 1 = .ok (.getfield 29, 3) := dk_180 0 29 (dk_at dksX1_takenAt_0 1 rfl rfl)
theorem dX1_takenAt_4 : decode cX1_takenAt 4 = .ok (.invokevirtual 301, 3) := dk_182 1 45 (dk_at dksX1_takenAt_0 4 rfl rfl)
theorem dX1_takenAt_7 : decode cX1_takenAt 7 = .ok (.astore_n 2, 1) := dk_77 (dk_at dksX1_takenAt_0 7 rfl rfl)
theorem dX1_takenAt_8 : decode cX1_takenAt 8 = .ok (.iload_n 1, 1) := dk_27 (dk_at dksX1_takenAt_0 8 rfl rfl)
theorem dX1_takenAt_9 : decode cX1_takenAt 9 = .ok (.iconst 0, 1) := dk_3 (dk_at dksX1_takenAt_0 9 rfl rfl)
theorem dX1_takenAt_10 : decode cX1_takenAt 10 = .ok (.aload_n 2, 1) := dk_44 (dk_at dksX1_takenAt_0 10 rfl rfl)
theorem dX1_takenAt_11 : decode cX1_takenAt 11 = .ok (.invokevirtual 171, 3) := dk_182 0 171 (dk_at dksX1_takenAt_0 11 rfl rfl)
theorem dX1_takenAt_14 : decode cX1_takenAt 14 = .ok (.iconst 1, 1) := dk_4 (dk_at dksX1_takenAt_0 14 rfl rfl)
theorem dX1_takenAt_15 : decode cX1_takenAt 15 = .ok (.isub, 1) := dk_100 (dk_at dksX1_takenAt_0 15 rfl rfl)
theorem dX1_takenAt_16 : decode cX1_takenAt 16 = .ok (.invokestatic 15, 3) := dk_184 0 15 (dk_at dksX1_takenAt_0 16 rfl rfl)
theorem dX1_takenAt_19 : decode cX1_takenAt 19 = .ok (.invokestatic 72, 3) := dk_184 0 72 (dk_at dksX1_takenAt_0 19 rfl rfl)
theorem dX1_takenAt_22 : decode cX1_takenAt 22 = .ok (.aload_n 0, 1) := dk_42 (dk_at dksX1_takenAt_0 22 rfl rfl)
theorem dX1_takenAt_23 : decode cX1_takenAt 23 = .ok (.getfield 29, 3) := dk_180 0 29 (dk_at dksX1_takenAt_1 0 rfl rfl)
theorem dX1_takenAt_26 : decode cX1_takenAt 26 = .ok (.aload_n 2, 1) := dk_44 (dk_at dksX1_takenAt_1 3 rfl rfl)
theorem dX1_takenAt_27 : decode cX1_takenAt 27 = .ok (.iload_n 1, 1) := dk_27 (dk_at dksX1_takenAt_1 4 rfl rfl)
theorem dX1_takenAt_28 : decode cX1_takenAt 28 = .ok (.invokevirtual 246, 3) := dk_182 0 246 (dk_at dksX1_takenAt_1 5 rfl rfl)
theorem dX1_takenAt_31 : decode cX1_takenAt 31 = .ok (.checkcast 100, 3) := dk_192 0 100 (dk_at dksX1_takenAt_1 8 rfl rfl)
theorem dX1_takenAt_34 : decode cX1_takenAt 34 = .ok (.invokevirtual 249, 3) := dk_182 0 249 (dk_at dksX1_takenAt_1 11 rfl rfl)
theorem dX1_takenAt_37 : decode cX1_takenAt 37 = .ok (.ireturn, 1) := dk_172 (dk_at dksX1_takenAt_1 14 rfl rfl)
abbrev cX1_scoreOf : ByteArray := prog_1_method_65_code
def yX1_scoreOf : MethodName := ⟨RX1, "scoreOf", "(I)I"⟩
def dkwX1_scoreOf_0 : List UInt8 := [42, 180, 0, 29, 180, 0, 131, 42, 27, 182, 0, 183, 182, 1, 48, 172]
abbrev dktX1_scoreOf_0 : List UInt8 := dkwX1_scoreOf_0 ++ []
theorem dksX1_scoreOf_0 : cX1_scoreOf.data.toList.drop 0 = dktX1_scoreOf_0 := by decide +kernel
theorem dX1_scoreOf_0 : decode cX1_scoreOf 0 = .ok (.aload_n 0, 1) := dk_42 (dk_at dksX1_scoreOf_0 0 rfl rfl)
theorem dX1_scoreOf_1 : decode cX1_scoreOf 1 = .ok (.getfield 29, 3) := dk_180 0 29 (dk_at dksX1_scoreOf_0 1 rfl rfl)
theorem dX1_scoreOf_4 : decode cX1_scoreOf 4 = .ok (.getfield 131, 3) := dk_180 0 131 (dk_at dksX1_scoreOf_0 4 rfl rfl)
theorem dX1_scoreOf_7 : decode cX1_scoreOf 7 = .ok (.aload_n 0, 1) := dk_42 (dk_at dksX1_scoreOf_0 7 rfl rfl)
theorem dX1_scoreOf_8 : decode cX1_scoreOf 8 = .ok (.iload_n 1, 1) := dk_27 (dk_at dksX1_scoreOf_0 8 rfl rfl)
theorem dX1_scoreOf_9 : decode cX1_scoreOf 9 = .ok (.invokevirtual 183, 3) := dk_182 0 183 (dk_at dksX1_scoreOf_0 9 rfl rfl)
theorem dX1_scoreOf_12 : decode cX1_scoreOf 12 = .ok (.invokevirtual 304, 3) := dk_182 1 48 (dk_at dksX1_scoreOf_0 12 rfl rfl)
theorem dX1_scoreOf_15 : decode cX1_scoreOf 15 = .ok (.ireturn, 1) := dk_172 (dk_at dksX1_scoreOf_0 15 rfl rfl)
abbrev cX1_byScore : ByteArray := prog_1_method_66_code
def yX1_byScore : MethodName := ⟨RX1, "byScore", "(I)I"⟩
def dkwX1_byScore_1 : List UInt8 := [180, 0, 29, 44, 27, 182, 0, 246, 192, 0, 100, 182, 0, 249, 172]
abbrev dktX1_byScore_1 : List UInt8 := dkwX1_byScore_1 ++ []
def dkwX1_byScore_0 : List UInt8 := [42, 180, 0, 29, 182, 1, 51, 77, 27, 3, 44, 182, 0, 171, 4, 100, 184, 0, 15, 184, 0, 72, 42]
abbrev dktX1_byScore_0 : List UInt8 := dkwX1_byScore_0 ++ dktX1_byScore_1
theorem dksX1_byScore_0 : cX1_byScore.data.toList.drop 0 = dktX1_byScore_0 := by decide +kernel
theorem dksX1_byScore_1 : cX1_byScore.data.toList.drop 23 = dktX1_byScore_1 := dk_seg dksX1_byScore_0 23 rfl rfl
theorem dX1_byScore_0 : decode cX1_byScore 0 = .ok (.aload_n 0, 1) := dk_42 (dk_at dksX1_byScore_0 0 rfl rfl)
theorem dX1_byScore_1 : decode cX1_byScore 1 = .ok (.getfield 29, 3) := dk_180 0 29 (dk_at dksX1_byScore_0 1 rfl rfl)
theorem dX1_byScore_4 : decode cX1_byScore 4 = .ok (.invokevirtual 307, 3) := dk_182 1 51 (dk_at dksX1_byScore_0 4 rfl rfl)
theorem dX1_byScore_7 : decode cX1_byScore 7 = .ok (.astore_n 2, 1) := dk_77 (dk_at dksX1_byScore_0 7 rfl rfl)
theorem dX1_byScore_8 : decode cX1_byScore 8 = .ok (.iload_n 1, 1) := dk_27 (dk_at dksX1_byScore_0 8 rfl rfl)
theorem dX1_byScore_9 : decode cX1_byScore 9 = .ok (.iconst 0, 1) := dk_3 (dk_at dksX1_byScore_0 9 rfl rfl)
theorem dX1_byScore_10 : decode cX1_byScore 10 = .ok (.aload_n 2, 1) := dk_44 (dk_at dksX1_byScore_0 10 rfl rfl)
theorem dX1_byScore_11 : decode cX1_byScore 11 = .ok (.invokevirtual 171, 3) := dk_182 0 171 (dk_at dksX1_byScore_0 11 rfl rfl)
theorem dX1_byScore_14 : decode cX1_byScore 14 = .ok (.iconst 1, 1) := dk_4 (dk_at dksX1_byScore_0 14 rfl rfl)
theorem dX1_byScore_15 : decode cX1_byScore 15 = .ok (.isub, 1) := dk_100 (dk_at dksX1_byScore_0 15 rfl rfl)
theorem dX1_byScore_16 : decode cX1_byScore 16 = .ok (.invokestatic 15, 3) := dk_184 0 15 (dk_at dksX1_byScore_0 16 rfl rfl)
theorem dX1_byScore_19 : decode cX1_byScore 19 = .ok (.invokestatic 72, 3) := dk_184 0 72 (dk_at dksX1_byScore_0 19 rfl rfl)
theorem dX1_byScore_22 : decode cX1_byScore 22 = .ok (.aload_n 0, 1) := dk_42 (dk_at dksX1_byScore_0 22 rfl rfl)
theorem dX1_byScore_23 : decode cX1_byScore 23 = .ok (.getfield 29, 3) := dk_180 0 29 (dk_at dksX1_byScore_1 0 rfl rfl)
theorem dX1_byScore_26 : decode cX1_byScore 26 = .ok (.aload_n 2, 1) := dk_44 (dk_at dksX1_byScore_1 3 rfl rfl)
theorem dX1_byScore_27 : decode cX1_byScore 27 = .ok (.iload_n 1, 1) := dk_27 (dk_at dksX1_byScore_1 4 rfl rfl)
theorem dX1_byScore_28 : decode cX1_byScore 28 = .ok (.invokevirtual 246, 3) := dk_182 0 246 (dk_at dksX1_byScore_1 5 rfl rfl)
theorem dX1_byScore_31 : decode cX1_byScore 31 = .ok (.checkcast 100, 3) := dk_192 0 100 (dk_at dksX1_byScore_1 8 rfl rfl)
theorem dX1_byScore_34 : decode cX1_byScore 34 = .ok (.invokevirtual 249, 3) := dk_182 0 249 (dk_at dksX1_byScore_1 11 rfl rfl)
theorem dX1_byScore_37 : decode cX1_byScore 37 = .ok (.ireturn, 1) := dk_172 (dk_at dksX1_byScore_1 14 rfl rfl)
abbrev cX1_reachByPairs : ByteArray := prog_1_method_68_code
def yX1_reachByPairs : MethodName := ⟨RX1, "reachByPairs", "(II)I"⟩
def dkwX1_reachByPairs_1 : List UInt8 := [27, 28, 182, 1, 60, 172]
abbrev dktX1_reachByPairs_1 : List UInt8 := dkwX1_reachByPairs_1 ++ []
def dkwX1_reachByPairs_0 : List UInt8 := [27, 28, 184, 1, 54, 184, 0, 72, 42, 180, 0, 29, 27, 28, 182, 1, 57, 184, 0, 87, 42, 180, 0, 29]
abbrev dktX1_reachByPairs_0 : List UInt8 := dkwX1_reachByPairs_0 ++ dktX1_reachByPairs_1
theorem dksX1_reachByPairs_0 : cX1_reachByPairs.data.toList.drop 0 = dktX1_reachByPairs_0 := by decide +kernel
theorem dksX1_reachByPairs_1 : cX1_reachByPairs.data.toList.drop 24 = dktX1_reachByPairs_1 := dk_seg dksX1_reachByPairs_0 24 rfl rfl
theorem dX1_reachByPairs_0 : decode cX1_reachByPairs 0 = .ok (.iload_n 1, 1) := dk_27 (dk_at dksX1_reachByPairs_0 0 rfl rfl)
theorem dX1_reachByPairs_1 : decode cX1_reachByPairs 1 = .ok (.iload_n 2, 1) := dk_28 (dk_at dksX1_reachByPairs_0 1 rfl rfl)
theorem dX1_reachByPairs_2 : decode cX1_reachByPairs 2 = .ok (.invokestatic 310, 3) := dk_184 1 54 (dk_at dksX1_reachByPairs_0 2 rfl rfl)
theorem dX1_reachByPairs_5 : decode cX1_reachByPairs 5 = .ok (.invokestatic 72, 3) := dk_184 0 72 (dk_at dksX1_reachByPairs_0 5 rfl rfl)
theorem dX1_reachByPairs_8 : decode cX1_reachByPairs 8 = .ok (.aload_n 0, 1) := dk_42 (dk_at dksX1_reachByPairs_0 8 rfl rfl)
theorem dX1_reachByPairs_9 : decode cX1_reachByPairs 9 = .ok (.getfield 29, 3) := dk_180 0 29 (dk_at dksX1_reachByPairs_0 9 rfl rfl)
theorem dX1_reachByPairs_12 : decode cX1_reachByPairs 12 = .ok (.iload_n 1, 1) := dk_27 (dk_at dksX1_reachByPairs_0 12 rfl rfl)
theorem dX1_reachByPairs_13 : decode cX1_reachByPairs 13 = .ok (.iload_n 2, 1) := dk_28 (dk_at dksX1_reachByPairs_0 13 rfl rfl)
theorem dX1_reachByPairs_14 : decode cX1_reachByPairs 14 = .ok (.invokevirtual 313, 3) := dk_182 1 57 (dk_at dksX1_reachByPairs_0 14 rfl rfl)
theorem dX1_reachByPairs_17 : decode cX1_reachByPairs 17 = .ok (.invokestatic 87, 3) := dk_184 0 87 (dk_at dksX1_reachByPairs_0 17 rfl rfl)
theorem dX1_reachByPairs_20 : decode cX1_reachByPairs 20 = .ok (.aload_n 0, 1) := dk_42 (dk_at dksX1_reachByPairs_0 20 rfl rfl)
theorem dX1_reachByPairs_21 : decode cX1_reachByPairs 21 = .ok (.getfield 29, 3) := dk_180 0 29 (dk_at dksX1_reachByPairs_0 21 rfl rfl)
theorem dX1_reachByPairs_24 : decode cX1_reachByPairs 24 = .ok (.iload_n 1, 1) := dk_27 (dk_at dksX1_reachByPairs_1 0 rfl rfl)
theorem dX1_reachByPairs_25 : decode cX1_reachByPairs 25 = .ok (.iload_n 2, 1) := dk_28 (dk_at dksX1_reachByPairs_1 1 rfl rfl)
theorem dX1_reachByPairs_26 : decode cX1_reachByPairs 26 = .ok (.invokevirtual 316, 3) := dk_182 1 60 (dk_at dksX1_reachByPairs_1 2 rfl rfl)
theorem dX1_reachByPairs_29 : decode cX1_reachByPairs 29 = .ok (.ireturn, 1) := dk_172 (dk_at dksX1_reachByPairs_1 5 rfl rfl)
abbrev cX1_areSides : ByteArray := prog_1_method_67_code
def yX1_areSides : MethodName := ⟨RX1, "areSides", "(II)Z"⟩
def dkwX1_areSides_0 : List UInt8 := [26, 184, 0, 80, 153, 0, 14, 27, 184, 0, 80, 153, 0, 7, 4, 167, 0, 4, 3, 172]
abbrev dktX1_areSides_0 : List UInt8 := dkwX1_areSides_0 ++ []
theorem dksX1_areSides_0 : cX1_areSides.data.toList.drop 0 = dktX1_areSides_0 := by decide +kernel
theorem dX1_areSides_0 : decode cX1_areSides 0 = .ok (.iload_n 0, 1) := dk_26 (dk_at dksX1_areSides_0 0 rfl rfl)
theorem dX1_areSides_1 : decode cX1_areSides 1 = .ok (.invokestatic 80, 3) := dk_184 0 80 (dk_at dksX1_areSides_0 1 rfl rfl)
theorem dX1_areSides_4 : decode cX1_areSides 4 = .ok (.ifCond .eq 14, 3) := dk_153 0 14 (dk_at dksX1_areSides_0 4 rfl rfl)
theorem dX1_areSides_7 : decode cX1_areSides 7 = .ok (.iload_n 1, 1) := dk_27 (dk_at dksX1_areSides_0 7 rfl rfl)
theorem dX1_areSides_8 : decode cX1_areSides 8 = .ok (.invokestatic 80, 3) := dk_184 0 80 (dk_at dksX1_areSides_0 8 rfl rfl)
theorem dX1_areSides_11 : decode cX1_areSides 11 = .ok (.ifCond .eq 7, 3) := dk_153 0 7 (dk_at dksX1_areSides_0 11 rfl rfl)
theorem dX1_areSides_14 : decode cX1_areSides 14 = .ok (.iconst 1, 1) := dk_4 (dk_at dksX1_areSides_0 14 rfl rfl)
theorem dX1_areSides_15 : decode cX1_areSides 15 = .ok (.goto 4, 3) := dk_167 0 4 (dk_at dksX1_areSides_0 15 rfl rfl)
theorem dX1_areSides_18 : decode cX1_areSides 18 = .ok (.iconst 0, 1) := dk_3 (dk_at dksX1_areSides_0 18 rfl rfl)
theorem dX1_areSides_19 : decode cX1_areSides 19 = .ok (.ireturn, 1) := dk_172 (dk_at dksX1_areSides_0 19 rfl rfl)
abbrev cX1_reachBySteps : ByteArray := prog_1_method_69_code
def yX1_reachBySteps : MethodName := ⟨RX1, "reachBySteps", "(II)I"⟩
def dkwX1_reachBySteps_1 : List UInt8 := [27, 28, 182, 1, 63, 172]
abbrev dktX1_reachBySteps_1 : List UInt8 := dkwX1_reachBySteps_1 ++ []
def dkwX1_reachBySteps_0 : List UInt8 := [27, 28, 184, 1, 54, 184, 0, 72, 42, 180, 0, 29, 27, 28, 182, 1, 57, 184, 0, 87, 42, 180, 0, 29]
abbrev dktX1_reachBySteps_0 : List UInt8 := dkwX1_reachBySteps_0 ++ dktX1_reachBySteps_1
theorem dksX1_reachBySteps_0 : cX1_reachBySteps.data.toList.drop 0 = dktX1_reachBySteps_0 := by decide +kernel
theorem dksX1_reachBySteps_1 : cX1_reachBySteps.data.toList.drop 24 = dktX1_reachBySteps_1 := dk_seg dksX1_reachBySteps_0 24 rfl rfl
theorem dX1_reachBySteps_0 : decode cX1_reachBySteps 0 = .ok (.iload_n 1, 1) := dk_27 (dk_at dksX1_reachBySteps_0 0 rfl rfl)
theorem dX1_reachBySteps_1 : decode cX1_reachBySteps 1 = .ok (.iload_n 2, 1) := dk_28 (dk_at dksX1_reachBySteps_0 1 rfl rfl)
theorem dX1_reachBySteps_2 : decode cX1_reachBySteps 2 = .ok (.invokestatic 310, 3) := dk_184 1 54 (dk_at dksX1_reachBySteps_0 2 rfl rfl)
theorem dX1_reachBySteps_5 : decode cX1_reachBySteps 5 = .ok (.invokestatic 72, 3) := dk_184 0 72 (dk_at dksX1_reachBySteps_0 5 rfl rfl)
theorem dX1_reachBySteps_8 : decode cX1_reachBySteps 8 = .ok (.aload_n 0, 1) := dk_42 (dk_at dksX1_reachBySteps_0 8 rfl rfl)
theorem dX1_reachBySteps_9 : decode cX1_reachBySteps 9 = .ok (.getfield 29, 3) := dk_180 0 29 (dk_at dksX1_reachBySteps_0 9 rfl rfl)
theorem dX1_reachBySteps_12 : decode cX1_reachBySteps 12 = .ok (.iload_n 1, 1) := dk_27 (dk_at dksX1_reachBySteps_0 12 rfl rfl)
theorem dX1_reachBySteps_13 : decode cX1_reachBySteps 13 = .ok (.iload_n 2, 1) := dk_28 (dk_at dksX1_reachBySteps_0 13 rfl rfl)
theorem dX1_reachBySteps_14 : decode cX1_reachBySteps 14 = .ok (.invokevirtual 313, 3) := dk_182 1 57 (dk_at dksX1_reachBySteps_0 14 rfl rfl)
theorem dX1_reachBySteps_17 : decode cX1_reachBySteps 17 = .ok (.invokestatic 87, 3) := dk_184 0 87 (dk_at dksX1_reachBySteps_0 17 rfl rfl)
theorem dX1_reachBySteps_20 : decode cX1_reachBySteps 20 = .ok (.aload_n 0, 1) := dk_42 (dk_at dksX1_reachBySteps_0 20 rfl rfl)
theorem dX1_reachBySteps_21 : decode cX1_reachBySteps 21 = .ok (.getfield 29, 3) := dk_180 0 29 (dk_at dksX1_reachBySteps_0 21 rfl rfl)
theorem dX1_reachBySteps_24 : decode cX1_reachBySteps 24 = .ok (.iload_n 1, 1) := dk_27 (dk_at dksX1_reachBySteps_1 0 rfl rfl)
theorem dX1_reachBySteps_25 : decode cX1_reachBySteps 25 = .ok (.iload_n 2, 1) := dk_28 (dk_at dksX1_reachBySteps_1 1 rfl rfl)
theorem dX1_reachBySteps_26 : decode cX1_reachBySteps 26 = .ok (.invokevirtual 319, 3) := dk_182 1 63 (dk_at dksX1_reachBySteps_1 2 rfl rfl)
theorem dX1_reachBySteps_29 : decode cX1_reachBySteps 29 = .ok (.ireturn, 1) := dk_172 (dk_at dksX1_reachBySteps_1 5 rfl rfl)
theorem q99 : (Jvm.Cond.initialized "OfferSky") ∈ lw_all := lw_g (lw_at lw_m1 1 rfl) rfl
theorem q133 : (Jvm.Cond.instantiable "OfferSky" (5 : Nat)) ∈ lw_all := lw_g (lw_at lw_m1 35 rfl) rfl
theorem q135 : (Jvm.Cond.instanceMethod ({ cls := "OfferSky", name := "<init>", desc := "()V" } : Jvm.MethodName)) ∈ lw_all := lw_g (lw_at lw_m1 37 rfl) rfl
theorem q136 : (Jvm.Cond.code ({ cls := "OfferSky", name := "<init>", desc := "()V" } : Jvm.MethodName) prog_1_method_10_code (1 : Nat) (Option.none : Option Jvm.ClassFile.FieldType)) ∈ lw_all := lw_g (lw_at lw_m1 38 rfl) rfl
theorem q137 : (Jvm.Cond.methodLink "OfferSky" (23 : Nat) ({ cls := "java/lang/Object", name := "<init>", desc := "()V" } : Jvm.MethodName)) ∈ lw_all := lw_g (lw_at lw_m1 39 rfl) rfl
theorem q140 : (Jvm.Cond.classLink "OfferSky" (26 : Nat) "OfferSky$State") ∈ lw_all := lw_g (lw_at lw_m1 42 rfl) rfl
theorem q142 : (Jvm.Cond.methodLinkNest "OfferSky" (28 : Nat) ({ cls := "OfferSky$State", name := "<init>", desc := "()V" } : Jvm.MethodName) "OfferSky") ∈ lw_tbl := lw_at lw_m1 44 rfl
theorem q191 : (Jvm.Cond.fieldLinkNest "OfferSky" (188 : Nat) "OfferSky$Sides" "wishes" "[I" "OfferSky") ∈ lw_tbl := lw_at lw_m1 93 rfl
theorem q194 : (Jvm.Cond.fieldLinkNest "OfferSky" (190 : Nat) "OfferSky$Sides" "leasts" "[I" "OfferSky") ∈ lw_tbl := lw_at lw_m1 96 rfl
theorem q197 : (Jvm.Cond.fieldLinkNest "OfferSky" (193 : Nat) "OfferSky$Sides" "mosts" "[I" "OfferSky") ∈ lw_tbl := lw_at lw_m1 99 rfl
theorem q199 : (Jvm.Cond.fieldLinkNest "OfferSky" (135 : Nat) "OfferSky$Sides" "weights" "[I" "OfferSky") ∈ lw_tbl := lw_at lw_m1 101 rfl
theorem q211 : (Jvm.Cond.fieldLinkNest "OfferSky" (167 : Nat) "OfferSky$State" "list" "LOfferSky$Bag;" "OfferSky") ∈ lw_tbl := lw_at lw_m1 113 rfl
theorem q213 : (Jvm.Cond.fieldLinkNest "OfferSky" (131 : Nat) "OfferSky$State" "sides" "LOfferSky$Sides;" "OfferSky") ∈ lw_tbl := lw_at lw_m1 115 rfl
theorem q215 : (Jvm.Cond.fieldLinkNest "OfferSky" (322 : Nat) "OfferSky$State" "put" "I" "OfferSky") ∈ lw_tbl := lw_at lw_m1 117 rfl
theorem q217 : (Jvm.Cond.fieldLinkNest "OfferSky" (325 : Nat) "OfferSky$State" "gone" "I" "OfferSky") ∈ lw_tbl := lw_at lw_m1 119 rfl
theorem q227 : (Jvm.Cond.classLink "OfferSky" (33 : Nat) "java/util/ArrayDeque") ∈ lw_all := lw_g (lw_at lw_m1 129 rfl) rfl
theorem q229 : (Jvm.Cond.methodLink "OfferSky" (35 : Nat) ({ cls := "java/util/ArrayDeque", name := "<init>", desc := "(I)V" } : Jvm.MethodName)) ∈ lw_all := lw_g (lw_at lw_m1 131 rfl) rfl
theorem q247 : (Jvm.Cond.classLink "OfferSky" (46 : Nat) "java/lang/StringBuilder") ∈ lw_all := lw_g (lw_at lw_m1 149 rfl) rfl
theorem q249 : (Jvm.Cond.methodLink "OfferSky" (48 : Nat) ({ cls := "java/lang/StringBuilder", name := "<init>", desc := "(I)V" } : Jvm.MethodName)) ∈ lw_all := lw_g (lw_at lw_m1 151 rfl) rfl
theorem q280 : (Jvm.Cond.fieldLink "OfferSky" (29 : Nat) "OfferSky" "state" "LOfferSky$State;") ∈ lw_all := lw_g (lw_at lw_m1 182 rfl) rfl
theorem q281 : (Jvm.Cond.fieldLink "OfferSky" (38 : Nat) "OfferSky" "saved" "Ljava/util/ArrayDeque;") ∈ lw_all := lw_g (lw_at lw_m1 183 rfl) rfl
theorem q282 : (Jvm.Cond.fieldLink "OfferSky" (42 : Nat) "OfferSky" "slots" "[LOfferSky$State;") ∈ lw_all := lw_g (lw_at lw_m1 184 rfl) rfl
theorem q284 : (Jvm.Cond.fieldLink "OfferSky" (49 : Nat) "OfferSky" "buffer" "Ljava/lang/StringBuilder;") ∈ lw_all := lw_g (lw_at lw_m1 186 rfl) rfl
theorem q285 : (Jvm.Cond.fieldLink "OfferSky" (337 : Nat) "OfferSky" "hash" "J") ∈ lw_all := lw_g (lw_at lw_m1 187 rfl) rfl
theorem q286 : (Jvm.Cond.lays "OfferSky" "OfferSky" "state" "LOfferSky$State;") ∈ lw_all := lw_g (lw_at lw_m1 188 rfl) rfl
theorem q287 : (Jvm.Cond.soleField "OfferSky" "state") ∈ lw_all := lw_g (lw_at lw_m1 189 rfl) rfl
theorem q288 : (Jvm.Cond.laysFinal "OfferSky" "OfferSky" "saved" "Ljava/util/ArrayDeque;") ∈ lw_all := lw_g (lw_at lw_m1 190 rfl) rfl
theorem q289 : (Jvm.Cond.soleField "OfferSky" "saved") ∈ lw_all := lw_g (lw_at lw_m1 191 rfl) rfl
theorem q290 : (Jvm.Cond.laysFinal "OfferSky" "OfferSky" "slots" "[LOfferSky$State;") ∈ lw_all := lw_g (lw_at lw_m1 192 rfl) rfl
theorem q291 : (Jvm.Cond.soleField "OfferSky" "slots") ∈ lw_all := lw_g (lw_at lw_m1 193 rfl) rfl
theorem q292 : (Jvm.Cond.laysFinal "OfferSky" "OfferSky" "buffer" "Ljava/lang/StringBuilder;") ∈ lw_all := lw_g (lw_at lw_m1 194 rfl) rfl
theorem q293 : (Jvm.Cond.soleField "OfferSky" "buffer") ∈ lw_all := lw_g (lw_at lw_m1 195 rfl) rfl
theorem q294 : (Jvm.Cond.lays "OfferSky" "OfferSky" "hash" "J") ∈ lw_all := lw_g (lw_at lw_m1 196 rfl) rfl
theorem q295 : (Jvm.Cond.soleField "OfferSky" "hash") ∈ lw_all := lw_g (lw_at lw_m1 197 rfl) rfl
theorem q296 : (Jvm.Cond.superclass "OfferSky" "java/lang/Object") ∈ lw_all := lw_g (lw_at lw_m1 198 rfl) rfl
theorem q298 : (Jvm.Cond.instanceMethod ({ cls := "OfferSky", name := "prune", desc := "()I" } : Jvm.MethodName)) ∈ lw_all := lw_g (lw_at lw_m1 200 rfl) rfl
theorem q299 : (Jvm.Cond.selects "OfferSky" ({ cls := "OfferSky", name := "prune", desc := "()I" } : Jvm.MethodName) ({ cls := "OfferSky", name := "prune", desc := "()I" } : Jvm.MethodName)) ∈ lw_all := lw_g (lw_at lw_m1 201 rfl) rfl
theorem q300 : (Jvm.Cond.code ({ cls := "OfferSky", name := "prune", desc := "()I" } : Jvm.MethodName) prog_1_method_17_code (1 : Nat) (Option.some Jvm.ClassFile.FieldType.int)) ∈ lw_all := lw_g (lw_at lw_m1 202 rfl) rfl
theorem q301 : (Jvm.Cond.methodLink "OfferSky" (97 : Nat) ({ cls := "OfferSky", name := "save", desc := "()V" } : Jvm.MethodName)) ∈ lw_all := lw_g (lw_at lw_m1 203 rfl) rfl
theorem q302 : (Jvm.Cond.privateMethod ({ cls := "OfferSky", name := "save", desc := "()V" } : Jvm.MethodName)) ∈ lw_tbl := lw_at lw_m1 204 rfl
theorem q303 : (Jvm.Cond.instanceMethod ({ cls := "OfferSky", name := "save", desc := "()V" } : Jvm.MethodName)) ∈ lw_all := lw_g (lw_at lw_m1 205 rfl) rfl
theorem q304 : (Jvm.Cond.code ({ cls := "OfferSky", name := "save", desc := "()V" } : Jvm.MethodName) prog_1_method_11_code (1 : Nat) (Option.none : Option Jvm.ClassFile.FieldType)) ∈ lw_all := lw_g (lw_at lw_m1 206 rfl) rfl
theorem q305 : (Jvm.Cond.methodLink "OfferSky" (53 : Nat) ({ cls := "java/util/ArrayDeque", name := "size", desc := "()I" } : Jvm.MethodName)) ∈ lw_all := lw_g (lw_at lw_m1 207 rfl) rfl
theorem q312 : (Jvm.Cond.methodLink "OfferSky" (57 : Nat) ({ cls := "java/util/ArrayDeque", name := "removeLast", desc := "()Ljava/lang/Object;" } : Jvm.MethodName)) ∈ lw_all := lw_g (lw_at lw_m1 214 rfl) rfl
theorem q326 : (Jvm.Cond.methodLink "OfferSky" (61 : Nat) ({ cls := "OfferSky$State", name := "twin", desc := "()LOfferSky$State;" } : Jvm.MethodName)) ∈ lw_all := lw_g (lw_at lw_m1 228 rfl) rfl
theorem q392 : (Jvm.Cond.selects "OfferSky" ({ cls := "java/lang/Object", name := "getClass", desc := "()Ljava/lang/Class;" } : Jvm.MethodName) ({ cls := "java/lang/Object", name := "getClass", desc := "()Ljava/lang/Class;" } : Jvm.MethodName)) ∈ lw_all := lw_g (lw_at lw_m2 54 rfl) rfl
theorem q435 : (Jvm.Cond.methodLink "OfferSky" (65 : Nat) ({ cls := "java/util/ArrayDeque", name := "push", desc := "(Ljava/lang/Object;)V" } : Jvm.MethodName)) ∈ lw_all := lw_g (lw_at lw_m2 97 rfl) rfl
theorem q523 : (Jvm.Cond.methodLink "OfferSky" (121 : Nat) ({ cls := "OfferSky$State", name := "prunes", desc := "()I" } : Jvm.MethodName)) ∈ lw_all := lw_g (lw_at lw_m2 185 rfl) rfl
theorem q543 : (Jvm.Cond.static ({ cls := "OfferSky", name := "inRange", desc := "(III)Z" } : Jvm.MethodName)) ∈ lw_all := lw_g (lw_at lw_m2 205 rfl) rfl
theorem q544 : (Jvm.Cond.code ({ cls := "OfferSky", name := "inRange", desc := "(III)Z" } : Jvm.MethodName) prog_1_method_1_code (3 : Nat) (Option.some Jvm.ClassFile.FieldType.boolean)) ∈ lw_all := lw_g (lw_at lw_m2 206 rfl) rfl
theorem q582 : (Jvm.Cond.static ({ cls := "OfferSky", name := "has", desc := "(II)Z" } : Jvm.MethodName)) ∈ lw_all := lw_g (lw_at lw_m3 4 rfl) rfl
theorem q583 : (Jvm.Cond.code ({ cls := "OfferSky", name := "has", desc := "(II)Z" } : Jvm.MethodName) prog_1_method_9_code (2 : Nat) (Option.some Jvm.ClassFile.FieldType.boolean)) ∈ lw_all := lw_g (lw_at lw_m3 5 rfl) rfl
theorem q593 : (Jvm.Cond.static ({ cls := "OfferSky", name := "flag", desc := "(Z)I" } : Jvm.MethodName)) ∈ lw_all := lw_g (lw_at lw_m3 15 rfl) rfl
theorem q594 : (Jvm.Cond.code ({ cls := "OfferSky", name := "flag", desc := "(Z)I" } : Jvm.MethodName) prog_1_method_5_code (1 : Nat) (Option.some Jvm.ClassFile.FieldType.int)) ∈ lw_all := lw_g (lw_at lw_m3 16 rfl) rfl
theorem q618 : (Jvm.Cond.instanceMethod ({ cls := "OfferSky", name := "clearBuffer", desc := "()I" } : Jvm.MethodName)) ∈ lw_all := lw_g (lw_at lw_m3 40 rfl) rfl
theorem q619 : (Jvm.Cond.selects "OfferSky" ({ cls := "OfferSky", name := "clearBuffer", desc := "()I" } : Jvm.MethodName) ({ cls := "OfferSky", name := "clearBuffer", desc := "()I" } : Jvm.MethodName)) ∈ lw_all := lw_g (lw_at lw_m3 41 rfl) rfl
theorem q620 : (Jvm.Cond.code ({ cls := "OfferSky", name := "clearBuffer", desc := "()I" } : Jvm.MethodName) prog_1_method_22_code (2 : Nat) (Option.some Jvm.ClassFile.FieldType.int)) ∈ lw_all := lw_g (lw_at lw_m3 42 rfl) rfl
theorem q621 : (Jvm.Cond.methodLink "OfferSky" (141 : Nat) ({ cls := "java/lang/StringBuilder", name := "length", desc := "()I" } : Jvm.MethodName)) ∈ lw_all := lw_g (lw_at lw_m3 43 rfl) rfl
theorem q628 : (Jvm.Cond.methodLink "OfferSky" (148 : Nat) ({ cls := "java/lang/StringBuilder", name := "setLength", desc := "(I)V" } : Jvm.MethodName)) ∈ lw_all := lw_g (lw_at lw_m3 50 rfl) rfl
theorem q898 : (Jvm.Cond.instanceMethod ({ cls := "OfferSky", name := "firstError", desc := "()I" } : Jvm.MethodName)) ∈ lw_all := lw_g (lw_at lw_m4 80 rfl) rfl
theorem q899 : (Jvm.Cond.selects "OfferSky" ({ cls := "OfferSky", name := "firstError", desc := "()I" } : Jvm.MethodName) ({ cls := "OfferSky", name := "firstError", desc := "()I" } : Jvm.MethodName)) ∈ lw_all := lw_g (lw_at lw_m4 81 rfl) rfl
theorem q900 : (Jvm.Cond.code ({ cls := "OfferSky", name := "firstError", desc := "()I" } : Jvm.MethodName) prog_1_method_23_code (3 : Nat) (Option.some Jvm.ClassFile.FieldType.int)) ∈ lw_all := lw_g (lw_at lw_m4 82 rfl) rfl
theorem q901 : (Jvm.Cond.classLink "OfferSky" (151 : Nat) "OfferSky$Reader") ∈ lw_all := lw_g (lw_at lw_m4 83 rfl) rfl
theorem q903 : (Jvm.Cond.methodLinkNest "OfferSky" (153 : Nat) ({ cls := "OfferSky$Reader", name := "<init>", desc := "(LOfferSky;)V" } : Jvm.MethodName) "OfferSky") ∈ lw_tbl := lw_at lw_m4 85 rfl
theorem q908 : (Jvm.Cond.fieldLinkNest "OfferSky" (159 : Nat) "OfferSky$Reader" "at" "I" "OfferSky") ∈ lw_tbl := lw_at lw_m4 90 rfl
theorem q924 : (Jvm.Cond.methodLink "OfferSky" (156 : Nat) ({ cls := "OfferSky$Reader", name := "isWhole", desc := "()Z" } : Jvm.MethodName)) ∈ lw_all := lw_g (lw_at lw_m4 106 rfl) rfl
theorem q986 : (Jvm.Cond.instanceMethod ({ cls := "OfferSky", name := "savedStates", desc := "()I" } : Jvm.MethodName)) ∈ lw_all := lw_g (lw_at lw_m4 168 rfl) rfl
theorem q987 : (Jvm.Cond.selects "OfferSky" ({ cls := "OfferSky", name := "savedStates", desc := "()I" } : Jvm.MethodName) ({ cls := "OfferSky", name := "savedStates", desc := "()I" } : Jvm.MethodName)) ∈ lw_all := lw_g (lw_at lw_m4 169 rfl) rfl
theorem q988 : (Jvm.Cond.code ({ cls := "OfferSky", name := "savedStates", desc := "()I" } : Jvm.MethodName) prog_1_method_29_code (1 : Nat) (Option.some Jvm.ClassFile.FieldType.int)) ∈ lw_all := lw_g (lw_at lw_m4 170 rfl) rfl
theorem q990 : (Jvm.Cond.instanceMethod ({ cls := "OfferSky", name := "offers", desc := "()I" } : Jvm.MethodName)) ∈ lw_all := lw_g (lw_at lw_m4 172 rfl) rfl
theorem q991 : (Jvm.Cond.selects "OfferSky" ({ cls := "OfferSky", name := "offers", desc := "()I" } : Jvm.MethodName) ({ cls := "OfferSky", name := "offers", desc := "()I" } : Jvm.MethodName)) ∈ lw_all := lw_g (lw_at lw_m4 173 rfl) rfl
theorem q992 : (Jvm.Cond.code ({ cls := "OfferSky", name := "offers", desc := "()I" } : Jvm.MethodName) prog_1_method_30_code (1 : Nat) (Option.some Jvm.ClassFile.FieldType.int)) ∈ lw_all := lw_g (lw_at lw_m4 174 rfl) rfl
theorem q993 : (Jvm.Cond.methodLink "OfferSky" (171 : Nat) ({ cls := "OfferSky$Bag", name := "size", desc := "()I" } : Jvm.MethodName)) ∈ lw_all := lw_g (lw_at lw_m4 175 rfl) rfl
theorem q995 : (Jvm.Cond.instanceMethod ({ cls := "OfferSky", name := "counting", desc := "()I" } : Jvm.MethodName)) ∈ lw_all := lw_g (lw_at lw_m4 177 rfl) rfl
theorem q996 : (Jvm.Cond.selects "OfferSky" ({ cls := "OfferSky", name := "counting", desc := "()I" } : Jvm.MethodName) ({ cls := "OfferSky", name := "counting", desc := "()I" } : Jvm.MethodName)) ∈ lw_all := lw_g (lw_at lw_m4 178 rfl) rfl
theorem q997 : (Jvm.Cond.code ({ cls := "OfferSky", name := "counting", desc := "()I" } : Jvm.MethodName) prog_1_method_37_code (1 : Nat) (Option.some Jvm.ClassFile.FieldType.int)) ∈ lw_all := lw_g (lw_at lw_m4 179 rfl) rfl
theorem q998 : (Jvm.Cond.methodLink "OfferSky" (200 : Nat) ({ cls := "OfferSky$State", name := "active", desc := "()LOfferSky$Bag;" } : Jvm.MethodName)) ∈ lw_all := lw_g (lw_at lw_m4 180 rfl) rfl
theorem q1000 : (Jvm.Cond.instanceMethod ({ cls := "OfferSky", name := "toldByPairs", desc := "()I" } : Jvm.MethodName)) ∈ lw_all := lw_g (lw_at lw_m4 182 rfl) rfl
theorem q1001 : (Jvm.Cond.selects "OfferSky" ({ cls := "OfferSky", name := "toldByPairs", desc := "()I" } : Jvm.MethodName) ({ cls := "OfferSky", name := "toldByPairs", desc := "()I" } : Jvm.MethodName)) ∈ lw_all := lw_g (lw_at lw_m4 183 rfl) rfl
theorem q1002 : (Jvm.Cond.code ({ cls := "OfferSky", name := "toldByPairs", desc := "()I" } : Jvm.MethodName) prog_1_method_46_code (1 : Nat) (Option.some Jvm.ClassFile.FieldType.int)) ∈ lw_all := lw_g (lw_at lw_m4 184 rfl) rfl
theorem q1003 : (Jvm.Cond.methodLink "OfferSky" (240 : Nat) ({ cls := "OfferSky", name := "manyTold", desc := "()I" } : Jvm.MethodName)) ∈ lw_all := lw_g (lw_at lw_m4 185 rfl) rfl
theorem q1004 : (Jvm.Cond.privateMethod ({ cls := "OfferSky", name := "manyTold", desc := "()I" } : Jvm.MethodName)) ∈ lw_tbl := lw_at lw_m4 186 rfl
theorem q1005 : (Jvm.Cond.instanceMethod ({ cls := "OfferSky", name := "manyTold", desc := "()I" } : Jvm.MethodName)) ∈ lw_all := lw_g (lw_at lw_m4 187 rfl) rfl
theorem q1006 : (Jvm.Cond.code ({ cls := "OfferSky", name := "manyTold", desc := "()I" } : Jvm.MethodName) prog_1_method_45_code (1 : Nat) (Option.some Jvm.ClassFile.FieldType.int)) ∈ lw_all := lw_g (lw_at lw_m4 188 rfl) rfl
theorem q1007 : (Jvm.Cond.methodLink "OfferSky" (236 : Nat) ({ cls := "OfferSky$State", name := "told", desc := "(LOfferSky$Bag;)LOfferSky$Bag;" } : Jvm.MethodName)) ∈ lw_all := lw_g (lw_at lw_m4 189 rfl) rfl
theorem q1009 : (Jvm.Cond.instanceMethod ({ cls := "OfferSky", name := "toldBySums", desc := "()I" } : Jvm.MethodName)) ∈ lw_all := lw_g (lw_at lw_m4 191 rfl) rfl
theorem q1010 : (Jvm.Cond.selects "OfferSky" ({ cls := "OfferSky", name := "toldBySums", desc := "()I" } : Jvm.MethodName) ({ cls := "OfferSky", name := "toldBySums", desc := "()I" } : Jvm.MethodName)) ∈ lw_all := lw_g (lw_at lw_m4 192 rfl) rfl
theorem q1011 : (Jvm.Cond.code ({ cls := "OfferSky", name := "toldBySums", desc := "()I" } : Jvm.MethodName) prog_1_method_47_code (1 : Nat) (Option.some Jvm.ClassFile.FieldType.int)) ∈ lw_all := lw_g (lw_at lw_m4 193 rfl) rfl
theorem q1012 : (Jvm.Cond.methodLink "OfferSky" (243 : Nat) ({ cls := "OfferSky$State", name := "bySums", desc := "()I" } : Jvm.MethodName)) ∈ lw_all := lw_g (lw_at lw_m4 194 rfl) rfl
theorem q1066 : (Jvm.Cond.instanceMethod ({ cls := "OfferSky", name := "layers", desc := "()I" } : Jvm.MethodName)) ∈ lw_all := lw_g (lw_at lw_m5 8 rfl) rfl
theorem q1067 : (Jvm.Cond.selects "OfferSky" ({ cls := "OfferSky", name := "layers", desc := "()I" } : Jvm.MethodName) ({ cls := "OfferSky", name := "layers", desc := "()I" } : Jvm.MethodName)) ∈ lw_all := lw_g (lw_at lw_m5 9 rfl) rfl
theorem q1068 : (Jvm.Cond.code ({ cls := "OfferSky", name := "layers", desc := "()I" } : Jvm.MethodName) prog_1_method_51_code (1 : Nat) (Option.some Jvm.ClassFile.FieldType.int)) ∈ lw_all := lw_g (lw_at lw_m5 10 rfl) rfl
theorem q1069 : (Jvm.Cond.methodLink "OfferSky" (252 : Nat) ({ cls := "OfferSky$State", name := "peeled", desc := "()[I" } : Jvm.MethodName)) ∈ lw_all := lw_g (lw_at lw_m5 11 rfl) rfl
theorem q1081 : (Jvm.Cond.methodLink "OfferSky" (259 : Nat) ({ cls := "OfferSky$State", name := "greatestOf", desc := "([I)I" } : Jvm.MethodName)) ∈ lw_all := lw_g (lw_at lw_m5 23 rfl) rfl
theorem q1087 : (Jvm.Cond.instanceMethod ({ cls := "OfferSky", name := "coveredByTwo", desc := "()I" } : Jvm.MethodName)) ∈ lw_all := lw_g (lw_at lw_m5 29 rfl) rfl
theorem q1088 : (Jvm.Cond.selects "OfferSky" ({ cls := "OfferSky", name := "coveredByTwo", desc := "()I" } : Jvm.MethodName) ({ cls := "OfferSky", name := "coveredByTwo", desc := "()I" } : Jvm.MethodName)) ∈ lw_all := lw_g (lw_at lw_m5 30 rfl) rfl
theorem q1089 : (Jvm.Cond.code ({ cls := "OfferSky", name := "coveredByTwo", desc := "()I" } : Jvm.MethodName) prog_1_method_63_code (1 : Nat) (Option.some Jvm.ClassFile.FieldType.int)) ∈ lw_all := lw_g (lw_at lw_m5 31 rfl) rfl
theorem q1090 : (Jvm.Cond.methodLink "OfferSky" (298 : Nat) ({ cls := "OfferSky$State", name := "bestByTwo", desc := "()I" } : Jvm.MethodName)) ∈ lw_all := lw_g (lw_at lw_m5 32 rfl) rfl
theorem q1104 : (Jvm.Cond.instanceMethod ({ cls := "OfferSky", name := "added", desc := "()I" } : Jvm.MethodName)) ∈ lw_all := lw_g (lw_at lw_m5 46 rfl) rfl
theorem q1105 : (Jvm.Cond.selects "OfferSky" ({ cls := "OfferSky", name := "added", desc := "()I" } : Jvm.MethodName) ({ cls := "OfferSky", name := "added", desc := "()I" } : Jvm.MethodName)) ∈ lw_all := lw_g (lw_at lw_m5 47 rfl) rfl
theorem q1106 : (Jvm.Cond.code ({ cls := "OfferSky", name := "added", desc := "()I" } : Jvm.MethodName) prog_1_method_70_code (1 : Nat) (Option.some Jvm.ClassFile.FieldType.int)) ∈ lw_all := lw_g (lw_at lw_m5 48 rfl) rfl
theorem q1108 : (Jvm.Cond.instanceMethod ({ cls := "OfferSky", name := "removed", desc := "()I" } : Jvm.MethodName)) ∈ lw_all := lw_g (lw_at lw_m5 50 rfl) rfl
theorem q1109 : (Jvm.Cond.selects "OfferSky" ({ cls := "OfferSky", name := "removed", desc := "()I" } : Jvm.MethodName) ({ cls := "OfferSky", name := "removed", desc := "()I" } : Jvm.MethodName)) ∈ lw_all := lw_g (lw_at lw_m5 51 rfl) rfl
theorem q1110 : (Jvm.Cond.code ({ cls := "OfferSky", name := "removed", desc := "()I" } : Jvm.MethodName) prog_1_method_71_code (1 : Nat) (Option.some Jvm.ClassFile.FieldType.int)) ∈ lw_all := lw_g (lw_at lw_m5 52 rfl) rfl
theorem q1112 : (Jvm.Cond.instanceMethod ({ cls := "OfferSky", name := "beatings", desc := "()I" } : Jvm.MethodName)) ∈ lw_all := lw_g (lw_at lw_m5 54 rfl) rfl
theorem q1113 : (Jvm.Cond.selects "OfferSky" ({ cls := "OfferSky", name := "beatings", desc := "()I" } : Jvm.MethodName) ({ cls := "OfferSky", name := "beatings", desc := "()I" } : Jvm.MethodName)) ∈ lw_all := lw_g (lw_at lw_m5 55 rfl) rfl
theorem q1114 : (Jvm.Cond.code ({ cls := "OfferSky", name := "beatings", desc := "()I" } : Jvm.MethodName) prog_1_method_72_code (1 : Nat) (Option.some Jvm.ClassFile.FieldType.int)) ∈ lw_all := lw_g (lw_at lw_m5 56 rfl) rfl
theorem q1115 : (Jvm.Cond.methodLink "OfferSky" (328 : Nat) ({ cls := "OfferSky$State", name := "pairsBeaten", desc := "()I" } : Jvm.MethodName)) ∈ lw_all := lw_g (lw_at lw_m5 57 rfl) rfl
theorem q1132 : (Jvm.Cond.instanceMethod ({ cls := "OfferSky", name := "toldShare", desc := "()D" } : Jvm.MethodName)) ∈ lw_all := lw_g (lw_at lw_m5 74 rfl) rfl
theorem q1133 : (Jvm.Cond.selects "OfferSky" ({ cls := "OfferSky", name := "toldShare", desc := "()D" } : Jvm.MethodName) ({ cls := "OfferSky", name := "toldShare", desc := "()D" } : Jvm.MethodName)) ∈ lw_all := lw_g (lw_at lw_m5 75 rfl) rfl
theorem q1134 : (Jvm.Cond.code ({ cls := "OfferSky", name := "toldShare", desc := "()D" } : Jvm.MethodName) prog_1_method_73_code (1 : Nat) (Option.some Jvm.ClassFile.FieldType.double)) ∈ lw_all := lw_g (lw_at lw_m5 76 rfl) rfl
theorem q1135 : (Jvm.Cond.methodLink "OfferSky" (331 : Nat) ({ cls := "OfferSky$State", name := "share", desc := "()D" } : Jvm.MethodName)) ∈ lw_all := lw_g (lw_at lw_m5 77 rfl) rfl
theorem q1140 : (Jvm.Cond.instanceMethod ({ cls := "OfferSky", name := "digest", desc := "()J" } : Jvm.MethodName)) ∈ lw_all := lw_g (lw_at lw_m5 82 rfl) rfl
theorem q1141 : (Jvm.Cond.selects "OfferSky" ({ cls := "OfferSky", name := "digest", desc := "()J" } : Jvm.MethodName) ({ cls := "OfferSky", name := "digest", desc := "()J" } : Jvm.MethodName)) ∈ lw_all := lw_g (lw_at lw_m5 83 rfl) rfl
theorem q1142 : (Jvm.Cond.code ({ cls := "OfferSky", name := "digest", desc := "()J" } : Jvm.MethodName) prog_1_method_80_code (5 : Nat) (Option.some Jvm.ClassFile.FieldType.long)) ∈ lw_all := lw_g (lw_at lw_m5 84 rfl) rfl
theorem q1143 : (Jvm.Cond.constantLong "OfferSky" (350 : Nat) (4513 : Int64)) ∈ lw_all := lw_g (lw_at lw_m5 85 rfl) rfl
theorem q1144 : (Jvm.Cond.methodLink "OfferSky" (352 : Nat) ({ cls := "OfferSky", name := "mixSides", desc := "()V" } : Jvm.MethodName)) ∈ lw_all := lw_g (lw_at lw_m5 86 rfl) rfl
theorem q1145 : (Jvm.Cond.privateMethod ({ cls := "OfferSky", name := "mixSides", desc := "()V" } : Jvm.MethodName)) ∈ lw_tbl := lw_at lw_m5 87 rfl
theorem q1146 : (Jvm.Cond.instanceMethod ({ cls := "OfferSky", name := "mixSides", desc := "()V" } : Jvm.MethodName)) ∈ lw_all := lw_g (lw_at lw_m5 88 rfl) rfl
theorem q1147 : (Jvm.Cond.code ({ cls := "OfferSky", name := "mixSides", desc := "()V" } : Jvm.MethodName) prog_1_method_75_code (2 : Nat) (Option.none : Option Jvm.ClassFile.FieldType)) ∈ lw_all := lw_g (lw_at lw_m5 89 rfl) rfl
theorem q1148 : (Jvm.Cond.methodLink "OfferSky" (341 : Nat) ({ cls := "OfferSky", name := "mix", desc := "(J)V" } : Jvm.MethodName)) ∈ lw_all := lw_g (lw_at lw_m5 90 rfl) rfl
theorem q1149 : (Jvm.Cond.privateMethod ({ cls := "OfferSky", name := "mix", desc := "(J)V" } : Jvm.MethodName)) ∈ lw_tbl := lw_at lw_m5 91 rfl
theorem q1150 : (Jvm.Cond.instanceMethod ({ cls := "OfferSky", name := "mix", desc := "(J)V" } : Jvm.MethodName)) ∈ lw_all := lw_g (lw_at lw_m5 92 rfl) rfl
theorem q1151 : (Jvm.Cond.code ({ cls := "OfferSky", name := "mix", desc := "(J)V" } : Jvm.MethodName) prog_1_method_74_code (3 : Nat) (Option.none : Option Jvm.ClassFile.FieldType)) ∈ lw_all := lw_g (lw_at lw_m5 93 rfl) rfl
theorem q1152 : (Jvm.Cond.constantLong "OfferSky" (335 : Nat) (31 : Int64)) ∈ lw_all := lw_g (lw_at lw_m5 94 rfl) rfl
theorem q1153 : (Jvm.Cond.methodLink "OfferSky" (355 : Nat) ({ cls := "OfferSky", name := "mixOffers", desc := "()V" } : Jvm.MethodName)) ∈ lw_all := lw_g (lw_at lw_m5 95 rfl) rfl
theorem q1154 : (Jvm.Cond.privateMethod ({ cls := "OfferSky", name := "mixOffers", desc := "()V" } : Jvm.MethodName)) ∈ lw_tbl := lw_at lw_m5 96 rfl
theorem q1155 : (Jvm.Cond.instanceMethod ({ cls := "OfferSky", name := "mixOffers", desc := "()V" } : Jvm.MethodName)) ∈ lw_all := lw_g (lw_at lw_m5 97 rfl) rfl
theorem q1156 : (Jvm.Cond.code ({ cls := "OfferSky", name := "mixOffers", desc := "()V" } : Jvm.MethodName) prog_1_method_76_code (10 : Nat) (Option.none : Option Jvm.ClassFile.FieldType)) ∈ lw_all := lw_g (lw_at lw_m5 98 rfl) rfl
theorem q1157 : (Jvm.Cond.methodLink "OfferSky" (229 : Nat) ({ cls := "OfferSky$State", name := "window", desc := "()LOfferSky$Bag;" } : Jvm.MethodName)) ∈ lw_all := lw_g (lw_at lw_m5 99 rfl) rfl
theorem q1164 : (Jvm.Cond.methodLink "OfferSky" (256 : Nat) ({ cls := "OfferSky$State", name := "rowsByBeating", desc := "()[I" } : Jvm.MethodName)) ∈ lw_all := lw_g (lw_at lw_m5 106 rfl) rfl
theorem q1176 : (Jvm.Cond.methodLink "OfferSky" (76 : Nat) ({ cls := "OfferSky$State", name := "get", desc := "(I)LOfferSky$Offer;" } : Jvm.MethodName)) ∈ lw_all := lw_g (lw_at lw_m5 118 rfl) rfl
theorem q1177 : (Jvm.Cond.methodLink "OfferSky" (196 : Nat) ({ cls := "OfferSky$Sides", name := "counts", desc := "(LOfferSky$Offer;)Z" } : Jvm.MethodName)) ∈ lw_all := lw_g (lw_at lw_m5 119 rfl) rfl
theorem q1178 : (Jvm.Cond.methodLink "OfferSky" (263 : Nat) ({ cls := "OfferSky", name := "flag", desc := "(Z)I" } : Jvm.MethodName)) ∈ lw_all := lw_g (lw_at lw_m5 120 rfl) rfl
theorem q1179 : (Jvm.Cond.methodLink "OfferSky" (212 : Nat) ({ cls := "OfferSky$State", name := "beaters", desc := "(LOfferSky$Offer;)I" } : Jvm.MethodName)) ∈ lw_all := lw_g (lw_at lw_m5 121 rfl) rfl
theorem q1186 : (Jvm.Cond.methodLink "OfferSky" (215 : Nat) ({ cls := "OfferSky$State", name := "beaten", desc := "(LOfferSky$Offer;)I" } : Jvm.MethodName)) ∈ lw_all := lw_g (lw_at lw_m5 128 rfl) rfl
theorem q1187 : (Jvm.Cond.methodLink "OfferSky" (218 : Nat) ({ cls := "OfferSky$State", name := "isTold", desc := "(LOfferSky$Offer;)Z" } : Jvm.MethodName)) ∈ lw_all := lw_g (lw_at lw_m5 129 rfl) rfl
theorem q1192 : (Jvm.Cond.methodLink "OfferSky" (232 : Nat) ({ cls := "OfferSky", name := "isInWindow", desc := "(LOfferSky$Bag;LOfferSky$Offer;)Z" } : Jvm.MethodName)) ∈ lw_all := lw_g (lw_at lw_m5 134 rfl) rfl
theorem q1193 : (Jvm.Cond.privateMethod ({ cls := "OfferSky", name := "isInWindow", desc := "(LOfferSky$Bag;LOfferSky$Offer;)Z" } : Jvm.MethodName)) ∈ lw_tbl := lw_at lw_m5 135 rfl
theorem q1194 : (Jvm.Cond.instanceMethod ({ cls := "OfferSky", name := "isInWindow", desc := "(LOfferSky$Bag;LOfferSky$Offer;)Z" } : Jvm.MethodName)) ∈ lw_all := lw_g (lw_at lw_m5 136 rfl) rfl
theorem q1195 : (Jvm.Cond.code ({ cls := "OfferSky", name := "isInWindow", desc := "(LOfferSky$Bag;LOfferSky$Offer;)Z" } : Jvm.MethodName) prog_1_method_43_code (3 : Nat) (Option.some Jvm.ClassFile.FieldType.boolean)) ∈ lw_all := lw_g (lw_at lw_m5 137 rfl) rfl
theorem q1196 : (Jvm.Cond.static ({ cls := "OfferSky", name := "lambda$isInWindow$0", desc := "(LOfferSky$Offer;LOfferSky$Offer;)Z" } : Jvm.MethodName)) ∈ lw_all := lw_g (lw_at lw_m5 138 rfl) rfl
theorem q1197 : (Jvm.Cond.code ({ cls := "OfferSky", name := "lambda$isInWindow$0", desc := "(LOfferSky$Offer;LOfferSky$Offer;)Z" } : Jvm.MethodName) prog_1_method_81_code (2 : Nat) (Option.some Jvm.ClassFile.FieldType.boolean)) ∈ lw_all := lw_g (lw_at lw_m5 139 rfl) rfl
theorem q1198 : (Jvm.Cond.methodLink "OfferSky" (225 : Nat) ({ cls := "OfferSky$Bag", name := "hasOne", desc := "(LOfferSky$Choice;)Z" } : Jvm.MethodName)) ∈ lw_all := lw_g (lw_at lw_m5 140 rfl) rfl
theorem q1199 : (Jvm.Cond.methodLink "OfferSky" (304 : Nat) ({ cls := "OfferSky$Sides", name := "score", desc := "(LOfferSky$Offer;)I" } : Jvm.MethodName)) ∈ lw_all := lw_g (lw_at lw_m5 141 rfl) rfl
theorem q1203 : (Jvm.Cond.methodLink "OfferSky" (358 : Nat) ({ cls := "OfferSky", name := "mixTold", desc := "()V" } : Jvm.MethodName)) ∈ lw_all := lw_g (lw_at lw_m5 145 rfl) rfl
theorem q1204 : (Jvm.Cond.privateMethod ({ cls := "OfferSky", name := "mixTold", desc := "()V" } : Jvm.MethodName)) ∈ lw_tbl := lw_at lw_m5 146 rfl
theorem q1205 : (Jvm.Cond.instanceMethod ({ cls := "OfferSky", name := "mixTold", desc := "()V" } : Jvm.MethodName)) ∈ lw_all := lw_g (lw_at lw_m5 147 rfl) rfl
theorem q1206 : (Jvm.Cond.code ({ cls := "OfferSky", name := "mixTold", desc := "()V" } : Jvm.MethodName) prog_1_method_77_code (2 : Nat) (Option.none : Option Jvm.ClassFile.FieldType)) ∈ lw_all := lw_g (lw_at lw_m5 148 rfl) rfl
theorem q1207 : (Jvm.Cond.methodLink "OfferSky" (271 : Nat) ({ cls := "OfferSky$State", name := "toldBy", desc := "(I)I" } : Jvm.MethodName)) ∈ lw_all := lw_g (lw_at lw_m5 149 rfl) rfl
theorem q1218 : (Jvm.Cond.methodLink "OfferSky" (277 : Nat) ({ cls := "OfferSky$State", name := "weakly", desc := "(I)I" } : Jvm.MethodName)) ∈ lw_all := lw_g (lw_at lw_m5 160 rfl) rfl
theorem q1236 : (Jvm.Cond.methodLink "OfferSky" (295 : Nat) ({ cls := "OfferSky$State", name := "coveredBy", desc := "(I)I" } : Jvm.MethodName)) ∈ lw_all := lw_g (lw_at lw_m5 178 rfl) rfl
theorem q1249 : (Jvm.Cond.methodLink "OfferSky" (361 : Nat) ({ cls := "OfferSky", name := "mixOrders", desc := "()V" } : Jvm.MethodName)) ∈ lw_all := lw_g (lw_at lw_m5 191 rfl) rfl
theorem q1250 : (Jvm.Cond.privateMethod ({ cls := "OfferSky", name := "mixOrders", desc := "()V" } : Jvm.MethodName)) ∈ lw_tbl := lw_at lw_m5 192 rfl
theorem q1251 : (Jvm.Cond.instanceMethod ({ cls := "OfferSky", name := "mixOrders", desc := "()V" } : Jvm.MethodName)) ∈ lw_all := lw_g (lw_at lw_m5 193 rfl) rfl
theorem q1252 : (Jvm.Cond.code ({ cls := "OfferSky", name := "mixOrders", desc := "()V" } : Jvm.MethodName) prog_1_method_78_code (4 : Nat) (Option.none : Option Jvm.ClassFile.FieldType)) ∈ lw_all := lw_g (lw_at lw_m5 194 rfl) rfl
theorem q1253 : (Jvm.Cond.methodLink "OfferSky" (301 : Nat) ({ cls := "OfferSky$State", name := "takenInOrder", desc := "()LOfferSky$Bag;" } : Jvm.MethodName)) ∈ lw_all := lw_g (lw_at lw_m5 195 rfl) rfl
theorem q1257 : (Jvm.Cond.methodLink "OfferSky" (246 : Nat) ({ cls := "OfferSky$Bag", name := "get", desc := "(I)Ljava/lang/Object;" } : Jvm.MethodName)) ∈ lw_all := lw_g (lw_at lw_m5 199 rfl) rfl
theorem q1258 : (Jvm.Cond.classLink "OfferSky" (100 : Nat) "OfferSky$Offer") ∈ lw_all := lw_g (lw_at lw_m5 200 rfl) rfl
theorem q1259 : (Jvm.Cond.methodLink "OfferSky" (249 : Nat) ({ cls := "OfferSky$State", name := "numberOf", desc := "(LOfferSky$Offer;)I" } : Jvm.MethodName)) ∈ lw_all := lw_g (lw_at lw_m5 201 rfl) rfl
theorem q1260 : (Jvm.Cond.methodLink "OfferSky" (307 : Nat) ({ cls := "OfferSky$State", name := "scored", desc := "()LOfferSky$Bag;" } : Jvm.MethodName)) ∈ lw_all := lw_g (lw_at lw_m5 202 rfl) rfl
theorem q1268 : (Jvm.Cond.methodLink "OfferSky" (345 : Nat) ({ cls := "java/lang/Math", name := "min", desc := "(II)I" } : Jvm.MethodName)) ∈ lw_all := lw_g (lw_at lw_m5 210 rfl) rfl
theorem q1269 : (Jvm.Cond.methodLink "OfferSky" (364 : Nat) ({ cls := "OfferSky", name := "mixReach", desc := "()V" } : Jvm.MethodName)) ∈ lw_all := lw_g (lw_at lw_m5 211 rfl) rfl
theorem q1270 : (Jvm.Cond.privateMethod ({ cls := "OfferSky", name := "mixReach", desc := "()V" } : Jvm.MethodName)) ∈ lw_tbl := lw_at lw_m5 212 rfl
theorem q1271 : (Jvm.Cond.instanceMethod ({ cls := "OfferSky", name := "mixReach", desc := "()V" } : Jvm.MethodName)) ∈ lw_all := lw_g (lw_at lw_m5 213 rfl) rfl
theorem q1272 : (Jvm.Cond.code ({ cls := "OfferSky", name := "mixReach", desc := "()V" } : Jvm.MethodName) prog_1_method_79_code (3 : Nat) (Option.none : Option Jvm.ClassFile.FieldType)) ∈ lw_all := lw_g (lw_at lw_m5 214 rfl) rfl
theorem q1273 : (Jvm.Cond.methodLink "OfferSky" (313 : Nat) ({ cls := "OfferSky$State", name := "canReach", desc := "(II)Z" } : Jvm.MethodName)) ∈ lw_all := lw_g (lw_at lw_m5 215 rfl) rfl
theorem q1278 : (Jvm.Cond.methodLink "OfferSky" (316 : Nat) ({ cls := "OfferSky$State", name := "byAllPairs", desc := "(II)I" } : Jvm.MethodName)) ∈ lw_all := lw_g (lw_at lw_m5 220 rfl) rfl
theorem q1287 : (Jvm.Cond.methodLink "OfferSky" (319 : Nat) ({ cls := "OfferSky$State", name := "bySteps", desc := "(II)I" } : Jvm.MethodName)) ∈ lw_all := lw_g (lw_at lw_m5 229 rfl) rfl
theorem q1295 : (Jvm.Cond.methodLink "OfferSky" (367 : Nat) ({ cls := "java/lang/Double", name := "doubleToLongBits", desc := "(D)J" } : Jvm.MethodName)) ∈ lw_all := lw_g (lw_at lw_m5 237 rfl) rfl
theorem q1305 : (Jvm.Cond.methodLink "OfferSky" (373 : Nat) ({ cls := "java/lang/StringBuilder", name := "charAt", desc := "(I)C" } : Jvm.MethodName)) ∈ lw_all := lw_g (lw_at lw_m6 7 rfl) rfl
theorem q1313 : (Jvm.Cond.instanceMethod ({ cls := "OfferSky", name := "add", desc := "(IIII)I" } : Jvm.MethodName)) ∈ lw_all := lw_g (lw_at lw_m6 15 rfl) rfl
theorem q1314 : (Jvm.Cond.selects "OfferSky" ({ cls := "OfferSky", name := "add", desc := "(IIII)I" } : Jvm.MethodName) ({ cls := "OfferSky", name := "add", desc := "(IIII)I" } : Jvm.MethodName)) ∈ lw_all := lw_g (lw_at lw_m6 16 rfl) rfl
theorem q1315 : (Jvm.Cond.code ({ cls := "OfferSky", name := "add", desc := "(IIII)I" } : Jvm.MethodName) prog_1_method_14_code (5 : Nat) (Option.some Jvm.ClassFile.FieldType.int)) ∈ lw_all := lw_g (lw_at lw_m6 17 rfl) rfl
theorem q1316 : (Jvm.Cond.methodLink "OfferSky" (83 : Nat) ({ cls := "OfferSky", name := "areValues", desc := "(IIII)Z" } : Jvm.MethodName)) ∈ lw_all := lw_g (lw_at lw_m6 18 rfl) rfl
theorem q1317 : (Jvm.Cond.static ({ cls := "OfferSky", name := "areValues", desc := "(IIII)Z" } : Jvm.MethodName)) ∈ lw_all := lw_g (lw_at lw_m6 19 rfl) rfl
theorem q1318 : (Jvm.Cond.code ({ cls := "OfferSky", name := "areValues", desc := "(IIII)Z" } : Jvm.MethodName) prog_1_method_8_code (4 : Nat) (Option.some Jvm.ClassFile.FieldType.boolean)) ∈ lw_all := lw_g (lw_at lw_m6 20 rfl) rfl
theorem q1319 : (Jvm.Cond.methodLink "OfferSky" (19 : Nat) ({ cls := "OfferSky", name := "isValue", desc := "(I)Z" } : Jvm.MethodName)) ∈ lw_all := lw_g (lw_at lw_m6 21 rfl) rfl
theorem q1320 : (Jvm.Cond.static ({ cls := "OfferSky", name := "isValue", desc := "(I)Z" } : Jvm.MethodName)) ∈ lw_all := lw_g (lw_at lw_m6 22 rfl) rfl
theorem q1321 : (Jvm.Cond.code ({ cls := "OfferSky", name := "isValue", desc := "(I)Z" } : Jvm.MethodName) prog_1_method_7_code (1 : Nat) (Option.some Jvm.ClassFile.FieldType.boolean)) ∈ lw_all := lw_g (lw_at lw_m6 23 rfl) rfl
theorem q1322 : (Jvm.Cond.methodLink "OfferSky" (15 : Nat) ({ cls := "OfferSky", name := "inRange", desc := "(III)Z" } : Jvm.MethodName)) ∈ lw_all := lw_g (lw_at lw_m6 24 rfl) rfl
theorem q1323 : (Jvm.Cond.methodLink "OfferSky" (87 : Nat) ({ cls := "OfferSky", name := "require", desc := "(Z)V" } : Jvm.MethodName)) ∈ lw_all := lw_g (lw_at lw_m6 25 rfl) rfl
theorem q1324 : (Jvm.Cond.static ({ cls := "OfferSky", name := "require", desc := "(Z)V" } : Jvm.MethodName)) ∈ lw_all := lw_g (lw_at lw_m6 26 rfl) rfl
theorem q1325 : (Jvm.Cond.code ({ cls := "OfferSky", name := "require", desc := "(Z)V" } : Jvm.MethodName) prog_1_method_2_code (1 : Nat) (Option.none : Option Jvm.ClassFile.FieldType)) ∈ lw_all := lw_g (lw_at lw_m6 27 rfl) rfl
theorem q1326 : (Jvm.Cond.classLink "OfferSky" (1 : Nat) "java/lang/IllegalArgumentException") ∈ lw_all := lw_g (lw_at lw_m6 28 rfl) rfl
theorem q1327 : (Jvm.Cond.methodLink "OfferSky" (3 : Nat) ({ cls := "java/lang/IllegalArgumentException", name := "<init>", desc := "()V" } : Jvm.MethodName)) ∈ lw_all := lw_g (lw_at lw_m6 29 rfl) rfl
theorem q1337 : (Jvm.Cond.methodLink "OfferSky" (90 : Nat) ({ cls := "OfferSky$State", name := "hasRoom", desc := "()Z" } : Jvm.MethodName)) ∈ lw_all := lw_g (lw_at lw_m6 39 rfl) rfl
theorem q1341 : (Jvm.Cond.methodLink "OfferSky" (94 : Nat) ({ cls := "OfferSky", name := "requireState", desc := "(Z)V" } : Jvm.MethodName)) ∈ lw_all := lw_g (lw_at lw_m6 43 rfl) rfl
theorem q1342 : (Jvm.Cond.static ({ cls := "OfferSky", name := "requireState", desc := "(Z)V" } : Jvm.MethodName)) ∈ lw_all := lw_g (lw_at lw_m6 44 rfl) rfl
theorem q1343 : (Jvm.Cond.code ({ cls := "OfferSky", name := "requireState", desc := "(Z)V" } : Jvm.MethodName) prog_1_method_3_code (1 : Nat) (Option.none : Option Jvm.ClassFile.FieldType)) ∈ lw_all := lw_g (lw_at lw_m6 45 rfl) rfl
theorem q1344 : (Jvm.Cond.classLink "OfferSky" (7 : Nat) "java/lang/IllegalStateException") ∈ lw_all := lw_g (lw_at lw_m6 46 rfl) rfl
theorem q1345 : (Jvm.Cond.methodLink "OfferSky" (9 : Nat) ({ cls := "java/lang/IllegalStateException", name := "<init>", desc := "()V" } : Jvm.MethodName)) ∈ lw_all := lw_g (lw_at lw_m6 47 rfl) rfl
theorem q1350 : (Jvm.Cond.methodLink "OfferSky" (102 : Nat) ({ cls := "OfferSky$Offer", name := "<init>", desc := "([I)V" } : Jvm.MethodName)) ∈ lw_all := lw_g (lw_at lw_m6 52 rfl) rfl
theorem q1357 : (Jvm.Cond.fieldLinkNest "OfferSky" (185 : Nat) "OfferSky$Offer" "values" "[I" "OfferSky") ∈ lw_tbl := lw_at lw_m6 59 rfl
theorem q1361 : (Jvm.Cond.methodLink "OfferSky" (105 : Nat) ({ cls := "OfferSky$State", name := "adds", desc := "(LOfferSky$Offer;)I" } : Jvm.MethodName)) ∈ lw_all := lw_g (lw_at lw_m6 63 rfl) rfl
theorem q1372 : (Jvm.Cond.instanceMethod ({ cls := "OfferSky", name := "remove", desc := "(I)I" } : Jvm.MethodName)) ∈ lw_all := lw_g (lw_at lw_m6 74 rfl) rfl
theorem q1373 : (Jvm.Cond.selects "OfferSky" ({ cls := "OfferSky", name := "remove", desc := "(I)I" } : Jvm.MethodName) ({ cls := "OfferSky", name := "remove", desc := "(I)I" } : Jvm.MethodName)) ∈ lw_all := lw_g (lw_at lw_m6 75 rfl) rfl
theorem q1374 : (Jvm.Cond.code ({ cls := "OfferSky", name := "remove", desc := "(I)I" } : Jvm.MethodName) prog_1_method_15_code (2 : Nat) (Option.some Jvm.ClassFile.FieldType.int)) ∈ lw_all := lw_g (lw_at lw_m6 76 rfl) rfl
theorem q1375 : (Jvm.Cond.methodLink "OfferSky" (69 : Nat) ({ cls := "OfferSky$State", name := "isOffer", desc := "(I)Z" } : Jvm.MethodName)) ∈ lw_all := lw_g (lw_at lw_m6 77 rfl) rfl
theorem q1380 : (Jvm.Cond.methodLink "OfferSky" (72 : Nat) ({ cls := "OfferSky", name := "requireIndex", desc := "(Z)V" } : Jvm.MethodName)) ∈ lw_all := lw_g (lw_at lw_m6 82 rfl) rfl
theorem q1381 : (Jvm.Cond.static ({ cls := "OfferSky", name := "requireIndex", desc := "(Z)V" } : Jvm.MethodName)) ∈ lw_all := lw_g (lw_at lw_m6 83 rfl) rfl
theorem q1382 : (Jvm.Cond.code ({ cls := "OfferSky", name := "requireIndex", desc := "(Z)V" } : Jvm.MethodName) prog_1_method_4_code (1 : Nat) (Option.none : Option Jvm.ClassFile.FieldType)) ∈ lw_all := lw_g (lw_at lw_m6 84 rfl) rfl
theorem q1383 : (Jvm.Cond.classLink "OfferSky" (10 : Nat) "java/lang/IndexOutOfBoundsException") ∈ lw_all := lw_g (lw_at lw_m6 85 rfl) rfl
theorem q1384 : (Jvm.Cond.methodLink "OfferSky" (12 : Nat) ({ cls := "java/lang/IndexOutOfBoundsException", name := "<init>", desc := "()V" } : Jvm.MethodName)) ∈ lw_all := lw_g (lw_at lw_m6 86 rfl) rfl
theorem q1388 : (Jvm.Cond.methodLink "OfferSky" (109 : Nat) ({ cls := "OfferSky$State", name := "removes", desc := "(I)I" } : Jvm.MethodName)) ∈ lw_all := lw_g (lw_at lw_m6 90 rfl) rfl
theorem q1400 : (Jvm.Cond.instanceMethod ({ cls := "OfferSky", name := "change", desc := "(III)I" } : Jvm.MethodName)) ∈ lw_all := lw_g (lw_at lw_m6 102 rfl) rfl
theorem q1401 : (Jvm.Cond.selects "OfferSky" ({ cls := "OfferSky", name := "change", desc := "(III)I" } : Jvm.MethodName) ({ cls := "OfferSky", name := "change", desc := "(III)I" } : Jvm.MethodName)) ∈ lw_all := lw_g (lw_at lw_m6 103 rfl) rfl
theorem q1402 : (Jvm.Cond.code ({ cls := "OfferSky", name := "change", desc := "(III)I" } : Jvm.MethodName) prog_1_method_16_code (4 : Nat) (Option.some Jvm.ClassFile.FieldType.int)) ∈ lw_all := lw_g (lw_at lw_m6 104 rfl) rfl
theorem q1403 : (Jvm.Cond.methodLink "OfferSky" (113 : Nat) ({ cls := "OfferSky", name := "areBoth", desc := "(II)Z" } : Jvm.MethodName)) ∈ lw_all := lw_g (lw_at lw_m6 105 rfl) rfl
theorem q1404 : (Jvm.Cond.privateMethod ({ cls := "OfferSky", name := "areBoth", desc := "(II)Z" } : Jvm.MethodName)) ∈ lw_tbl := lw_at lw_m6 106 rfl
theorem q1405 : (Jvm.Cond.instanceMethod ({ cls := "OfferSky", name := "areBoth", desc := "(II)Z" } : Jvm.MethodName)) ∈ lw_all := lw_g (lw_at lw_m6 107 rfl) rfl
theorem q1406 : (Jvm.Cond.code ({ cls := "OfferSky", name := "areBoth", desc := "(II)Z" } : Jvm.MethodName) prog_1_method_13_code (3 : Nat) (Option.some Jvm.ClassFile.FieldType.boolean)) ∈ lw_all := lw_g (lw_at lw_m6 108 rfl) rfl
theorem q1407 : (Jvm.Cond.methodLink "OfferSky" (80 : Nat) ({ cls := "OfferSky", name := "isSide", desc := "(I)Z" } : Jvm.MethodName)) ∈ lw_all := lw_g (lw_at lw_m6 109 rfl) rfl
theorem q1408 : (Jvm.Cond.static ({ cls := "OfferSky", name := "isSide", desc := "(I)Z" } : Jvm.MethodName)) ∈ lw_all := lw_g (lw_at lw_m6 110 rfl) rfl
theorem q1409 : (Jvm.Cond.code ({ cls := "OfferSky", name := "isSide", desc := "(I)Z" } : Jvm.MethodName) prog_1_method_6_code (1 : Nat) (Option.some Jvm.ClassFile.FieldType.boolean)) ∈ lw_all := lw_g (lw_at lw_m6 111 rfl) rfl
theorem q1410 : (Jvm.Cond.methodLink "OfferSky" (117 : Nat) ({ cls := "OfferSky$State", name := "changes", desc := "(III)I" } : Jvm.MethodName)) ∈ lw_all := lw_g (lw_at lw_m6 112 rfl) rfl
theorem q1430 : (Jvm.Cond.instanceMethod ({ cls := "OfferSky", name := "setWish", desc := "(II)I" } : Jvm.MethodName)) ∈ lw_all := lw_g (lw_at lw_m6 132 rfl) rfl
theorem q1431 : (Jvm.Cond.selects "OfferSky" ({ cls := "OfferSky", name := "setWish", desc := "(II)I" } : Jvm.MethodName) ({ cls := "OfferSky", name := "setWish", desc := "(II)I" } : Jvm.MethodName)) ∈ lw_all := lw_g (lw_at lw_m6 133 rfl) rfl
theorem q1432 : (Jvm.Cond.code ({ cls := "OfferSky", name := "setWish", desc := "(II)I" } : Jvm.MethodName) prog_1_method_18_code (3 : Nat) (Option.some Jvm.ClassFile.FieldType.int)) ∈ lw_all := lw_g (lw_at lw_m6 134 rfl) rfl
theorem q1433 : (Jvm.Cond.methodLink "OfferSky" (124 : Nat) ({ cls := "OfferSky$State", name := "wishes", desc := "(II)I" } : Jvm.MethodName)) ∈ lw_all := lw_g (lw_at lw_m6 135 rfl) rfl
theorem q1441 : (Jvm.Cond.instanceMethod ({ cls := "OfferSky", name := "setBounds", desc := "(III)I" } : Jvm.MethodName)) ∈ lw_all := lw_g (lw_at lw_m6 143 rfl) rfl
theorem q1442 : (Jvm.Cond.selects "OfferSky" ({ cls := "OfferSky", name := "setBounds", desc := "(III)I" } : Jvm.MethodName) ({ cls := "OfferSky", name := "setBounds", desc := "(III)I" } : Jvm.MethodName)) ∈ lw_all := lw_g (lw_at lw_m6 144 rfl) rfl
theorem q1443 : (Jvm.Cond.code ({ cls := "OfferSky", name := "setBounds", desc := "(III)I" } : Jvm.MethodName) prog_1_method_19_code (4 : Nat) (Option.some Jvm.ClassFile.FieldType.int)) ∈ lw_all := lw_g (lw_at lw_m6 145 rfl) rfl
theorem q1444 : (Jvm.Cond.methodLink "OfferSky" (128 : Nat) ({ cls := "OfferSky$State", name := "bounds", desc := "(III)I" } : Jvm.MethodName)) ∈ lw_all := lw_g (lw_at lw_m6 146 rfl) rfl
theorem q1452 : (Jvm.Cond.instanceMethod ({ cls := "OfferSky", name := "setWeight", desc := "(II)I" } : Jvm.MethodName)) ∈ lw_all := lw_g (lw_at lw_m6 154 rfl) rfl
theorem q1453 : (Jvm.Cond.selects "OfferSky" ({ cls := "OfferSky", name := "setWeight", desc := "(II)I" } : Jvm.MethodName) ({ cls := "OfferSky", name := "setWeight", desc := "(II)I" } : Jvm.MethodName)) ∈ lw_all := lw_g (lw_at lw_m6 155 rfl) rfl
theorem q1454 : (Jvm.Cond.code ({ cls := "OfferSky", name := "setWeight", desc := "(II)I" } : Jvm.MethodName) prog_1_method_20_code (4 : Nat) (Option.some Jvm.ClassFile.FieldType.int)) ∈ lw_all := lw_g (lw_at lw_m6 156 rfl) rfl
theorem q1459 : (Jvm.Cond.instanceMethod ({ cls := "OfferSky", name := "append", desc := "(I)I" } : Jvm.MethodName)) ∈ lw_all := lw_g (lw_at lw_m6 161 rfl) rfl
theorem q1460 : (Jvm.Cond.selects "OfferSky" ({ cls := "OfferSky", name := "append", desc := "(I)I" } : Jvm.MethodName) ({ cls := "OfferSky", name := "append", desc := "(I)I" } : Jvm.MethodName)) ∈ lw_all := lw_g (lw_at lw_m6 162 rfl) rfl
theorem q1461 : (Jvm.Cond.code ({ cls := "OfferSky", name := "append", desc := "(I)I" } : Jvm.MethodName) prog_1_method_21_code (2 : Nat) (Option.some Jvm.ClassFile.FieldType.int)) ∈ lw_all := lw_g (lw_at lw_m6 163 rfl) rfl
theorem q1462 : (Jvm.Cond.methodLink "OfferSky" (144 : Nat) ({ cls := "java/lang/StringBuilder", name := "append", desc := "(C)Ljava/lang/StringBuilder;" } : Jvm.MethodName)) ∈ lw_all := lw_g (lw_at lw_m6 164 rfl) rfl
theorem q1483 : (Jvm.Cond.instanceMethod ({ cls := "OfferSky", name := "follow", desc := "()I" } : Jvm.MethodName)) ∈ lw_all := lw_g (lw_at lw_m6 185 rfl) rfl
theorem q1484 : (Jvm.Cond.selects "OfferSky" ({ cls := "OfferSky", name := "follow", desc := "()I" } : Jvm.MethodName) ({ cls := "OfferSky", name := "follow", desc := "()I" } : Jvm.MethodName)) ∈ lw_all := lw_g (lw_at lw_m6 186 rfl) rfl
theorem q1485 : (Jvm.Cond.code ({ cls := "OfferSky", name := "follow", desc := "()I" } : Jvm.MethodName) prog_1_method_24_code (2 : Nat) (Option.some Jvm.ClassFile.FieldType.int)) ∈ lw_all := lw_g (lw_at lw_m6 187 rfl) rfl
theorem q1486 : (Jvm.Cond.methodLink "OfferSky" (163 : Nat) ({ cls := "OfferSky$Reader", name := "allOn", desc := "(LOfferSky$State;)V" } : Jvm.MethodName)) ∈ lw_all := lw_g (lw_at lw_m6 188 rfl) rfl
theorem q1513 : (Jvm.Cond.instanceMethod ({ cls := "OfferSky", name := "keep", desc := "(I)V" } : Jvm.MethodName)) ∈ lw_all := lw_g (lw_at lw_m6 215 rfl) rfl
theorem q1514 : (Jvm.Cond.selects "OfferSky" ({ cls := "OfferSky", name := "keep", desc := "(I)V" } : Jvm.MethodName) ({ cls := "OfferSky", name := "keep", desc := "(I)V" } : Jvm.MethodName)) ∈ lw_all := lw_g (lw_at lw_m6 216 rfl) rfl
theorem q1515 : (Jvm.Cond.code ({ cls := "OfferSky", name := "keep", desc := "(I)V" } : Jvm.MethodName) prog_1_method_26_code (2 : Nat) (Option.none : Option Jvm.ClassFile.FieldType)) ∈ lw_all := lw_g (lw_at lw_m6 217 rfl) rfl
theorem q1516 : (Jvm.Cond.methodLink "OfferSky" (174 : Nat) ({ cls := "OfferSky", name := "isSlot", desc := "(I)Z" } : Jvm.MethodName)) ∈ lw_all := lw_g (lw_at lw_m6 218 rfl) rfl
theorem q1517 : (Jvm.Cond.static ({ cls := "OfferSky", name := "isSlot", desc := "(I)Z" } : Jvm.MethodName)) ∈ lw_all := lw_g (lw_at lw_m6 219 rfl) rfl
theorem q1518 : (Jvm.Cond.code ({ cls := "OfferSky", name := "isSlot", desc := "(I)Z" } : Jvm.MethodName) prog_1_method_25_code (1 : Nat) (Option.some Jvm.ClassFile.FieldType.boolean)) ∈ lw_all := lw_g (lw_at lw_m6 220 rfl) rfl
theorem q1523 : (Jvm.Cond.instanceMethod ({ cls := "OfferSky", name := "goBack", desc := "(I)V" } : Jvm.MethodName)) ∈ lw_all := lw_g (lw_at lw_m6 225 rfl) rfl
theorem q1524 : (Jvm.Cond.selects "OfferSky" ({ cls := "OfferSky", name := "goBack", desc := "(I)V" } : Jvm.MethodName) ({ cls := "OfferSky", name := "goBack", desc := "(I)V" } : Jvm.MethodName)) ∈ lw_all := lw_g (lw_at lw_m6 226 rfl) rfl
theorem q1525 : (Jvm.Cond.code ({ cls := "OfferSky", name := "goBack", desc := "(I)V" } : Jvm.MethodName) prog_1_method_27_code (2 : Nat) (Option.none : Option Jvm.ClassFile.FieldType)) ∈ lw_all := lw_g (lw_at lw_m6 227 rfl) rfl
theorem q1530 : (Jvm.Cond.instanceMethod ({ cls := "OfferSky", name := "undo", desc := "()V" } : Jvm.MethodName)) ∈ lw_all := lw_g (lw_at lw_m6 232 rfl) rfl
theorem q1531 : (Jvm.Cond.selects "OfferSky" ({ cls := "OfferSky", name := "undo", desc := "()V" } : Jvm.MethodName) ({ cls := "OfferSky", name := "undo", desc := "()V" } : Jvm.MethodName)) ∈ lw_all := lw_g (lw_at lw_m6 233 rfl) rfl
theorem q1532 : (Jvm.Cond.code ({ cls := "OfferSky", name := "undo", desc := "()V" } : Jvm.MethodName) prog_1_method_28_code (1 : Nat) (Option.none : Option Jvm.ClassFile.FieldType)) ∈ lw_all := lw_g (lw_at lw_m6 234 rfl) rfl
theorem q1533 : (Jvm.Cond.methodLink "OfferSky" (177 : Nat) ({ cls := "java/util/ArrayDeque", name := "isEmpty", desc := "()Z" } : Jvm.MethodName)) ∈ lw_all := lw_g (lw_at lw_m6 235 rfl) rfl
theorem q1537 : (Jvm.Cond.methodLink "OfferSky" (180 : Nat) ({ cls := "java/util/ArrayDeque", name := "pop", desc := "()Ljava/lang/Object;" } : Jvm.MethodName)) ∈ lw_all := lw_g (lw_at lw_m6 239 rfl) rfl
theorem q1556 : (Jvm.Cond.instanceMethod ({ cls := "OfferSky", name := "valueOf", desc := "(II)I" } : Jvm.MethodName)) ∈ lw_all := lw_g (lw_at lw_m7 18 rfl) rfl
theorem q1557 : (Jvm.Cond.selects "OfferSky" ({ cls := "OfferSky", name := "valueOf", desc := "(II)I" } : Jvm.MethodName) ({ cls := "OfferSky", name := "valueOf", desc := "(II)I" } : Jvm.MethodName)) ∈ lw_all := lw_g (lw_at lw_m7 19 rfl) rfl
theorem q1558 : (Jvm.Cond.code ({ cls := "OfferSky", name := "valueOf", desc := "(II)I" } : Jvm.MethodName) prog_1_method_31_code (3 : Nat) (Option.some Jvm.ClassFile.FieldType.int)) ∈ lw_all := lw_g (lw_at lw_m7 20 rfl) rfl
theorem q1559 : (Jvm.Cond.methodLink "OfferSky" (183 : Nat) ({ cls := "OfferSky", name := "at", desc := "(I)LOfferSky$Offer;" } : Jvm.MethodName)) ∈ lw_all := lw_g (lw_at lw_m7 21 rfl) rfl
theorem q1560 : (Jvm.Cond.privateMethod ({ cls := "OfferSky", name := "at", desc := "(I)LOfferSky$Offer;" } : Jvm.MethodName)) ∈ lw_tbl := lw_at lw_m7 22 rfl
theorem q1561 : (Jvm.Cond.instanceMethod ({ cls := "OfferSky", name := "at", desc := "(I)LOfferSky$Offer;" } : Jvm.MethodName)) ∈ lw_all := lw_g (lw_at lw_m7 23 rfl) rfl
theorem q1562 : (Jvm.Cond.code ({ cls := "OfferSky", name := "at", desc := "(I)LOfferSky$Offer;" } : Jvm.MethodName) prog_1_method_12_code (2 : Nat) (Option.some (Jvm.ClassFile.FieldType.object "OfferSky$Offer"))) ∈ lw_all := lw_g (lw_at lw_m7 24 rfl) rfl
theorem q1567 : (Jvm.Cond.instanceMethod ({ cls := "OfferSky", name := "wishOf", desc := "(I)I" } : Jvm.MethodName)) ∈ lw_all := lw_g (lw_at lw_m7 29 rfl) rfl
theorem q1568 : (Jvm.Cond.selects "OfferSky" ({ cls := "OfferSky", name := "wishOf", desc := "(I)I" } : Jvm.MethodName) ({ cls := "OfferSky", name := "wishOf", desc := "(I)I" } : Jvm.MethodName)) ∈ lw_all := lw_g (lw_at lw_m7 30 rfl) rfl
theorem q1569 : (Jvm.Cond.code ({ cls := "OfferSky", name := "wishOf", desc := "(I)I" } : Jvm.MethodName) prog_1_method_32_code (2 : Nat) (Option.some Jvm.ClassFile.FieldType.int)) ∈ lw_all := lw_g (lw_at lw_m7 31 rfl) rfl
theorem q1574 : (Jvm.Cond.instanceMethod ({ cls := "OfferSky", name := "leastOf", desc := "(I)I" } : Jvm.MethodName)) ∈ lw_all := lw_g (lw_at lw_m7 36 rfl) rfl
theorem q1575 : (Jvm.Cond.selects "OfferSky" ({ cls := "OfferSky", name := "leastOf", desc := "(I)I" } : Jvm.MethodName) ({ cls := "OfferSky", name := "leastOf", desc := "(I)I" } : Jvm.MethodName)) ∈ lw_all := lw_g (lw_at lw_m7 37 rfl) rfl
theorem q1576 : (Jvm.Cond.code ({ cls := "OfferSky", name := "leastOf", desc := "(I)I" } : Jvm.MethodName) prog_1_method_33_code (2 : Nat) (Option.some Jvm.ClassFile.FieldType.int)) ∈ lw_all := lw_g (lw_at lw_m7 38 rfl) rfl
theorem q1581 : (Jvm.Cond.instanceMethod ({ cls := "OfferSky", name := "mostOf", desc := "(I)I" } : Jvm.MethodName)) ∈ lw_all := lw_g (lw_at lw_m7 43 rfl) rfl
theorem q1582 : (Jvm.Cond.selects "OfferSky" ({ cls := "OfferSky", name := "mostOf", desc := "(I)I" } : Jvm.MethodName) ({ cls := "OfferSky", name := "mostOf", desc := "(I)I" } : Jvm.MethodName)) ∈ lw_all := lw_g (lw_at lw_m7 44 rfl) rfl
theorem q1583 : (Jvm.Cond.code ({ cls := "OfferSky", name := "mostOf", desc := "(I)I" } : Jvm.MethodName) prog_1_method_34_code (2 : Nat) (Option.some Jvm.ClassFile.FieldType.int)) ∈ lw_all := lw_g (lw_at lw_m7 45 rfl) rfl
theorem q1588 : (Jvm.Cond.instanceMethod ({ cls := "OfferSky", name := "weightOf", desc := "(I)I" } : Jvm.MethodName)) ∈ lw_all := lw_g (lw_at lw_m7 50 rfl) rfl
theorem q1589 : (Jvm.Cond.selects "OfferSky" ({ cls := "OfferSky", name := "weightOf", desc := "(I)I" } : Jvm.MethodName) ({ cls := "OfferSky", name := "weightOf", desc := "(I)I" } : Jvm.MethodName)) ∈ lw_all := lw_g (lw_at lw_m7 51 rfl) rfl
theorem q1590 : (Jvm.Cond.code ({ cls := "OfferSky", name := "weightOf", desc := "(I)I" } : Jvm.MethodName) prog_1_method_35_code (2 : Nat) (Option.some Jvm.ClassFile.FieldType.int)) ∈ lw_all := lw_g (lw_at lw_m7 52 rfl) rfl
theorem q1595 : (Jvm.Cond.instanceMethod ({ cls := "OfferSky", name := "isCounted", desc := "(I)Z" } : Jvm.MethodName)) ∈ lw_all := lw_g (lw_at lw_m7 57 rfl) rfl
theorem q1596 : (Jvm.Cond.selects "OfferSky" ({ cls := "OfferSky", name := "isCounted", desc := "(I)Z" } : Jvm.MethodName) ({ cls := "OfferSky", name := "isCounted", desc := "(I)Z" } : Jvm.MethodName)) ∈ lw_all := lw_g (lw_at lw_m7 58 rfl) rfl
theorem q1597 : (Jvm.Cond.code ({ cls := "OfferSky", name := "isCounted", desc := "(I)Z" } : Jvm.MethodName) prog_1_method_36_code (2 : Nat) (Option.some Jvm.ClassFile.FieldType.boolean)) ∈ lw_all := lw_g (lw_at lw_m7 59 rfl) rfl
theorem q1602 : (Jvm.Cond.instanceMethod ({ cls := "OfferSky", name := "beats", desc := "(II)Z" } : Jvm.MethodName)) ∈ lw_all := lw_g (lw_at lw_m7 64 rfl) rfl
theorem q1603 : (Jvm.Cond.selects "OfferSky" ({ cls := "OfferSky", name := "beats", desc := "(II)Z" } : Jvm.MethodName) ({ cls := "OfferSky", name := "beats", desc := "(II)Z" } : Jvm.MethodName)) ∈ lw_all := lw_g (lw_at lw_m7 65 rfl) rfl
theorem q1604 : (Jvm.Cond.code ({ cls := "OfferSky", name := "beats", desc := "(II)Z" } : Jvm.MethodName) prog_1_method_38_code (6 : Nat) (Option.some Jvm.ClassFile.FieldType.boolean)) ∈ lw_all := lw_g (lw_at lw_m7 66 rfl) rfl
theorem q1605 : (Jvm.Cond.methodLink "OfferSky" (204 : Nat) ({ cls := "OfferSky$Sides", name := "isAbove", desc := "(LOfferSky$Offer;LOfferSky$Offer;I)Z" } : Jvm.MethodName)) ∈ lw_all := lw_g (lw_at lw_m7 67 rfl) rfl
theorem q1610 : (Jvm.Cond.instanceMethod ({ cls := "OfferSky", name := "betterOn", desc := "(II)I" } : Jvm.MethodName)) ∈ lw_all := lw_g (lw_at lw_m7 72 rfl) rfl
theorem q1611 : (Jvm.Cond.selects "OfferSky" ({ cls := "OfferSky", name := "betterOn", desc := "(II)I" } : Jvm.MethodName) ({ cls := "OfferSky", name := "betterOn", desc := "(II)I" } : Jvm.MethodName)) ∈ lw_all := lw_g (lw_at lw_m7 73 rfl) rfl
theorem q1612 : (Jvm.Cond.code ({ cls := "OfferSky", name := "betterOn", desc := "(II)I" } : Jvm.MethodName) prog_1_method_39_code (3 : Nat) (Option.some Jvm.ClassFile.FieldType.int)) ∈ lw_all := lw_g (lw_at lw_m7 74 rfl) rfl
theorem q1613 : (Jvm.Cond.methodLink "OfferSky" (208 : Nat) ({ cls := "OfferSky$Sides", name := "better", desc := "(LOfferSky$Offer;LOfferSky$Offer;I)I" } : Jvm.MethodName)) ∈ lw_all := lw_g (lw_at lw_m7 75 rfl) rfl
theorem q1618 : (Jvm.Cond.instanceMethod ({ cls := "OfferSky", name := "beatersOf", desc := "(I)I" } : Jvm.MethodName)) ∈ lw_all := lw_g (lw_at lw_m7 80 rfl) rfl
theorem q1619 : (Jvm.Cond.selects "OfferSky" ({ cls := "OfferSky", name := "beatersOf", desc := "(I)I" } : Jvm.MethodName) ({ cls := "OfferSky", name := "beatersOf", desc := "(I)I" } : Jvm.MethodName)) ∈ lw_all := lw_g (lw_at lw_m7 81 rfl) rfl
theorem q1620 : (Jvm.Cond.code ({ cls := "OfferSky", name := "beatersOf", desc := "(I)I" } : Jvm.MethodName) prog_1_method_40_code (2 : Nat) (Option.some Jvm.ClassFile.FieldType.int)) ∈ lw_all := lw_g (lw_at lw_m7 82 rfl) rfl
theorem q1625 : (Jvm.Cond.instanceMethod ({ cls := "OfferSky", name := "beatenBy", desc := "(I)I" } : Jvm.MethodName)) ∈ lw_all := lw_g (lw_at lw_m7 87 rfl) rfl
theorem q1626 : (Jvm.Cond.selects "OfferSky" ({ cls := "OfferSky", name := "beatenBy", desc := "(I)I" } : Jvm.MethodName) ({ cls := "OfferSky", name := "beatenBy", desc := "(I)I" } : Jvm.MethodName)) ∈ lw_all := lw_g (lw_at lw_m7 88 rfl) rfl
theorem q1627 : (Jvm.Cond.code ({ cls := "OfferSky", name := "beatenBy", desc := "(I)I" } : Jvm.MethodName) prog_1_method_41_code (2 : Nat) (Option.some Jvm.ClassFile.FieldType.int)) ∈ lw_all := lw_g (lw_at lw_m7 89 rfl) rfl
theorem q1632 : (Jvm.Cond.instanceMethod ({ cls := "OfferSky", name := "isToldByPairs", desc := "(I)Z" } : Jvm.MethodName)) ∈ lw_all := lw_g (lw_at lw_m7 94 rfl) rfl
theorem q1633 : (Jvm.Cond.selects "OfferSky" ({ cls := "OfferSky", name := "isToldByPairs", desc := "(I)Z" } : Jvm.MethodName) ({ cls := "OfferSky", name := "isToldByPairs", desc := "(I)Z" } : Jvm.MethodName)) ∈ lw_all := lw_g (lw_at lw_m7 95 rfl) rfl
theorem q1634 : (Jvm.Cond.code ({ cls := "OfferSky", name := "isToldByPairs", desc := "(I)Z" } : Jvm.MethodName) prog_1_method_42_code (2 : Nat) (Option.some Jvm.ClassFile.FieldType.boolean)) ∈ lw_all := lw_g (lw_at lw_m7 96 rfl) rfl
theorem q1639 : (Jvm.Cond.instanceMethod ({ cls := "OfferSky", name := "isToldByWindow", desc := "(I)Z" } : Jvm.MethodName)) ∈ lw_all := lw_g (lw_at lw_m7 101 rfl) rfl
theorem q1640 : (Jvm.Cond.selects "OfferSky" ({ cls := "OfferSky", name := "isToldByWindow", desc := "(I)Z" } : Jvm.MethodName) ({ cls := "OfferSky", name := "isToldByWindow", desc := "(I)Z" } : Jvm.MethodName)) ∈ lw_all := lw_g (lw_at lw_m7 102 rfl) rfl
theorem q1641 : (Jvm.Cond.code ({ cls := "OfferSky", name := "isToldByWindow", desc := "(I)Z" } : Jvm.MethodName) prog_1_method_44_code (3 : Nat) (Option.some Jvm.ClassFile.FieldType.boolean)) ∈ lw_all := lw_g (lw_at lw_m7 103 rfl) rfl
theorem q1646 : (Jvm.Cond.instanceMethod ({ cls := "OfferSky", name := "toldAt", desc := "(I)I" } : Jvm.MethodName)) ∈ lw_all := lw_g (lw_at lw_m7 108 rfl) rfl
theorem q1647 : (Jvm.Cond.selects "OfferSky" ({ cls := "OfferSky", name := "toldAt", desc := "(I)I" } : Jvm.MethodName) ({ cls := "OfferSky", name := "toldAt", desc := "(I)I" } : Jvm.MethodName)) ∈ lw_all := lw_g (lw_at lw_m7 109 rfl) rfl
theorem q1648 : (Jvm.Cond.code ({ cls := "OfferSky", name := "toldAt", desc := "(I)I" } : Jvm.MethodName) prog_1_method_48_code (3 : Nat) (Option.some Jvm.ClassFile.FieldType.int)) ∈ lw_all := lw_g (lw_at lw_m7 110 rfl) rfl
theorem q1653 : (Jvm.Cond.instanceMethod ({ cls := "OfferSky", name := "layerByPeeling", desc := "(I)I" } : Jvm.MethodName)) ∈ lw_all := lw_g (lw_at lw_m7 115 rfl) rfl
theorem q1654 : (Jvm.Cond.selects "OfferSky" ({ cls := "OfferSky", name := "layerByPeeling", desc := "(I)I" } : Jvm.MethodName) ({ cls := "OfferSky", name := "layerByPeeling", desc := "(I)I" } : Jvm.MethodName)) ∈ lw_all := lw_g (lw_at lw_m7 116 rfl) rfl
theorem q1655 : (Jvm.Cond.code ({ cls := "OfferSky", name := "layerByPeeling", desc := "(I)I" } : Jvm.MethodName) prog_1_method_49_code (2 : Nat) (Option.some Jvm.ClassFile.FieldType.int)) ∈ lw_all := lw_g (lw_at lw_m7 117 rfl) rfl
theorem q1660 : (Jvm.Cond.instanceMethod ({ cls := "OfferSky", name := "layerByRows", desc := "(I)I" } : Jvm.MethodName)) ∈ lw_all := lw_g (lw_at lw_m7 122 rfl) rfl
theorem q1661 : (Jvm.Cond.selects "OfferSky" ({ cls := "OfferSky", name := "layerByRows", desc := "(I)I" } : Jvm.MethodName) ({ cls := "OfferSky", name := "layerByRows", desc := "(I)I" } : Jvm.MethodName)) ∈ lw_all := lw_g (lw_at lw_m7 123 rfl) rfl
theorem q1662 : (Jvm.Cond.code ({ cls := "OfferSky", name := "layerByRows", desc := "(I)I" } : Jvm.MethodName) prog_1_method_50_code (2 : Nat) (Option.some Jvm.ClassFile.FieldType.int)) ∈ lw_all := lw_g (lw_at lw_m7 124 rfl) rfl
theorem q1667 : (Jvm.Cond.instanceMethod ({ cls := "OfferSky", name := "inLayer", desc := "(I)I" } : Jvm.MethodName)) ∈ lw_all := lw_g (lw_at lw_m7 129 rfl) rfl
theorem q1668 : (Jvm.Cond.selects "OfferSky" ({ cls := "OfferSky", name := "inLayer", desc := "(I)I" } : Jvm.MethodName) ({ cls := "OfferSky", name := "inLayer", desc := "(I)I" } : Jvm.MethodName)) ∈ lw_all := lw_g (lw_at lw_m7 130 rfl) rfl
theorem q1669 : (Jvm.Cond.code ({ cls := "OfferSky", name := "inLayer", desc := "(I)I" } : Jvm.MethodName) prog_1_method_53_code (2 : Nat) (Option.some Jvm.ClassFile.FieldType.int)) ∈ lw_all := lw_g (lw_at lw_m7 131 rfl) rfl
theorem q1670 : (Jvm.Cond.methodLink "OfferSky" (267 : Nat) ({ cls := "OfferSky", name := "manyIn", desc := "([II)I" } : Jvm.MethodName)) ∈ lw_all := lw_g (lw_at lw_m7 132 rfl) rfl
theorem q1671 : (Jvm.Cond.static ({ cls := "OfferSky", name := "manyIn", desc := "([II)I" } : Jvm.MethodName)) ∈ lw_all := lw_g (lw_at lw_m7 133 rfl) rfl
theorem q1672 : (Jvm.Cond.code ({ cls := "OfferSky", name := "manyIn", desc := "([II)I" } : Jvm.MethodName) prog_1_method_52_code (7 : Nat) (Option.some Jvm.ClassFile.FieldType.int)) ∈ lw_all := lw_g (lw_at lw_m7 134 rfl) rfl
theorem q1677 : (Jvm.Cond.instanceMethod ({ cls := "OfferSky", name := "toldOn", desc := "(I)I" } : Jvm.MethodName)) ∈ lw_all := lw_g (lw_at lw_m7 139 rfl) rfl
theorem q1678 : (Jvm.Cond.selects "OfferSky" ({ cls := "OfferSky", name := "toldOn", desc := "(I)I" } : Jvm.MethodName) ({ cls := "OfferSky", name := "toldOn", desc := "(I)I" } : Jvm.MethodName)) ∈ lw_all := lw_g (lw_at lw_m7 140 rfl) rfl
theorem q1679 : (Jvm.Cond.code ({ cls := "OfferSky", name := "toldOn", desc := "(I)I" } : Jvm.MethodName) prog_1_method_54_code (2 : Nat) (Option.some Jvm.ClassFile.FieldType.int)) ∈ lw_all := lw_g (lw_at lw_m7 141 rfl) rfl
theorem q1684 : (Jvm.Cond.instanceMethod ({ cls := "OfferSky", name := "setsFor", desc := "(I)I" } : Jvm.MethodName)) ∈ lw_all := lw_g (lw_at lw_m7 146 rfl) rfl
theorem q1685 : (Jvm.Cond.selects "OfferSky" ({ cls := "OfferSky", name := "setsFor", desc := "(I)I" } : Jvm.MethodName) ({ cls := "OfferSky", name := "setsFor", desc := "(I)I" } : Jvm.MethodName)) ∈ lw_all := lw_g (lw_at lw_m7 147 rfl) rfl
theorem q1686 : (Jvm.Cond.code ({ cls := "OfferSky", name := "setsFor", desc := "(I)I" } : Jvm.MethodName) prog_1_method_55_code (2 : Nat) (Option.some Jvm.ClassFile.FieldType.int)) ∈ lw_all := lw_g (lw_at lw_m7 148 rfl) rfl
theorem q1687 : (Jvm.Cond.methodLink "OfferSky" (274 : Nat) ({ cls := "OfferSky$State", name := "setsOf", desc := "(LOfferSky$Offer;)I" } : Jvm.MethodName)) ∈ lw_all := lw_g (lw_at lw_m7 149 rfl) rfl
theorem q1695 : (Jvm.Cond.instanceMethod ({ cls := "OfferSky", name := "toldWeakly", desc := "(I)I" } : Jvm.MethodName)) ∈ lw_all := lw_g (lw_at lw_m7 157 rfl) rfl
theorem q1696 : (Jvm.Cond.selects "OfferSky" ({ cls := "OfferSky", name := "toldWeakly", desc := "(I)I" } : Jvm.MethodName) ({ cls := "OfferSky", name := "toldWeakly", desc := "(I)I" } : Jvm.MethodName)) ∈ lw_all := lw_g (lw_at lw_m7 158 rfl) rfl
theorem q1697 : (Jvm.Cond.code ({ cls := "OfferSky", name := "toldWeakly", desc := "(I)I" } : Jvm.MethodName) prog_1_method_56_code (2 : Nat) (Option.some Jvm.ClassFile.FieldType.int)) ∈ lw_all := lw_g (lw_at lw_m7 159 rfl) rfl
theorem q1702 : (Jvm.Cond.instanceMethod ({ cls := "OfferSky", name := "wouldBeTold", desc := "(IIII)Z" } : Jvm.MethodName)) ∈ lw_all := lw_g (lw_at lw_m7 164 rfl) rfl
theorem q1703 : (Jvm.Cond.selects "OfferSky" ({ cls := "OfferSky", name := "wouldBeTold", desc := "(IIII)Z" } : Jvm.MethodName) ({ cls := "OfferSky", name := "wouldBeTold", desc := "(IIII)Z" } : Jvm.MethodName)) ∈ lw_all := lw_g (lw_at lw_m7 165 rfl) rfl
theorem q1704 : (Jvm.Cond.code ({ cls := "OfferSky", name := "wouldBeTold", desc := "(IIII)Z" } : Jvm.MethodName) prog_1_method_57_code (5 : Nat) (Option.some Jvm.ClassFile.FieldType.boolean)) ∈ lw_all := lw_g (lw_at lw_m7 166 rfl) rfl
theorem q1705 : (Jvm.Cond.methodLink "OfferSky" (280 : Nat) ({ cls := "OfferSky$State", name := "wouldStand", desc := "(LOfferSky$Offer;)Z" } : Jvm.MethodName)) ∈ lw_all := lw_g (lw_at lw_m7 167 rfl) rfl
theorem q1713 : (Jvm.Cond.instanceMethod ({ cls := "OfferSky", name := "wouldBeat", desc := "(IIII)I" } : Jvm.MethodName)) ∈ lw_all := lw_g (lw_at lw_m7 175 rfl) rfl
theorem q1714 : (Jvm.Cond.selects "OfferSky" ({ cls := "OfferSky", name := "wouldBeat", desc := "(IIII)I" } : Jvm.MethodName) ({ cls := "OfferSky", name := "wouldBeat", desc := "(IIII)I" } : Jvm.MethodName)) ∈ lw_all := lw_g (lw_at lw_m7 176 rfl) rfl
theorem q1715 : (Jvm.Cond.code ({ cls := "OfferSky", name := "wouldBeat", desc := "(IIII)I" } : Jvm.MethodName) prog_1_method_58_code (5 : Nat) (Option.some Jvm.ClassFile.FieldType.int)) ∈ lw_all := lw_g (lw_at lw_m7 177 rfl) rfl
theorem q1716 : (Jvm.Cond.methodLink "OfferSky" (283 : Nat) ({ cls := "OfferSky$State", name := "wouldFall", desc := "(LOfferSky$Offer;)I" } : Jvm.MethodName)) ∈ lw_all := lw_g (lw_at lw_m7 178 rfl) rfl
theorem q1727 : (Jvm.Cond.instanceMethod ({ cls := "OfferSky", name := "raiseByTrying", desc := "(II)I" } : Jvm.MethodName)) ∈ lw_all := lw_g (lw_at lw_m7 189 rfl) rfl
theorem q1728 : (Jvm.Cond.selects "OfferSky" ({ cls := "OfferSky", name := "raiseByTrying", desc := "(II)I" } : Jvm.MethodName) ({ cls := "OfferSky", name := "raiseByTrying", desc := "(II)I" } : Jvm.MethodName)) ∈ lw_all := lw_g (lw_at lw_m7 190 rfl) rfl
theorem q1729 : (Jvm.Cond.code ({ cls := "OfferSky", name := "raiseByTrying", desc := "(II)I" } : Jvm.MethodName) prog_1_method_60_code (3 : Nat) (Option.some Jvm.ClassFile.FieldType.int)) ∈ lw_all := lw_g (lw_at lw_m7 191 rfl) rfl
theorem q1730 : (Jvm.Cond.methodLink "OfferSky" (286 : Nat) ({ cls := "OfferSky$State", name := "triedRaise", desc := "(LOfferSky$Offer;I)I" } : Jvm.MethodName)) ∈ lw_all := lw_g (lw_at lw_m7 192 rfl) rfl
theorem q1749 : (Jvm.Cond.methodLink "OfferSky" (290 : Nat) ({ cls := "OfferSky", name := "told", desc := "(I)I" } : Jvm.MethodName)) ∈ lw_all := lw_g (lw_at lw_m7 211 rfl) rfl
theorem q1750 : (Jvm.Cond.static ({ cls := "OfferSky", name := "told", desc := "(I)I" } : Jvm.MethodName)) ∈ lw_all := lw_g (lw_at lw_m7 212 rfl) rfl
theorem q1751 : (Jvm.Cond.code ({ cls := "OfferSky", name := "told", desc := "(I)I" } : Jvm.MethodName) prog_1_method_59_code (1 : Nat) (Option.some Jvm.ClassFile.FieldType.int)) ∈ lw_all := lw_g (lw_at lw_m7 213 rfl) rfl
theorem q1756 : (Jvm.Cond.instanceMethod ({ cls := "OfferSky", name := "raiseByBeaters", desc := "(II)I" } : Jvm.MethodName)) ∈ lw_all := lw_g (lw_at lw_m7 218 rfl) rfl
theorem q1757 : (Jvm.Cond.selects "OfferSky" ({ cls := "OfferSky", name := "raiseByBeaters", desc := "(II)I" } : Jvm.MethodName) ({ cls := "OfferSky", name := "raiseByBeaters", desc := "(II)I" } : Jvm.MethodName)) ∈ lw_all := lw_g (lw_at lw_m7 219 rfl) rfl
theorem q1758 : (Jvm.Cond.code ({ cls := "OfferSky", name := "raiseByBeaters", desc := "(II)I" } : Jvm.MethodName) prog_1_method_61_code (3 : Nat) (Option.some Jvm.ClassFile.FieldType.int)) ∈ lw_all := lw_g (lw_at lw_m7 220 rfl) rfl
theorem q1759 : (Jvm.Cond.methodLink "OfferSky" (292 : Nat) ({ cls := "OfferSky$State", name := "reckonedRaise", desc := "(LOfferSky$Offer;I)I" } : Jvm.MethodName)) ∈ lw_all := lw_g (lw_at lw_m7 221 rfl) rfl
theorem q1772 : (Jvm.Cond.instanceMethod ({ cls := "OfferSky", name := "coveredGreedily", desc := "(I)I" } : Jvm.MethodName)) ∈ lw_all := lw_g (lw_at lw_m7 234 rfl) rfl
theorem q1773 : (Jvm.Cond.selects "OfferSky" ({ cls := "OfferSky", name := "coveredGreedily", desc := "(I)I" } : Jvm.MethodName) ({ cls := "OfferSky", name := "coveredGreedily", desc := "(I)I" } : Jvm.MethodName)) ∈ lw_all := lw_g (lw_at lw_m7 235 rfl) rfl
theorem q1774 : (Jvm.Cond.code ({ cls := "OfferSky", name := "coveredGreedily", desc := "(I)I" } : Jvm.MethodName) prog_1_method_62_code (2 : Nat) (Option.some Jvm.ClassFile.FieldType.int)) ∈ lw_all := lw_g (lw_at lw_m7 236 rfl) rfl
theorem q1779 : (Jvm.Cond.instanceMethod ({ cls := "OfferSky", name := "takenAt", desc := "(I)I" } : Jvm.MethodName)) ∈ lw_all := lw_g (lw_at lw_m8 1 rfl) rfl
theorem q1780 : (Jvm.Cond.selects "OfferSky" ({ cls := "OfferSky", name := "takenAt", desc := "(I)I" } : Jvm.MethodName) ({ cls := "OfferSky", name := "takenAt", desc := "(I)I" } : Jvm.MethodName)) ∈ lw_all := lw_g (lw_at lw_m8 2 rfl) rfl
theorem q1781 : (Jvm.Cond.code ({ cls := "OfferSky", name := "takenAt", desc := "(I)I" } : Jvm.MethodName) prog_1_method_64_code (3 : Nat) (Option.some Jvm.ClassFile.FieldType.int)) ∈ lw_all := lw_g (lw_at lw_m8 3 rfl) rfl
theorem q1786 : (Jvm.Cond.instanceMethod ({ cls := "OfferSky", name := "scoreOf", desc := "(I)I" } : Jvm.MethodName)) ∈ lw_all := lw_g (lw_at lw_m8 8 rfl) rfl
theorem q1787 : (Jvm.Cond.selects "OfferSky" ({ cls := "OfferSky", name := "scoreOf", desc := "(I)I" } : Jvm.MethodName) ({ cls := "OfferSky", name := "scoreOf", desc := "(I)I" } : Jvm.MethodName)) ∈ lw_all := lw_g (lw_at lw_m8 9 rfl) rfl
theorem q1788 : (Jvm.Cond.code ({ cls := "OfferSky", name := "scoreOf", desc := "(I)I" } : Jvm.MethodName) prog_1_method_65_code (2 : Nat) (Option.some Jvm.ClassFile.FieldType.int)) ∈ lw_all := lw_g (lw_at lw_m8 10 rfl) rfl
theorem q1793 : (Jvm.Cond.instanceMethod ({ cls := "OfferSky", name := "byScore", desc := "(I)I" } : Jvm.MethodName)) ∈ lw_all := lw_g (lw_at lw_m8 15 rfl) rfl
theorem q1794 : (Jvm.Cond.selects "OfferSky" ({ cls := "OfferSky", name := "byScore", desc := "(I)I" } : Jvm.MethodName) ({ cls := "OfferSky", name := "byScore", desc := "(I)I" } : Jvm.MethodName)) ∈ lw_all := lw_g (lw_at lw_m8 16 rfl) rfl
theorem q1795 : (Jvm.Cond.code ({ cls := "OfferSky", name := "byScore", desc := "(I)I" } : Jvm.MethodName) prog_1_method_66_code (3 : Nat) (Option.some Jvm.ClassFile.FieldType.int)) ∈ lw_all := lw_g (lw_at lw_m8 17 rfl) rfl
theorem q1800 : (Jvm.Cond.instanceMethod ({ cls := "OfferSky", name := "reachByPairs", desc := "(II)I" } : Jvm.MethodName)) ∈ lw_all := lw_g (lw_at lw_m8 22 rfl) rfl
theorem q1801 : (Jvm.Cond.selects "OfferSky" ({ cls := "OfferSky", name := "reachByPairs", desc := "(II)I" } : Jvm.MethodName) ({ cls := "OfferSky", name := "reachByPairs", desc := "(II)I" } : Jvm.MethodName)) ∈ lw_all := lw_g (lw_at lw_m8 23 rfl) rfl
theorem q1802 : (Jvm.Cond.code ({ cls := "OfferSky", name := "reachByPairs", desc := "(II)I" } : Jvm.MethodName) prog_1_method_68_code (3 : Nat) (Option.some Jvm.ClassFile.FieldType.int)) ∈ lw_all := lw_g (lw_at lw_m8 24 rfl) rfl
theorem q1803 : (Jvm.Cond.methodLink "OfferSky" (310 : Nat) ({ cls := "OfferSky", name := "areSides", desc := "(II)Z" } : Jvm.MethodName)) ∈ lw_all := lw_g (lw_at lw_m8 25 rfl) rfl
theorem q1804 : (Jvm.Cond.static ({ cls := "OfferSky", name := "areSides", desc := "(II)Z" } : Jvm.MethodName)) ∈ lw_all := lw_g (lw_at lw_m8 26 rfl) rfl
theorem q1805 : (Jvm.Cond.code ({ cls := "OfferSky", name := "areSides", desc := "(II)Z" } : Jvm.MethodName) prog_1_method_67_code (2 : Nat) (Option.some Jvm.ClassFile.FieldType.boolean)) ∈ lw_all := lw_g (lw_at lw_m8 27 rfl) rfl
theorem q1810 : (Jvm.Cond.instanceMethod ({ cls := "OfferSky", name := "reachBySteps", desc := "(II)I" } : Jvm.MethodName)) ∈ lw_all := lw_g (lw_at lw_m8 32 rfl) rfl
theorem q1811 : (Jvm.Cond.selects "OfferSky" ({ cls := "OfferSky", name := "reachBySteps", desc := "(II)I" } : Jvm.MethodName) ({ cls := "OfferSky", name := "reachBySteps", desc := "(II)I" } : Jvm.MethodName)) ∈ lw_all := lw_g (lw_at lw_m8 33 rfl) rfl
theorem q1812 : (Jvm.Cond.code ({ cls := "OfferSky", name := "reachBySteps", desc := "(II)I" } : Jvm.MethodName) prog_1_method_69_code (3 : Nat) (Option.some Jvm.ClassFile.FieldType.int)) ∈ lw_all := lw_g (lw_at lw_m8 34 rfl) rfl
theorem q2317 : (Jvm.Cond.castable "OfferSky" "java/lang/Object") ∈ lw_tbl := lw_at lw_m10 59 rfl
theorem in_X1 : ∀ w ∈ wsX10, w ∈ lw_all := lw_in wsX10 [286, 288, 290, 292, 294] (by decide +kernel) (by decide +kernel)
