/-! OfferSky$Bag -/
set_option maxRecDepth 100000
def RX3 : String := "OfferSky$Bag"
def TX3 : u_T := fun k => match k with
  | _ => ("OfferSky$Bag", "things", "Ljava/util/ArrayList;", true)
def tyX3 : Nat → FieldType := fun k => match k with
  | _ => .object "java/util/ArrayList"
abbrev wsX30 : List Cond := u_ws RX3 TX3 1
theorem nmX3 : ∀ a, a < 1 → ∀ b, b < 1 → a ≠ b → (TX3 a).2.1 ≠ (TX3 b).2.1 := by decide +kernel
theorem tyX3_ok : ∀ k, k < 1 → parseFieldDescriptor (TX3 k).2.2.1 = some (tyX3 k) := by decide +kernel
abbrev cX3_init : ByteArray := prog_2_method_1_code
def yX3_init : MethodName := ⟨RX3, "<init>", "()V"⟩
def dkwX3_init_0 : List UInt8 := [42, 183, 0, 1, 42, 187, 0, 7, 89, 183, 0, 9, 181, 0, 10, 177]
abbrev dktX3_init_0 : List UInt8 := dkwX3_init_0 ++ []
theorem dksX3_init_0 : cX3_init.data.toList.drop 0 = dktX3_init_0 := by decide +kernel
theorem dX3_init_0 : decode cX3_init 0 = .ok (.aload_n 0, 1) := dk_42 (dk_at dksX3_init_0 0 rfl rfl)
theorem dX3_init_1 : decode cX3_init 1 = .ok (.invokespecial 1, 3) := dk_183 0 1 (dk_at dksX3_init_0 1 rfl rfl)
theorem dX3_init_4 : decode cX3_init 4 = .ok (.aload_n 0, 1) := dk_42 (dk_at dksX3_init_0 4 rfl rfl)
theorem dX3_init_5 : decode cX3_init 5 = .ok (.new 7, 3) := dk_187 0 7 (dk_at dksX3_init_0 5 rfl rfl)
theorem dX3_init_8 : decode cX3_init 8 = .ok (.dup, 1) := dk_89 (dk_at dksX3_init_0 8 rfl rfl)
theorem dX3_init_9 : decode cX3_init 9 = .ok (.invokespecial 9, 3) := dk_183 0 9 (dk_at dksX3_init_0 9 rfl rfl)
theorem dX3_init_12 : decode cX3_init 12 = .ok (.putfield 10, 3) := dk_181 0 10 (dk_at dksX3_init_0 12 rfl rfl)
theorem dX3_init_15 : decode cX3_init 15 = .ok (.return_, 1) := dk_177 (dk_at dksX3_init_0 15 rfl rfl)
abbrev cX3_copy : ByteArray := prog_2_method_6_code
def yX3_copy : MethodName := ⟨RX3, "copy", "()LOfferSky$Bag;"⟩
def dkwX3_copy_1 : List UInt8 := [180, 0, 10, 28, 182, 0, 20, 182, 0, 32, 132, 2, 1, 167, 255, 230, 43, 176]
abbrev dktX3_copy_1 : List UInt8 := dkwX3_copy_1 ++ []
def dkwX3_copy_0 : List UInt8 := [187, 0, 11, 89, 183, 0, 31, 76, 3, 61, 28, 42, 180, 0, 10, 182, 0, 16, 162, 0, 21, 43, 42]
abbrev dktX3_copy_0 : List UInt8 := dkwX3_copy_0 ++ dktX3_copy_1
theorem dksX3_copy_0 : cX3_copy.data.toList.drop 0 = dktX3_copy_0 := by decide +kernel
theorem dksX3_copy_1 : cX3_copy.data.toList.drop 23 = dktX3_copy_1 := dk_seg dksX3_copy_0 23 rfl rfl
theorem dX3_copy_0 : decode cX3_copy 0 = .ok (.new 11, 3) := dk_187 0 11 (dk_at dksX3_copy_0 0 rfl rfl)
theorem dX3_copy_3 : decode cX3_copy 3 = .ok (.dup, 1) := dk_89 (dk_at dksX3_copy_0 3 rfl rfl)
theorem dX3_copy_4 : decode cX3_copy 4 = .ok (.invokespecial 31, 3) := dk_183 0 31 (dk_at dksX3_copy_0 4 rfl rfl)
theorem dX3_copy_7 : decode cX3_copy 7 = .ok (.astore_n 1, 1) := dk_76 (dk_at dksX3_copy_0 7 rfl rfl)
theorem dX3_copy_8 : decode cX3_copy 8 = .ok (.iconst 0, 1) := dk_3 (dk_at dksX3_copy_0 8 rfl rfl)
theorem dX3_copy_9 : decode cX3_copy 9 = .ok (.istore_n 2, 1) := dk_61 (dk_at dksX3_copy_0 9 rfl rfl)
theorem dX3_copy_10 : decode cX3_copy 10 = .ok (.iload_n 2, 1) := dk_28 (dk_at dksX3_copy_0 10 rfl rfl)
theorem dX3_copy_11 : decode cX3_copy 11 = .ok (.aload_n 0, 1) := dk_42 (dk_at dksX3_copy_0 11 rfl rfl)
theorem dX3_copy_12 : decode cX3_copy 12 = .ok (.getfield 10, 3) := dk_180 0 10 (dk_at dksX3_copy_0 12 rfl rfl)
theorem dX3_copy_15 : decode cX3_copy 15 = .ok (.invokevirtual 16, 3) := dk_182 0 16 (dk_at dksX3_copy_0 15 rfl rfl)
theorem dX3_copy_18 : decode cX3_copy 18 = .ok (.if_icmp .ge 21, 3) := dk_162 0 21 (dk_at dksX3_copy_0 18 rfl rfl)
theorem dX3_copy_21 : decode cX3_copy 21 = .ok (.aload_n 1, 1) := dk_43 (dk_at dksX3_copy_0 21 rfl rfl)
theorem dX3_copy_22 : decode cX3_copy 22 = .ok (.aload_n 0, 1) := dk_42 (dk_at dksX3_copy_0 22 rfl rfl)
theorem dX3_copy_23 : decode cX3_copy 23 = .ok (.getfield 10, 3) := dk_180 0 10 (dk_at dksX3_copy_1 0 rfl rfl)
theorem dX3_copy_26 : decode cX3_copy 26 = .ok (.iload_n 2, 1) := dk_28 (dk_at dksX3_copy_1 3 rfl rfl)
theorem dX3_copy_27 : decode cX3_copy 27 = .ok (.invokevirtual 20, 3) := dk_182 0 20 (dk_at dksX3_copy_1 4 rfl rfl)
theorem dX3_copy_30 : decode cX3_copy 30 = .ok (.invokevirtual 32, 3) := dk_182 0 32 (dk_at dksX3_copy_1 7 rfl rfl)
theorem dX3_copy_33 : decode cX3_copy 33 = .ok (.iinc 2 1, 3) := dk_132 2 1 (dk_at dksX3_copy_1 10 rfl rfl)
theorem dX3_copy_36 : decode cX3_copy 36 = .ok (.goto (-26), 3) := dk_167 255 230 (dk_at dksX3_copy_1 13 rfl rfl)
theorem dX3_copy_39 : decode cX3_copy 39 = .ok (.aload_n 1, 1) := dk_43 (dk_at dksX3_copy_1 16 rfl rfl)
theorem dX3_copy_40 : decode cX3_copy 40 = .ok (.areturn, 1) := dk_176 (dk_at dksX3_copy_1 17 rfl rfl)
abbrev cX3_adds : ByteArray := prog_2_method_4_code
def yX3_adds : MethodName := ⟨RX3, "adds", "(Ljava/lang/Object;)V"⟩
def dkwX3_adds_0 : List UInt8 := [42, 180, 0, 10, 43, 182, 0, 24, 61, 177]
abbrev dktX3_adds_0 : List UInt8 := dkwX3_adds_0 ++ []
theorem dksX3_adds_0 : cX3_adds.data.toList.drop 0 = dktX3_adds_0 := by decide +kernel
theorem dX3_adds_0 : decode cX3_adds 0 = .ok (.aload_n 0, 1) := dk_42 (dk_at dksX3_adds_0 0 rfl rfl)
theorem dX3_adds_1 : decode cX3_adds 1 = .ok (.getfield 10, 3) := dk_180 0 10 (dk_at dksX3_adds_0 1 rfl rfl)
theorem dX3_adds_4 : decode cX3_adds 4 = .ok (.aload_n 1, 1) := dk_43 (dk_at dksX3_adds_0 4 rfl rfl)
theorem dX3_adds_5 : decode cX3_adds 5 = .ok (.invokevirtual 24, 3) := dk_182 0 24 (dk_at dksX3_adds_0 5 rfl rfl)
theorem dX3_adds_8 : decode cX3_adds 8 = .ok (.istore_n 2, 1) := dk_61 (dk_at dksX3_adds_0 8 rfl rfl)
theorem dX3_adds_9 : decode cX3_adds 9 = .ok (.return_, 1) := dk_177 (dk_at dksX3_adds_0 9 rfl rfl)
abbrev cX3_those : ByteArray := prog_2_method_9_code
def yX3_those : MethodName := ⟨RX3, "those", "(LOfferSky$Choice;)LOfferSky$Bag;"⟩
def dkwX3_those_2 : List UInt8 := [182, 0, 32, 132, 3, 1, 167, 255, 213, 44, 176]
abbrev dktX3_those_2 : List UInt8 := dkwX3_those_2 ++ []
def dkwX3_those_1 : List UInt8 := [180, 0, 10, 29, 182, 0, 20, 185, 0, 36, 2, 0, 153, 0, 15, 44, 42, 180, 0, 10, 29, 182, 0, 20]
abbrev dktX3_those_1 : List UInt8 := dkwX3_those_1 ++ dktX3_those_2
def dkwX3_those_0 : List UInt8 := [187, 0, 11, 89, 183, 0, 31, 77, 3, 62, 29, 42, 180, 0, 10, 182, 0, 16, 162, 0, 38, 43, 42]
abbrev dktX3_those_0 : List UInt8 := dkwX3_those_0 ++ dktX3_those_1
theorem dksX3_those_0 : cX3_those.data.toList.drop 0 = dktX3_those_0 := by decide +kernel
theorem dksX3_those_1 : cX3_those.data.toList.drop 23 = dktX3_those_1 := dk_seg dksX3_those_0 23 rfl rfl
theorem dksX3_those_2 : cX3_those.data.toList.drop 47 = dktX3_those_2 := dk_seg dksX3_those_1 24 rfl rfl
theorem dX3_those_0 : decode cX3_those 0 = .ok (.new 11, 3) := dk_187 0 11 (dk_at dksX3_those_0 0 rfl rfl)
theorem dX3_those_3 : decode cX3_those 3 = .ok (.dup, 1) := dk_89 (dk_at dksX3_those_0 3 rfl rfl)
theorem dX3_those_4 : decode cX3_those 4 = .ok (.invokespecial 31, 3) := dk_183 0 31 (dk_at dksX3_those_0 4 rfl rfl)
theorem dX3_those_7 : decode cX3_those 7 = .ok (.astore_n 2, 1) := dk_77 (dk_at dksX3_those_0 7 rfl rfl)
theorem dX3_those_8 : decode cX3_those 8 = .ok (.iconst 0, 1) := dk_3 (dk_at dksX3_those_0 8 rfl rfl)
theorem dX3_those_9 : decode cX3_those 9 = .ok (.istore_n 3, 1) := dk_62 (dk_at dksX3_those_0 9 rfl rfl)
theorem dX3_those_10 : decode cX3_those 10 = .ok (.iload_n 3, 1) := dk_29 (dk_at dksX3_those_0 10 rfl rfl)
theorem dX3_those_11 : decode cX3_those 11 = .ok (.aload_n 0, 1) := dk_42 (dk_at dksX3_those_0 11 rfl rfl)
theorem dX3_those_12 : decode cX3_those 12 = .ok (.getfield 10, 3) := dk_180 0 10 (dk_at dksX3_those_0 12 rfl rfl)
theorem dX3_those_15 : decode cX3_those 15 = .ok (.invokevirtual 16, 3) := dk_182 0 16 (dk_at dksX3_those_0 15 rfl rfl)
theorem dX3_those_18 : decode cX3_those 18 = .ok (.if_icmp .ge 38, 3) := dk_162 0 38 (dk_at dksX3_those_0 18 rfl rfl)
theorem dX3_those_21 : decode cX3_those 21 = .ok (.aload_n 1, 1) := dk_43 (dk_at dksX3_those_0 21 rfl rfl)
theorem dX3_those_22 : decode cX3_those 22 = .ok (.aload_n 0, 1) := dk_42 (dk_at dksX3_those_0 22 rfl rfl)
theorem dX3_those_23 : decode cX3_those 23 = .ok (.getfield 10, 3) := dk_180 0 10 (dk_at dksX3_those_1 0 rfl rfl)
theorem dX3_those_26 : decode cX3_those 26 = .ok (.iload_n 3, 1) := dk_29 (dk_at dksX3_those_1 3 rfl rfl)
theorem dX3_those_27 : decode cX3_those 27 = .ok (.invokevirtual 20, 3) := dk_182 0 20 (dk_at dksX3_those_1 4 rfl rfl)
theorem dX3_those_30 : decode cX3_those 30 = .ok (.invokeinterface 36 2, 5) := by decide +kernel
theorem dX3_those_35 : decode cX3_those 35 = .ok (.ifCond .eq 15, 3) := dk_153 0 15 (dk_at dksX3_those_1 12 rfl rfl)
theorem dX3_those_38 : decode cX3_those 38 = .ok (.aload_n 2, 1) := dk_44 (dk_at dksX3_those_1 15 rfl rfl)
theorem dX3_those_39 : decode cX3_those 39 = .ok (.aload_n 0, 1) := dk_42 (dk_at dksX3_those_1 16 rfl rfl)
theorem dX3_those_40 : decode cX3_those 40 = .ok (.getfield 10, 3) := dk_180 0 10 (dk_at dksX3_those_1 17 rfl rfl)
theorem dX3_those_43 : decode cX3_those 43 = .ok (.iload_n 3, 1) := dk_29 (dk_at dksX3_those_1 20 rfl rfl)
theorem dX3_those_44 : decode cX3_those 44 = .ok (.invokevirtual 20, 3) := dk_182 0 20 (dk_at dksX3_those_1 21 rfl rfl)
theorem dX3_those_47 : decode cX3_those 47 = .ok (.invokevirtual 32, 3) := dk_182 0 32 (dk_at dksX3_those_2 0 rfl rfl)
theorem dX3_those_50 : decode cX3_those 50 = .ok (.iinc 3 1, 3) := dk_132 3 1 (dk_at dksX3_those_2 3 rfl rfl)
theorem dX3_those_53 : decode cX3_those 53 = .ok (.goto (-43), 3) := dk_167 255 213 (dk_at dksX3_those_2 6 rfl rfl)
theorem dX3_those_56 : decode cX3_those 56 = .ok (.aload_n 2, 1) := dk_44 (dk_at dksX3_those_2 9 rfl rfl)
theorem dX3_those_57 : decode cX3_those 57 = .ok (.areturn, 1) := dk_176 (dk_at dksX3_those_2 10 rfl rfl)
abbrev cX3_size : ByteArray := prog_2_method_2_code
def yX3_size : MethodName := ⟨RX3, "size", "()I"⟩
def dkwX3_size_0 : List UInt8 := [42, 180, 0, 10, 182, 0, 16, 172]
abbrev dktX3_size_0 : List UInt8 := dkwX3_size_0 ++ []
theorem dksX3_size_0 : cX3_size.data.toList.drop 0 = dktX3_size_0 := by decide +kernel
theorem dX3_size_0 : decode cX3_size 0 = .ok (.aload_n 0, 1) := dk_42 (dk_at dksX3_size_0 0 rfl rfl)
theorem dX3_size_1 : decode cX3_size 1 = .ok (.getfield 10, 3) := dk_180 0 10 (dk_at dksX3_size_0 1 rfl rfl)
theorem dX3_size_4 : decode cX3_size 4 = .ok (.invokevirtual 16, 3) := dk_182 0 16 (dk_at dksX3_size_0 4 rfl rfl)
theorem dX3_size_7 : decode cX3_size 7 = .ok (.ireturn, 1) := dk_172 (dk_at dksX3_size_0 7 rfl rfl)
abbrev cX3_get : ByteArray := prog_2_method_3_code
def yX3_get : MethodName := ⟨RX3, "get", "(I)Ljava/lang/Object;"⟩
def dkwX3_get_0 : List UInt8 := [42, 180, 0, 10, 27, 182, 0, 20, 176]
abbrev dktX3_get_0 : List UInt8 := dkwX3_get_0 ++ []
theorem dksX3_get_0 : cX3_get.data.toList.drop 0 = dktX3_get_0 := by decide +kernel
theorem dX3_get_0 : decode cX3_get 0 = .ok (.aload_n 0, 1) := dk_42 (dk_at dksX3_get_0 0 rfl rfl)
theorem dX3_get_1 : decode cX3_get 1 = .ok (.getfield 10, 3) := dk_180 0 10 (dk_at dksX3_get_0 1 rfl rfl)
theorem dX3_get_4 : decode cX3_get 4 = .ok (.iload_n 1, 1) := dk_27 (dk_at dksX3_get_0 4 rfl rfl)
theorem dX3_get_5 : decode cX3_get 5 = .ok (.invokevirtual 20, 3) := dk_182 0 20 (dk_at dksX3_get_0 5 rfl rfl)
theorem dX3_get_8 : decode cX3_get 8 = .ok (.areturn, 1) := dk_176 (dk_at dksX3_get_0 8 rfl rfl)
abbrev cX3_hasOne : ByteArray := prog_2_method_8_code
def yX3_hasOne : MethodName := ⟨RX3, "hasOne", "(LOfferSky$Choice;)Z"⟩
def dkwX3_hasOne_1 : List UInt8 := [29, 182, 0, 20, 185, 0, 36, 2, 0, 61, 132, 3, 1, 167, 255, 223, 28, 172]
abbrev dktX3_hasOne_1 : List UInt8 := dkwX3_hasOne_1 ++ []
def dkwX3_hasOne_0 : List UInt8 := [3, 61, 3, 62, 29, 42, 180, 0, 10, 182, 0, 16, 162, 0, 28, 28, 154, 0, 24, 43, 42, 180, 0, 10]
abbrev dktX3_hasOne_0 : List UInt8 := dkwX3_hasOne_0 ++ dktX3_hasOne_1
theorem dksX3_hasOne_0 : cX3_hasOne.data.toList.drop 0 = dktX3_hasOne_0 := by decide +kernel
theorem dksX3_hasOne_1 : cX3_hasOne.data.toList.drop 24 = dktX3_hasOne_1 := dk_seg dksX3_hasOne_0 24 rfl rfl
theorem dX3_hasOne_0 : decode cX3_hasOne 0 = .ok (.iconst 0, 1) := dk_3 (dk_at dksX3_hasOne_0 0 rfl rfl)
theorem dX3_hasOne_1 : decode cX3_hasOne 1 = .ok (.istore_n 2, 1) := dk_61 (dk_at dksX3_hasOne_0 1 rfl rfl)
theorem dX3_hasOne_2 : decode cX3_hasOne 2 = .ok (.iconst 0, 1) := dk_3 (dk_at dksX3_hasOne_0 2 rfl rfl)
theorem dX3_hasOne_3 : decode cX3_hasOne 3 = .ok (.istore_n 3, 1) := dk_62 (dk_at dksX3_hasOne_0 3 rfl rfl)
theorem dX3_hasOne_4 : decode cX3_hasOne 4 = .ok (.iload_n 3, 1) := dk_29 (dk_at dksX3_hasOne_0 4 rfl rfl)
theorem dX3_hasOne_5 : decode cX3_hasOne 5 = .ok (.aload_n 0, 1) := dk_42 (dk_at dksX3_hasOne_0 5 rfl rfl)
theorem dX3_hasOne_6 : decode cX3_hasOne 6 = .ok (.getfield 10, 3) := dk_180 0 10 (dk_at dksX3_hasOne_0 6 rfl rfl)
theorem dX3_hasOne_9 : decode cX3_hasOne 9 = .ok (.invokevirtual 16, 3) := dk_182 0 16 (dk_at dksX3_hasOne_0 9 rfl rfl)
theorem dX3_hasOne_12 : decode cX3_hasOne 12 = .ok (.if_icmp .ge 28, 3) := dk_162 0 28 (dk_at dksX3_hasOne_0 12 rfl rfl)
theorem dX3_hasOne_15 : decode cX3_hasOne 15 = .ok (.iload_n 2, 1) := dk_28 (dk_at dksX3_hasOne_0 15 rfl rfl)
theorem dX3_hasOne_16 : decode cX3_hasOne 16 = .ok (.ifCond .ne 24, 3) := dk_154 0 24 (dk_at dksX3_hasOne_0 16 rfl rfl)
theorem dX3_hasOne_19 : decode cX3_hasOne 19 = .ok (.aload_n 1, 1) := dk_43 (dk_at dksX3_hasOne_0 19 rfl rfl)
theorem dX3_hasOne_20 : decode cX3_hasOne 20 = .ok (.aload_n 0, 1) := dk_42 (dk_at dksX3_hasOne_0 20 rfl rfl)
theorem dX3_hasOne_21 : decode cX3_hasOne 21 = .ok (.getfield 10, 3) := dk_180 0 10 (dk_at dksX3_hasOne_0 21 rfl rfl)
theorem dX3_hasOne_24 : decode cX3_hasOne 24 = .ok (.iload_n 3, 1) := dk_29 (dk_at dksX3_hasOne_1 0 rfl rfl)
theorem dX3_hasOne_25 : decode cX3_hasOne 25 = .ok (.invokevirtual 20, 3) := dk_182 0 20 (dk_at dksX3_hasOne_1 1 rfl rfl)
theorem dX3_hasOne_28 : decode cX3_hasOne 28 = .ok (.invokeinterface 36 2, 5) := by decide +kernel
theorem dX3_hasOne_33 : decode cX3_hasOne 33 = .ok (.istore_n 2, 1) := dk_61 (dk_at dksX3_hasOne_1 9 rfl rfl)
theorem dX3_hasOne_34 : decode cX3_hasOne 34 = .ok (.iinc 3 1, 3) := dk_132 3 1 (dk_at dksX3_hasOne_1 10 rfl rfl)
theorem dX3_hasOne_37 : decode cX3_hasOne 37 = .ok (.goto (-33), 3) := dk_167 255 223 (dk_at dksX3_hasOne_1 13 rfl rfl)
theorem dX3_hasOne_40 : decode cX3_hasOne 40 = .ok (.iload_n 2, 1) := dk_28 (dk_at dksX3_hasOne_1 16 rfl rfl)
theorem dX3_hasOne_41 : decode cX3_hasOne 41 = .ok (.ireturn, 1) := dk_172 (dk_at dksX3_hasOne_1 17 rfl rfl)
abbrev cX3_drops : ByteArray := prog_2_method_10_code
def yX3_drops : MethodName := ⟨RX3, "drops", "(LOfferSky$Choice;)I"⟩
def dkwX3_drops_2 : List UInt8 := [132, 3, 255, 167, 255, 219, 28, 172]
abbrev dktX3_drops_2 : List UInt8 := dkwX3_drops_2 ++ []
def dkwX3_drops_1 : List UInt8 := [182, 0, 20, 185, 0, 36, 2, 0, 153, 0, 16, 42, 180, 0, 10, 29, 182, 0, 28, 58, 4, 132, 2, 1]
abbrev dktX3_drops_1 : List UInt8 := dkwX3_drops_1 ++ dktX3_drops_2
def dkwX3_drops_0 : List UInt8 := [3, 61, 42, 180, 0, 10, 182, 0, 16, 4, 100, 62, 29, 155, 0, 39, 43, 42, 180, 0, 10, 29]
abbrev dktX3_drops_0 : List UInt8 := dkwX3_drops_0 ++ dktX3_drops_1
theorem dksX3_drops_0 : cX3_drops.data.toList.drop 0 = dktX3_drops_0 := by decide +kernel
theorem dksX3_drops_1 : cX3_drops.data.toList.drop 22 = dktX3_drops_1 := dk_seg dksX3_drops_0 22 rfl rfl
theorem dksX3_drops_2 : cX3_drops.data.toList.drop 46 = dktX3_drops_2 := dk_seg dksX3_drops_1 24 rfl rfl
theorem dX3_drops_0 : decode cX3_drops 0 = .ok (.iconst 0, 1) := dk_3 (dk_at dksX3_drops_0 0 rfl rfl)
theorem dX3_drops_1 : decode cX3_drops 1 = .ok (.istore_n 2, 1) := dk_61 (dk_at dksX3_drops_0 1 rfl rfl)
theorem dX3_drops_2 : decode cX3_drops 2 = .ok (.aload_n 0, 1) := dk_42 (dk_at dksX3_drops_0 2 rfl rfl)
theorem dX3_drops_3 : decode cX3_drops 3 = .ok (.getfield 10, 3) := dk_180 0 10 (dk_at dksX3_drops_0 3 rfl rfl)
theorem dX3_drops_6 : decode cX3_drops 6 = .ok (.invokevirtual 16, 3) := dk_182 0 16 (dk_at dksX3_drops_0 6 rfl rfl)
theorem dX3_drops_9 : decode cX3_drops 9 = .ok (.iconst 1, 1) := dk_4 (dk_at dksX3_drops_0 9 rfl rfl)
theorem dX3_drops_10 : decode cX3_drops 10 = .ok (.isub, 1) := dk_100 (dk_at dksX3_drops_0 10 rfl rfl)
theorem dX3_drops_11 : decode cX3_drops 11 = .ok (.istore_n 3, 1) := dk_62 (dk_at dksX3_drops_0 11 rfl rfl)
theorem dX3_drops_12 : decode cX3_drops 12 = .ok (.iload_n 3, 1) := dk_29 (dk_at dksX3_drops_0 12 rfl rfl)
theorem dX3_drops_13 : decode cX3_drops 13 = .ok (.ifCond .lt 39, 3) := dk_155 0 39 (dk_at dksX3_drops_0 13 rfl rfl)
theorem dX3_drops_16 : decode cX3_drops 16 = .ok (.aload_n 1, 1) := dk_43 (dk_at dksX3_drops_0 16 rfl rfl)
theorem dX3_drops_17 : decode cX3_drops 17 = .ok (.aload_n 0, 1) := dk_42 (dk_at dksX3_drops_0 17 rfl rfl)
theorem dX3_drops_18 : decode cX3_drops 18 = .ok (.getfield 10, 3) := dk_180 0 10 (dk_at dksX3_drops_0 18 rfl rfl)
theorem dX3_drops_21 : decode cX3_drops 21 = .ok (.iload_n 3, 1) := dk_29 (dk_at dksX3_drops_0 21 rfl rfl)
theorem dX3_drops_22 : decode cX3_drops 22 = .ok (.invokevirtual 20, 3) := dk_182 0 20 (dk_at dksX3_drops_1 0 rfl rfl)
theorem dX3_drops_25 : decode cX3_drops 25 = .ok (.invokeinterface 36 2, 5) := by decide +kernel
theorem dX3_drops_30 : decode cX3_drops 30 = .ok (.ifCond .eq 16, 3) := dk_153 0 16 (dk_at dksX3_drops_1 8 rfl rfl)
theorem dX3_drops_33 : decode cX3_drops 33 = .ok (.aload_n 0, 1) := dk_42 (dk_at dksX3_drops_1 11 rfl rfl)
theorem dX3_drops_34 : decode cX3_drops 34 = .ok (.getfield 10, 3) := dk_180 0 10 (dk_at dksX3_drops_1 12 rfl rfl)
theorem dX3_drops_37 : decode cX3_drops 37 = .ok (.iload_n 3, 1) := dk_29 (dk_at dksX3_drops_1 15 rfl rfl)
theorem dX3_drops_38 : decode cX3_drops 38 = .ok (.invokevirtual 28, 3) := dk_182 0 28 (dk_at dksX3_drops_1 16 rfl rfl)
theorem dX3_drops_41 : decode cX3_drops 41 = .ok (.astore 4, 2) := dk_58 4 (dk_at dksX3_drops_1 19 rfl rfl)
theorem dX3_drops_43 : decode cX3_drops 43 = .ok (.iinc 2 1, 3) := dk_132 2 1 (dk_at dksX3_drops_1 21 rfl rfl)
theorem dX3_drops_46 : decode cX3_drops 46 = .ok (.iinc 3 (-1), 3) := dk_132 3 255 (dk_at dksX3_drops_2 0 rfl rfl)
theorem dX3_drops_49 : decode cX3_drops 49 = .ok (.goto (-37), 3) := dk_167 255 219 (dk_at dksX3_drops_2 3 rfl rfl)
theorem dX3_drops_52 : decode cX3_drops 52 = .ok (.iload_n 2, 1) := dk_28 (dk_at dksX3_drops_2 6 rfl rfl)
theorem dX3_drops_53 : decode cX3_drops 53 = .ok (.ireturn, 1) := dk_172 (dk_at dksX3_drops_2 7 rfl rfl)
abbrev cX3_ordered : ByteArray := prog_2_method_11_code
def yX3_ordered : MethodName := ⟨RX3, "ordered", "(LOfferSky$Order;)LOfferSky$Bag;"⟩
def dkwX3_ordered_3 : List UInt8 := [180, 0, 10, 21, 5, 25, 4, 182, 0, 55, 132, 3, 1, 167, 255, 185, 44, 176]
abbrev dktX3_ordered_3 : List UInt8 := dkwX3_ordered_3 ++ []
def dkwX3_ordered_2 : List UInt8 := [21, 5, 4, 100, 182, 0, 48, 185, 0, 49, 3, 0, 153, 0, 9, 132, 5, 255, 167, 255, 229, 44]
abbrev dktX3_ordered_2 : List UInt8 := dkwX3_ordered_2 ++ dktX3_ordered_3
def dkwX3_ordered_1 : List UInt8 := [180, 0, 10, 29, 182, 0, 20, 58, 4, 44, 182, 0, 47, 54, 5, 21, 5, 158, 0, 28, 43, 25, 4, 44]
abbrev dktX3_ordered_1 : List UInt8 := dkwX3_ordered_1 ++ dktX3_ordered_2
def dkwX3_ordered_0 : List UInt8 := [187, 0, 11, 89, 183, 0, 31, 77, 3, 62, 29, 42, 180, 0, 10, 182, 0, 16, 162, 0, 66, 42]
abbrev dktX3_ordered_0 : List UInt8 := dkwX3_ordered_0 ++ dktX3_ordered_1
theorem dksX3_ordered_0 : cX3_ordered.data.toList.drop 0 = dktX3_ordered_0 := by decide +kernel
theorem dksX3_ordered_1 : cX3_ordered.data.toList.drop 22 = dktX3_ordered_1 := dk_seg dksX3_ordered_0 22 rfl rfl
theorem dksX3_ordered_2 : cX3_ordered.data.toList.drop 46 = dktX3_ordered_2 := dk_seg dksX3_ordered_1 24 rfl rfl
theorem dksX3_ordered_3 : cX3_ordered.data.toList.drop 68 = dktX3_ordered_3 := dk_seg dksX3_ordered_2 22 rfl rfl
theorem dX3_ordered_0 : decode cX3_ordered 0 = .ok (.new 11, 3) := dk_187 0 11 (dk_at dksX3_ordered_0 0 rfl rfl)
theorem dX3_ordered_3 : decode cX3_ordered 3 = .ok (.dup, 1) := dk_89 (dk_at dksX3_ordered_0 3 rfl rfl)
theorem dX3_ordered_4 : decode cX3_ordered 4 = .ok (.invokespecial 31, 3) := dk_183 0 31 (dk_at dksX3_ordered_0 4 rfl rfl)
theorem dX3_ordered_7 : decode cX3_ordered 7 = .ok (.astore_n 2, 1) := dk_77 (dk_at dksX3_ordered_0 7 rfl rfl)
theorem dX3_ordered_8 : decode cX3_ordered 8 = .ok (.iconst 0, 1) := dk_3 (dk_at dksX3_ordered_0 8 rfl rfl)
theorem dX3_ordered_9 : decode cX3_ordered 9 = .ok (.istore_n 3, 1) := dk_62 (dk_at dksX3_ordered_0 9 rfl rfl)
theorem dX3_ordered_10 : decode cX3_ordered 10 = .ok (.iload_n 3, 1) := dk_29 (dk_at dksX3_ordered_0 10 rfl rfl)
theorem dX3_ordered_11 : decode cX3_ordered 11 = .ok (.aload_n 0, 1) := dk_42 (dk_at dksX3_ordered_0 11 rfl rfl)
theorem dX3_ordered_12 : decode cX3_ordered 12 = .ok (.getfield 10, 3) := dk_180 0 10 (dk_at dksX3_ordered_0 12 rfl rfl)
theorem dX3_ordered_15 : decode cX3_ordered 15 = .ok (.invokevirtual 16, 3) := dk_182 0 16 (dk_at dksX3_ordered_0 15 rfl rfl)
theorem dX3_ordered_18 : decode cX3_ordered 18 = .ok (.if_icmp .ge 66, 3) := dk_162 0 66 (dk_at dksX3_ordered_0 18 rfl rfl)
theorem dX3_ordered_21 : decode cX3_ordered 21 = .ok (.aload_n 0, 1) := dk_42 (dk_at dksX3_ordered_0 21 rfl rfl)
theorem dX3_ordered_22 : decode cX3_ordered 22 = .ok (.getfield 10, 3) := dk_180 0 10 (dk_at dksX3_ordered_1 0 rfl rfl)
theorem dX3_ordered_25 : decode cX3_ordered 25 = .ok (.iload_n 3, 1) := dk_29 (dk_at dksX3_ordered_1 3 rfl rfl)
theorem dX3_ordered_26 : decode cX3_ordered 26 = .ok (.invokevirtual 20, 3) := dk_182 0 20 (dk_at dksX3_ordered_1 4 rfl rfl)
theorem dX3_ordered_29 : decode cX3_ordered 29 = .ok (.astore 4, 2) := dk_58 4 (dk_at dksX3_ordered_1 7 rfl rfl)
theorem dX3_ordered_31 : decode cX3_ordered 31 = .ok (.aload_n 2, 1) := dk_44 (dk_at dksX3_ordered_1 9 rfl rfl)
theorem dX3_ordered_32 : decode cX3_ordered 32 = .ok (.invokevirtual 47, 3) := dk_182 0 47 (dk_at dksX3_ordered_1 10 rfl rfl)
theorem dX3_ordered_35 : decode cX3_ordered 35 = .ok (.istore 5, 2) := dk_54 5 (dk_at dksX3_ordered_1 13 rfl rfl)
theorem dX3_ordered_37 : decode cX3_ordered 37 = .ok (.iload 5, 2) := dk_21 5 (dk_at dksX3_ordered_1 15 rfl rfl)
theorem dX3_ordered_39 : decode cX3_ordered 39 = .ok (.ifCond .le 28, 3) := dk_158 0 28 (dk_at dksX3_ordered_1 17 rfl rfl)
theorem dX3_ordered_42 : decode cX3_ordered 42 = .ok (.aload_n 1, 1) := dk_43 (dk_at dksX3_ordered_1 20 rfl rfl)
theorem dX3_ordered_43 : decode cX3_ordered 43 = .ok (.aload 4, 2) := dk_25 4 (dk_at dksX3_ordered_1 21 rfl rfl)
theorem dX3_ordered_45 : decode cX3_ordered 45 = .ok (.aload_n 2, 1) := dk_44 (dk_at dksX3_ordered_1 23 rfl rfl)
theorem dX3_ordered_46 : decode cX3_ordered 46 = .ok (.iload 5, 2) := dk_21 5 (dk_at dksX3_ordered_2 0 rfl rfl)
theorem dX3_ordered_48 : decode cX3_ordered 48 = .ok (.iconst 1, 1) := dk_4 (dk_at dksX3_ordered_2 2 rfl rfl)
theorem dX3_ordered_49 : decode cX3_ordered 49 = .ok (.isub, 1) := dk_100 (dk_at dksX3_ordered_2 3 rfl rfl)
theorem dX3_ordered_50 : decode cX3_ordered 50 = .ok (.invokevirtual 48, 3) := dk_182 0 48 (dk_at dksX3_ordered_2 4 rfl rfl)
theorem dX3_ordered_53 : decode cX3_ordered 53 = .ok (.invokeinterface 49 3, 5) := by decide +kernel
theorem dX3_ordered_58 : decode cX3_ordered 58 = .ok (.ifCond .eq 9, 3) := dk_153 0 9 (dk_at dksX3_ordered_2 12 rfl rfl)
theorem dX3_ordered_61 : decode cX3_ordered 61 = .ok (.iinc 5 (-1), 3) := dk_132 5 255 (dk_at dksX3_ordered_2 15 rfl rfl)
theorem dX3_ordered_64 : decode cX3_ordered 64 = .ok (.goto (-27), 3) := dk_167 255 229 (dk_at dksX3_ordered_2 18 rfl rfl)
theorem dX3_ordered_67 : decode cX3_ordered 67 = .ok (.aload_n 2, 1) := dk_44 (dk_at dksX3_ordered_2 21 rfl rfl)
theorem dX3_ordered_68 : decode cX3_ordered 68 = .ok (.getfield 10, 3) := dk_180 0 10 (dk_at dksX3_ordered_3 0 rfl rfl)
theorem dX3_ordered_71 : decode cX3_ordered 71 = .ok (.iload 5, 2) := dk_21 5 (dk_at dksX3_ordered_3 3 rfl rfl)
theorem dX3_ordered_73 : decode cX3_ordered 73 = .ok (.aload 4, 2) := dk_25 4 (dk_at dksX3_ordered_3 5 rfl rfl)
theorem dX3_ordered_75 : decode cX3_ordered 75 = .ok (.invokevirtual 55, 3) := dk_182 0 55 (dk_at dksX3_ordered_3 7 rfl rfl)
theorem dX3_ordered_78 : decode cX3_ordered 78 = .ok (.iinc 3 1, 3) := dk_132 3 1 (dk_at dksX3_ordered_3 10 rfl rfl)
theorem dX3_ordered_81 : decode cX3_ordered 81 = .ok (.goto (-71), 3) := dk_167 255 185 (dk_at dksX3_ordered_3 13 rfl rfl)
theorem dX3_ordered_84 : decode cX3_ordered 84 = .ok (.aload_n 2, 1) := dk_44 (dk_at dksX3_ordered_3 16 rfl rfl)
theorem dX3_ordered_85 : decode cX3_ordered 85 = .ok (.areturn, 1) := dk_176 (dk_at dksX3_ordered_3 17 rfl rfl)
abbrev cX3_counts : ByteArray := prog_2_method_7_code
def yX3_counts : MethodName := ⟨RX3, "counts", "(LOfferSky$Choice;)I"⟩
def dkwX3_counts_1 : List UInt8 := [182, 0, 20, 185, 0, 36, 2, 0, 184, 0, 41, 96, 61, 132, 3, 1, 167, 255, 222, 28, 172]
abbrev dktX3_counts_1 : List UInt8 := dkwX3_counts_1 ++ []
def dkwX3_counts_0 : List UInt8 := [3, 61, 3, 62, 29, 42, 180, 0, 10, 182, 0, 16, 162, 0, 29, 28, 43, 42, 180, 0, 10, 29]
abbrev dktX3_counts_0 : List UInt8 := dkwX3_counts_0 ++ dktX3_counts_1
theorem dksX3_counts_0 : cX3_counts.data.toList.drop 0 = dktX3_counts_0 := by decide +kernel
theorem dksX3_counts_1 : cX3_counts.data.toList.drop 22 = dktX3_counts_1 := dk_seg dksX3_counts_0 22 rfl rfl
theorem dX3_counts_0 : decode cX3_counts 0 = .ok (.iconst 0, 1) := dk_3 (dk_at dksX3_counts_0 0 rfl rfl)
theorem dX3_counts_1 : decode cX3_counts 1 = .ok (.istore_n 2, 1) := dk_61 (dk_at dksX3_counts_0 1 rfl rfl)
theorem dX3_counts_2 : decode cX3_counts 2 = .ok (.iconst 0, 1) := dk_3 (dk_at dksX3_counts_0 2 rfl rfl)
theorem dX3_counts_3 : decode cX3_counts 3 = .ok (.istore_n 3, 1) := dk_62 (dk_at dksX3_counts_0 3 rfl rfl)
theorem dX3_counts_4 : decode cX3_counts 4 = .ok (.iload_n 3, 1) := dk_29 (dk_at dksX3_counts_0 4 rfl rfl)
theorem dX3_counts_5 : decode cX3_counts 5 = .ok (.aload_n 0, 1) := dk_42 (dk_at dksX3_counts_0 5 rfl rfl)
theorem dX3_counts_6 : decode cX3_counts 6 = .ok (.getfield 10, 3) := dk_180 0 10 (dk_at dksX3_counts_0 6 rfl rfl)
theorem dX3_counts_9 : decode cX3_counts 9 = .ok (.invokevirtual 16, 3) := dk_182 0 16 (dk_at dksX3_counts_0 9 rfl rfl)
theorem dX3_counts_12 : decode cX3_counts 12 = .ok (.if_icmp .ge 29, 3) := dk_162 0 29 (dk_at dksX3_counts_0 12 rfl rfl)
theorem dX3_counts_15 : decode cX3_counts 15 = .ok (.iload_n 2, 1) := dk_28 (dk_at dksX3_counts_0 15 rfl rfl)
theorem dX3_counts_16 : decode cX3_counts 16 = .ok (.aload_n 1, 1) := dk_43 (dk_at dksX3_counts_0 16 rfl rfl)
theorem dX3_counts_17 : decode cX3_counts 17 = .ok (.aload_n 0, 1) := dk_42 (dk_at dksX3_counts_0 17 rfl rfl)
theorem dX3_counts_18 : decode cX3_counts 18 = .ok (.getfield 10, 3) := dk_180 0 10 (dk_at dksX3_counts_0 18 rfl rfl)
theorem dX3_counts_21 : decode cX3_counts 21 = .ok (.iload_n 3, 1) := dk_29 (dk_at dksX3_counts_0 21 rfl rfl)
theorem dX3_counts_22 : decode cX3_counts 22 = .ok (.invokevirtual 20, 3) := dk_182 0 20 (dk_at dksX3_counts_1 0 rfl rfl)
theorem dX3_counts_25 : decode cX3_counts 25 = .ok (.invokeinterface 36 2, 5) := by decide +kernel
theorem dX3_counts_30 : decode cX3_counts 30 = .ok (.invokestatic 41, 3) := dk_184 0 41 (dk_at dksX3_counts_1 8 rfl rfl)
theorem dX3_counts_33 : decode cX3_counts 33 = .ok (.iadd, 1) := dk_96 (dk_at dksX3_counts_1 11 rfl rfl)
theorem dX3_counts_34 : decode cX3_counts 34 = .ok (.istore_n 2, 1) := dk_61 (dk_at dksX3_counts_1 12 rfl rfl)
theorem dX3_counts_35 : decode cX3_counts 35 = .ok (.iinc 3 1, 3) := dk_132 3 1 (dk_at dksX3_counts_1 13 rfl rfl)
theorem dX3_counts_38 : decode cX3_counts 38 = .ok (.goto (-34), 3) := dk_167 255 222 (dk_at dksX3_counts_1 16 rfl rfl)
theorem dX3_counts_41 : decode cX3_counts 41 = .ok (.iload_n 2, 1) := dk_28 (dk_at dksX3_counts_1 19 rfl rfl)
theorem dX3_counts_42 : decode cX3_counts 42 = .ok (.ireturn, 1) := dk_172 (dk_at dksX3_counts_1 20 rfl rfl)
abbrev cX3_takes : ByteArray := prog_2_method_5_code
def yX3_takes : MethodName := ⟨RX3, "takes", "(I)Ljava/lang/Object;"⟩
def dkwX3_takes_0 : List UInt8 := [42, 180, 0, 10, 27, 182, 0, 28, 176]
abbrev dktX3_takes_0 : List UInt8 := dkwX3_takes_0 ++ []
theorem dksX3_takes_0 : cX3_takes.data.toList.drop 0 = dktX3_takes_0 := by decide +kernel
theorem dX3_takes_0 : decode cX3_takes 0 = .ok (.aload_n 0, 1) := dk_42 (dk_at dksX3_takes_0 0 rfl rfl)
theorem dX3_takes_1 : decode cX3_takes 1 = .ok (.getfield 10, 3) := dk_180 0 10 (dk_at dksX3_takes_0 1 rfl rfl)
theorem dX3_takes_4 : decode cX3_takes 4 = .ok (.iload_n 1, 1) := dk_27 (dk_at dksX3_takes_0 4 rfl rfl)
theorem dX3_takes_5 : decode cX3_takes 5 = .ok (.invokevirtual 28, 3) := dk_182 0 28 (dk_at dksX3_takes_0 5 rfl rfl)
theorem dX3_takes_8 : decode cX3_takes 8 = .ok (.areturn, 1) := dk_176 (dk_at dksX3_takes_0 8 rfl rfl)
theorem q101 : (Jvm.Cond.initialized "OfferSky$Bag") ∈ lw_all := lw_g (lw_at lw_m1 3 rfl) rfl
theorem q147 : (Jvm.Cond.instantiable "OfferSky$Bag" (1 : Nat)) ∈ lw_all := lw_g (lw_at lw_m1 49 rfl) rfl
theorem q149 : (Jvm.Cond.instanceMethod ({ cls := "OfferSky$Bag", name := "<init>", desc := "()V" } : Jvm.MethodName)) ∈ lw_all := lw_g (lw_at lw_m1 51 rfl) rfl
theorem q150 : (Jvm.Cond.code ({ cls := "OfferSky$Bag", name := "<init>", desc := "()V" } : Jvm.MethodName) prog_2_method_1_code (1 : Nat) (Option.none : Option Jvm.ClassFile.FieldType)) ∈ lw_all := lw_g (lw_at lw_m1 52 rfl) rfl
theorem q151 : (Jvm.Cond.methodLink "OfferSky$Bag" (1 : Nat) ({ cls := "java/lang/Object", name := "<init>", desc := "()V" } : Jvm.MethodName)) ∈ lw_all := lw_g (lw_at lw_m1 53 rfl) rfl
theorem q152 : (Jvm.Cond.classLink "OfferSky$Bag" (7 : Nat) "java/util/ArrayList") ∈ lw_all := lw_g (lw_at lw_m1 54 rfl) rfl
theorem q154 : (Jvm.Cond.methodLink "OfferSky$Bag" (9 : Nat) ({ cls := "java/util/ArrayList", name := "<init>", desc := "()V" } : Jvm.MethodName)) ∈ lw_all := lw_g (lw_at lw_m1 56 rfl) rfl
theorem q178 : (Jvm.Cond.fieldLink "OfferSky$Bag" (10 : Nat) "OfferSky$Bag" "things" "Ljava/util/ArrayList;") ∈ lw_all := lw_g (lw_at lw_m1 80 rfl) rfl
theorem q180 : (Jvm.Cond.laysFinal "OfferSky$Bag" "OfferSky$Bag" "things" "Ljava/util/ArrayList;") ∈ lw_all := lw_g (lw_at lw_m1 82 rfl) rfl
theorem q181 : (Jvm.Cond.soleField "OfferSky$Bag" "things") ∈ lw_all := lw_g (lw_at lw_m1 83 rfl) rfl
theorem q182 : (Jvm.Cond.superclass "OfferSky$Bag" "java/lang/Object") ∈ lw_all := lw_g (lw_at lw_m1 84 rfl) rfl
theorem q333 : (Jvm.Cond.instanceMethod ({ cls := "OfferSky$Bag", name := "copy", desc := "()LOfferSky$Bag;" } : Jvm.MethodName)) ∈ lw_all := lw_g (lw_at lw_m1 235 rfl) rfl
theorem q334 : (Jvm.Cond.selects "OfferSky$Bag" ({ cls := "OfferSky$Bag", name := "copy", desc := "()LOfferSky$Bag;" } : Jvm.MethodName) ({ cls := "OfferSky$Bag", name := "copy", desc := "()LOfferSky$Bag;" } : Jvm.MethodName)) ∈ lw_all := lw_g (lw_at lw_m1 236 rfl) rfl
theorem q335 : (Jvm.Cond.code ({ cls := "OfferSky$Bag", name := "copy", desc := "()LOfferSky$Bag;" } : Jvm.MethodName) prog_2_method_6_code (3 : Nat) (Option.some (Jvm.ClassFile.FieldType.object "OfferSky$Bag"))) ∈ lw_all := lw_g (lw_at lw_m1 237 rfl) rfl
theorem q336 : (Jvm.Cond.classLink "OfferSky$Bag" (11 : Nat) "OfferSky$Bag") ∈ lw_all := lw_g (lw_at lw_m1 238 rfl) rfl
theorem q337 : (Jvm.Cond.methodLink "OfferSky$Bag" (31 : Nat) ({ cls := "OfferSky$Bag", name := "<init>", desc := "()V" } : Jvm.MethodName)) ∈ lw_all := lw_g (lw_at lw_m1 239 rfl) rfl
theorem q338 : (Jvm.Cond.methodLink "OfferSky$Bag" (16 : Nat) ({ cls := "java/util/ArrayList", name := "size", desc := "()I" } : Jvm.MethodName)) ∈ lw_all := lw_g (lw_at lw_m2 0 rfl) rfl
theorem q342 : (Jvm.Cond.methodLink "OfferSky$Bag" (20 : Nat) ({ cls := "java/util/ArrayList", name := "get", desc := "(I)Ljava/lang/Object;" } : Jvm.MethodName)) ∈ lw_all := lw_g (lw_at lw_m2 4 rfl) rfl
theorem q356 : (Jvm.Cond.methodLink "OfferSky$Bag" (32 : Nat) ({ cls := "OfferSky$Bag", name := "adds", desc := "(Ljava/lang/Object;)V" } : Jvm.MethodName)) ∈ lw_all := lw_g (lw_at lw_m2 18 rfl) rfl
theorem q357 : (Jvm.Cond.instanceMethod ({ cls := "OfferSky$Bag", name := "adds", desc := "(Ljava/lang/Object;)V" } : Jvm.MethodName)) ∈ lw_all := lw_g (lw_at lw_m2 19 rfl) rfl
theorem q358 : (Jvm.Cond.selects "OfferSky$Bag" ({ cls := "OfferSky$Bag", name := "adds", desc := "(Ljava/lang/Object;)V" } : Jvm.MethodName) ({ cls := "OfferSky$Bag", name := "adds", desc := "(Ljava/lang/Object;)V" } : Jvm.MethodName)) ∈ lw_all := lw_g (lw_at lw_m2 20 rfl) rfl
theorem q359 : (Jvm.Cond.code ({ cls := "OfferSky$Bag", name := "adds", desc := "(Ljava/lang/Object;)V" } : Jvm.MethodName) prog_2_method_4_code (3 : Nat) (Option.none : Option Jvm.ClassFile.FieldType)) ∈ lw_all := lw_g (lw_at lw_m2 21 rfl) rfl
theorem q360 : (Jvm.Cond.methodLink "OfferSky$Bag" (24 : Nat) ({ cls := "java/util/ArrayList", name := "add", desc := "(Ljava/lang/Object;)Z" } : Jvm.MethodName)) ∈ lw_all := lw_g (lw_at lw_m2 22 rfl) rfl
theorem q393 : (Jvm.Cond.selects "OfferSky$Bag" ({ cls := "java/lang/Object", name := "getClass", desc := "()Ljava/lang/Class;" } : Jvm.MethodName) ({ cls := "java/lang/Object", name := "getClass", desc := "()Ljava/lang/Class;" } : Jvm.MethodName)) ∈ lw_all := lw_g (lw_at lw_m2 55 rfl) rfl
theorem q546 : (Jvm.Cond.instanceMethod ({ cls := "OfferSky$Bag", name := "those", desc := "(LOfferSky$Choice;)LOfferSky$Bag;" } : Jvm.MethodName)) ∈ lw_all := lw_g (lw_at lw_m2 208 rfl) rfl
theorem q547 : (Jvm.Cond.selects "OfferSky$Bag" ({ cls := "OfferSky$Bag", name := "those", desc := "(LOfferSky$Choice;)LOfferSky$Bag;" } : Jvm.MethodName) ({ cls := "OfferSky$Bag", name := "those", desc := "(LOfferSky$Choice;)LOfferSky$Bag;" } : Jvm.MethodName)) ∈ lw_all := lw_g (lw_at lw_m2 209 rfl) rfl
theorem q548 : (Jvm.Cond.code ({ cls := "OfferSky$Bag", name := "those", desc := "(LOfferSky$Choice;)LOfferSky$Bag;" } : Jvm.MethodName) prog_2_method_9_code (4 : Nat) (Option.some (Jvm.ClassFile.FieldType.object "OfferSky$Bag"))) ∈ lw_all := lw_g (lw_at lw_m2 210 rfl) rfl
theorem q549 : (Jvm.Cond.interfaceEntry "OfferSky$Bag" (36 : Nat)) ∈ lw_tbl := lw_at lw_m2 211 rfl
theorem q550 : (Jvm.Cond.methodLink "OfferSky$Bag" (36 : Nat) ({ cls := "OfferSky$Choice", name := "holds", desc := "(Ljava/lang/Object;)Z" } : Jvm.MethodName)) ∈ lw_all := lw_g (lw_at lw_m2 212 rfl) rfl
theorem q565 : (Jvm.Cond.instanceMethod ({ cls := "OfferSky$Bag", name := "size", desc := "()I" } : Jvm.MethodName)) ∈ lw_all := lw_g (lw_at lw_m2 227 rfl) rfl
theorem q566 : (Jvm.Cond.selects "OfferSky$Bag" ({ cls := "OfferSky$Bag", name := "size", desc := "()I" } : Jvm.MethodName) ({ cls := "OfferSky$Bag", name := "size", desc := "()I" } : Jvm.MethodName)) ∈ lw_all := lw_g (lw_at lw_m2 228 rfl) rfl
theorem q567 : (Jvm.Cond.code ({ cls := "OfferSky$Bag", name := "size", desc := "()I" } : Jvm.MethodName) prog_2_method_2_code (1 : Nat) (Option.some Jvm.ClassFile.FieldType.int)) ∈ lw_all := lw_g (lw_at lw_m2 229 rfl) rfl
theorem q569 : (Jvm.Cond.instanceMethod ({ cls := "OfferSky$Bag", name := "get", desc := "(I)Ljava/lang/Object;" } : Jvm.MethodName)) ∈ lw_all := lw_g (lw_at lw_m2 231 rfl) rfl
theorem q570 : (Jvm.Cond.selects "OfferSky$Bag" ({ cls := "OfferSky$Bag", name := "get", desc := "(I)Ljava/lang/Object;" } : Jvm.MethodName) ({ cls := "OfferSky$Bag", name := "get", desc := "(I)Ljava/lang/Object;" } : Jvm.MethodName)) ∈ lw_all := lw_g (lw_at lw_m2 232 rfl) rfl
theorem q571 : (Jvm.Cond.code ({ cls := "OfferSky$Bag", name := "get", desc := "(I)Ljava/lang/Object;" } : Jvm.MethodName) prog_2_method_3_code (2 : Nat) (Option.some (Jvm.ClassFile.FieldType.object "java/lang/Object"))) ∈ lw_all := lw_g (lw_at lw_m2 233 rfl) rfl
theorem q601 : (Jvm.Cond.instanceMethod ({ cls := "OfferSky$Bag", name := "hasOne", desc := "(LOfferSky$Choice;)Z" } : Jvm.MethodName)) ∈ lw_all := lw_g (lw_at lw_m3 23 rfl) rfl
theorem q602 : (Jvm.Cond.selects "OfferSky$Bag" ({ cls := "OfferSky$Bag", name := "hasOne", desc := "(LOfferSky$Choice;)Z" } : Jvm.MethodName) ({ cls := "OfferSky$Bag", name := "hasOne", desc := "(LOfferSky$Choice;)Z" } : Jvm.MethodName)) ∈ lw_all := lw_g (lw_at lw_m3 24 rfl) rfl
theorem q603 : (Jvm.Cond.code ({ cls := "OfferSky$Bag", name := "hasOne", desc := "(LOfferSky$Choice;)Z" } : Jvm.MethodName) prog_2_method_8_code (4 : Nat) (Option.some Jvm.ClassFile.FieldType.boolean)) ∈ lw_all := lw_g (lw_at lw_m3 25 rfl) rfl
theorem q605 : (Jvm.Cond.instanceMethod ({ cls := "OfferSky$Bag", name := "drops", desc := "(LOfferSky$Choice;)I" } : Jvm.MethodName)) ∈ lw_all := lw_g (lw_at lw_m3 27 rfl) rfl
theorem q606 : (Jvm.Cond.selects "OfferSky$Bag" ({ cls := "OfferSky$Bag", name := "drops", desc := "(LOfferSky$Choice;)I" } : Jvm.MethodName) ({ cls := "OfferSky$Bag", name := "drops", desc := "(LOfferSky$Choice;)I" } : Jvm.MethodName)) ∈ lw_all := lw_g (lw_at lw_m3 28 rfl) rfl
theorem q607 : (Jvm.Cond.code ({ cls := "OfferSky$Bag", name := "drops", desc := "(LOfferSky$Choice;)I" } : Jvm.MethodName) prog_2_method_10_code (5 : Nat) (Option.some Jvm.ClassFile.FieldType.int)) ∈ lw_all := lw_g (lw_at lw_m3 29 rfl) rfl
theorem q608 : (Jvm.Cond.methodLink "OfferSky$Bag" (28 : Nat) ({ cls := "java/util/ArrayList", name := "remove", desc := "(I)Ljava/lang/Object;" } : Jvm.MethodName)) ∈ lw_all := lw_g (lw_at lw_m3 30 rfl) rfl
theorem q1024 : (Jvm.Cond.instanceMethod ({ cls := "OfferSky$Bag", name := "ordered", desc := "(LOfferSky$Order;)LOfferSky$Bag;" } : Jvm.MethodName)) ∈ lw_all := lw_g (lw_at lw_m4 206 rfl) rfl
theorem q1025 : (Jvm.Cond.selects "OfferSky$Bag" ({ cls := "OfferSky$Bag", name := "ordered", desc := "(LOfferSky$Order;)LOfferSky$Bag;" } : Jvm.MethodName) ({ cls := "OfferSky$Bag", name := "ordered", desc := "(LOfferSky$Order;)LOfferSky$Bag;" } : Jvm.MethodName)) ∈ lw_all := lw_g (lw_at lw_m4 207 rfl) rfl
theorem q1026 : (Jvm.Cond.code ({ cls := "OfferSky$Bag", name := "ordered", desc := "(LOfferSky$Order;)LOfferSky$Bag;" } : Jvm.MethodName) prog_2_method_11_code (6 : Nat) (Option.some (Jvm.ClassFile.FieldType.object "OfferSky$Bag"))) ∈ lw_all := lw_g (lw_at lw_m4 208 rfl) rfl
theorem q1027 : (Jvm.Cond.methodLink "OfferSky$Bag" (47 : Nat) ({ cls := "OfferSky$Bag", name := "size", desc := "()I" } : Jvm.MethodName)) ∈ lw_all := lw_g (lw_at lw_m4 209 rfl) rfl
theorem q1028 : (Jvm.Cond.methodLink "OfferSky$Bag" (48 : Nat) ({ cls := "OfferSky$Bag", name := "get", desc := "(I)Ljava/lang/Object;" } : Jvm.MethodName)) ∈ lw_all := lw_g (lw_at lw_m4 210 rfl) rfl
theorem q1029 : (Jvm.Cond.interfaceEntry "OfferSky$Bag" (49 : Nat)) ∈ lw_tbl := lw_at lw_m4 211 rfl
theorem q1030 : (Jvm.Cond.methodLink "OfferSky$Bag" (49 : Nat) ({ cls := "OfferSky$Order", name := "isAhead", desc := "(Ljava/lang/Object;Ljava/lang/Object;)Z" } : Jvm.MethodName)) ∈ lw_all := lw_g (lw_at lw_m4 212 rfl) rfl
theorem q1033 : (Jvm.Cond.methodLink "OfferSky$Bag" (55 : Nat) ({ cls := "java/util/ArrayList", name := "add", desc := "(ILjava/lang/Object;)V" } : Jvm.MethodName)) ∈ lw_all := lw_g (lw_at lw_m4 215 rfl) rfl
theorem q1127 : (Jvm.Cond.instanceMethod ({ cls := "OfferSky$Bag", name := "counts", desc := "(LOfferSky$Choice;)I" } : Jvm.MethodName)) ∈ lw_all := lw_g (lw_at lw_m5 69 rfl) rfl
theorem q1128 : (Jvm.Cond.selects "OfferSky$Bag" ({ cls := "OfferSky$Bag", name := "counts", desc := "(LOfferSky$Choice;)I" } : Jvm.MethodName) ({ cls := "OfferSky$Bag", name := "counts", desc := "(LOfferSky$Choice;)I" } : Jvm.MethodName)) ∈ lw_all := lw_g (lw_at lw_m5 70 rfl) rfl
theorem q1129 : (Jvm.Cond.code ({ cls := "OfferSky$Bag", name := "counts", desc := "(LOfferSky$Choice;)I" } : Jvm.MethodName) prog_2_method_7_code (4 : Nat) (Option.some Jvm.ClassFile.FieldType.int)) ∈ lw_all := lw_g (lw_at lw_m5 71 rfl) rfl
theorem q1130 : (Jvm.Cond.methodLinkNest "OfferSky$Bag" (41 : Nat) ({ cls := "OfferSky", name := "flag", desc := "(Z)I" } : Jvm.MethodName) "OfferSky") ∈ lw_tbl := lw_at lw_m5 72 rfl
theorem q1393 : (Jvm.Cond.instanceMethod ({ cls := "OfferSky$Bag", name := "takes", desc := "(I)Ljava/lang/Object;" } : Jvm.MethodName)) ∈ lw_all := lw_g (lw_at lw_m6 95 rfl) rfl
theorem q1394 : (Jvm.Cond.selects "OfferSky$Bag" ({ cls := "OfferSky$Bag", name := "takes", desc := "(I)Ljava/lang/Object;" } : Jvm.MethodName) ({ cls := "OfferSky$Bag", name := "takes", desc := "(I)Ljava/lang/Object;" } : Jvm.MethodName)) ∈ lw_all := lw_g (lw_at lw_m6 96 rfl) rfl
theorem q1395 : (Jvm.Cond.code ({ cls := "OfferSky$Bag", name := "takes", desc := "(I)Ljava/lang/Object;" } : Jvm.MethodName) prog_2_method_5_code (2 : Nat) (Option.some (Jvm.ClassFile.FieldType.object "java/lang/Object"))) ∈ lw_all := lw_g (lw_at lw_m6 97 rfl) rfl
theorem q2318 : (Jvm.Cond.castable "OfferSky$Bag" "java/lang/Object") ∈ lw_tbl := lw_at lw_m10 60 rfl
theorem in_X3 : ∀ w ∈ wsX30, w ∈ lw_all := lw_in wsX30 [180] (by decide +kernel) (by decide +kernel)
/-! OfferSky$Sides -/
set_option maxRecDepth 100000
def RX4 : String := "OfferSky$Sides"
def TX4 : u_T := fun k => match k with
  | 0 => ("OfferSky$Sides", "wishes", "[I", false)
  | 1 => ("OfferSky$Sides", "leasts", "[I", false)
  | 2 => ("OfferSky$Sides", "mosts", "[I", false)
  | _ => ("OfferSky$Sides", "weights", "[I", false)
def tyX4 : Nat → FieldType := fun k => match k with
  | 0 => .array .int
  | 1 => .array .int
  | 2 => .array .int
  | _ => .array .int
abbrev wsX40 : List Cond := u_ws RX4 TX4 4
theorem nmX4 : ∀ a, a < 4 → ∀ b, b < 4 → a ≠ b → (TX4 a).2.1 ≠ (TX4 b).2.1 := by decide +kernel
theorem tyX4_ok : ∀ k, k < 4 → parseFieldDescriptor (TX4 k).2.2.1 = some (tyX4 k) := by decide +kernel
abbrev cX4_init : ByteArray := prog_7_method_1_code
def yX4_init : MethodName := ⟨RX4, "<init>", "()V"⟩
def dkwX4_init_2 : List UInt8 := [79, 42, 180, 0, 21, 27, 4, 79, 132, 1, 1, 167, 255, 233, 177]
abbrev dktX4_init_2 : List UInt8 := dkwX4_init_2 ++ []
def dkwX4_init_1 : List UInt8 := [181, 0, 18, 42, 7, 188, 10, 181, 0, 21, 3, 60, 27, 7, 162, 0, 24, 42, 180, 0, 18, 27, 16, 99]
abbrev dktX4_init_1 : List UInt8 := dkwX4_init_1 ++ dktX4_init_2
def dkwX4_init_0 : List UInt8 := [42, 183, 0, 3, 42, 7, 188, 10, 181, 0, 9, 42, 7, 188, 10, 181, 0, 15, 42, 7, 188, 10]
abbrev dktX4_init_0 : List UInt8 := dkwX4_init_0 ++ dktX4_init_1
theorem dksX4_init_0 : cX4_init.data.toList.drop 0 = dktX4_init_0 := by decide +kernel
theorem dksX4_init_1 : cX4_init.data.toList.drop 22 = dktX4_init_1 := dk_seg dksX4_init_0 22 rfl rfl
theorem dksX4_init_2 : cX4_init.data.toList.drop 46 = dktX4_init_2 := dk_seg dksX4_init_1 24 rfl rfl
theorem dX4_init_0 : decode cX4_init 0 = .ok (.aload_n 0, 1) := dk_42 (dk_at dksX4_init_0 0 rfl rfl)
theorem dX4_init_1 : decode cX4_init 1 = .ok (.invokespecial 3, 3) := dk_183 0 3 (dk_at dksX4_init_0 1 rfl rfl)
theorem dX4_init_4 : decode cX4_init 4 = .ok (.aload_n 0, 1) := dk_42 (dk_at dksX4_init_0 4 rfl rfl)
theorem dX4_init_5 : decode cX4_init 5 = .ok (.iconst 4, 1) := dk_7 (dk_at dksX4_init_0 5 rfl rfl)
theorem dX4_init_6 : decode cX4_init 6 = .ok (.newarray .int, 2) := dk_188_10 (dk_at dksX4_init_0 6 rfl rfl)
theorem dX4_init_8 : decode cX4_init 8 = .ok (.putfield 9, 3) := dk_181 0 9 (dk_at dksX4_init_0 8 rfl rfl)
theorem dX4_init_11 : decode cX4_init 11 = .ok (.aload_n 0, 1) := dk_42 (dk_at dksX4_init_0 11 rfl rfl)
theorem dX4_init_12 : decode cX4_init 12 = .ok (.iconst 4, 1) := dk_7 (dk_at dksX4_init_0 12 rfl rfl)
theorem dX4_init_13 : decode cX4_init 13 = .ok (.newarray .int, 2) := dk_188_10 (dk_at dksX4_init_0 13 rfl rfl)
theorem dX4_init_15 : decode cX4_init 15 = .ok (.putfield 15, 3) := dk_181 0 15 (dk_at dksX4_init_0 15 rfl rfl)
theorem dX4_init_18 : decode cX4_init 18 = .ok (.aload_n 0, 1) := dk_42 (dk_at dksX4_init_0 18 rfl rfl)
theorem dX4_init_19 : decode cX4_init 19 = .ok (.iconst 4, 1) := dk_7 (dk_at dksX4_init_0 19 rfl rfl)
theorem dX4_init_20 : decode cX4_init 20 = .ok (.newarray .int, 2) := dk_188_10 (dk_at dksX4_init_0 20 rfl rfl)
theorem dX4_init_22 : decode cX4_init 22 = .ok (.putfield 18, 3) := dk_181 0 18 (dk_at dksX4_init_1 0 rfl rfl)
theorem dX4_init_25 : decode cX4_init 25 = .ok (.aload_n 0, 1) := dk_42 (dk_at dksX4_init_1 3 rfl rfl)
theorem dX4_init_26 : decode cX4_init 26 = .ok (.iconst 4, 1) := dk_7 (dk_at dksX4_init_1 4 rfl rfl)
theorem dX4_init_27 : decode cX4_init 27 = .ok (.newarray .int, 2) := dk_188_10 (dk_at dksX4_init_1 5 rfl rfl)
theorem dX4_init_29 : decode cX4_init 29 = .ok (.putfield 21, 3) := dk_181 0 21 (dk_at dksX4_init_1 7 rfl rfl)
theorem dX4_init_32 : decode cX4_init 32 = .ok (.iconst 0, 1) := dk_3 (dk_at dksX4_init_1 10 rfl rfl)
theorem dX4_init_33 : decode cX4_init 33 = .ok (.istore_n 1, 1) := dk_60 (dk_at dksX4_init_1 11 rfl rfl)
theorem dX4_init_34 : decode cX4_init 34 = .ok (.iload_n 1, 1) := dk_27 (dk_at dksX4_init_1 12 rfl rfl)
theorem dX4_init_35 : decode cX4_init 35 = .ok (.iconst 4, 1) := dk_7 (dk_at dksX4_init_1 13 rfl rfl)
theorem dX4_init_36 : decode cX4_init 36 = .ok (.if_icmp .ge 24, 3) := dk_162 0 24 (dk_at dksX4_init_1 14 rfl rfl)
theorem dX4_init_39 : decode cX4_init 39 = .ok (.aload_n 0, 1) := dk_42 (dk_at dksX4_init_1 17 rfl rfl)
theorem dX4_init_40 : decode cX4_init 40 = .ok (.getfield 18, 3) := dk_180 0 18 (dk_at dksX4_init_1 18 rfl rfl)
theorem dX4_init_43 : decode cX4_init 43 = .ok (.iload_n 1, 1) := dk_27 (dk_at dksX4_init_1 21 rfl rfl)
theorem dX4_init_44 : decode cX4_init 44 = .ok (.bipush 99, 2) := dk_16 99 (dk_at dksX4_init_1 22 rfl rfl)
theorem dX4_init_46 : decode cX4_init 46 = .ok (.iastore, 1) := dk_79 (dk_at dksX4_init_2 0 rfl rfl)
theorem dX4_init_47 : decode cX4_init 47 = .ok (.aload_n 0, 1) := dk_42 (dk_at dksX4_init_2 1 rfl rfl)
theorem dX4_init_48 : decode cX4_init 48 = .ok (.getfield 21, 3) := dk_180 0 21 (dk_at dksX4_init_2 2 rfl rfl)
theorem dX4_init_51 : decode cX4_init 51 = .ok (.iload_n 1, 1) := dk_27 (dk_at dksX4_init_2 5 rfl rfl)
theorem dX4_init_52 : decode cX4_init 52 = .ok (.iconst 1, 1) := dk_4 (dk_at dksX4_init_2 6 rfl rfl)
theorem dX4_init_53 : decode cX4_init 53 = .ok (.iastore, 1) := dk_79 (dk_at dksX4_init_2 7 rfl rfl)
theorem dX4_init_54 : decode cX4_init 54 = .ok (.iinc 1 1, 3) := dk_132 1 1 (dk_at dksX4_init_2 8 rfl rfl)
theorem dX4_init_57 : decode cX4_init 57 = .ok (.goto (-23), 3) := dk_167 255 233 (dk_at dksX4_init_2 11 rfl rfl)
theorem dX4_init_60 : decode cX4_init 60 = .ok (.return_, 1) := dk_177 (dk_at dksX4_init_2 14 rfl rfl)
abbrev cX4_twin : ByteArray := prog_7_method_2_code
def yX4_twin : MethodName := ⟨RX4, "twin", "()LOfferSky$Sides;"⟩
def dkwX4_twin_2 : List UInt8 := [181, 0, 18, 43, 42, 180, 0, 21, 182, 0, 25, 192, 0, 26, 181, 0, 21, 43, 176]
abbrev dktX4_twin_2 : List UInt8 := dkwX4_twin_2 ++ []
def dkwX4_twin_1 : List UInt8 := [180, 0, 15, 182, 0, 25, 192, 0, 26, 181, 0, 15, 43, 42, 180, 0, 18, 182, 0, 25, 192, 0, 26]
abbrev dktX4_twin_1 : List UInt8 := dkwX4_twin_1 ++ dktX4_twin_2
def dkwX4_twin_0 : List UInt8 := [187, 0, 10, 89, 183, 0, 24, 76, 43, 42, 180, 0, 9, 182, 0, 25, 192, 0, 26, 181, 0, 9, 43, 42]
abbrev dktX4_twin_0 : List UInt8 := dkwX4_twin_0 ++ dktX4_twin_1
theorem dksX4_twin_0 : cX4_twin.data.toList.drop 0 = dktX4_twin_0 := by decide +kernel
theorem dksX4_twin_1 : cX4_twin.data.toList.drop 24 = dktX4_twin_1 := dk_seg dksX4_twin_0 24 rfl rfl
theorem dksX4_twin_2 : cX4_twin.data.toList.drop 47 = dktX4_twin_2 := dk_seg dksX4_twin_1 23 rfl rfl
theorem dX4_twin_0 : decode cX4_twin 0 = .ok (.new 10, 3) := dk_187 0 10 (dk_at dksX4_twin_0 0 rfl rfl)
theorem dX4_twin_3 : decode cX4_twin 3 = .ok (.dup, 1) := dk_89 (dk_at dksX4_twin_0 3 rfl rfl)
theorem dX4_twin_4 : decode cX4_twin 4 = .ok (.invokespecial 24, 3) := dk_183 0 24 (dk_at dksX4_twin_0 4 rfl rfl)
theorem dX4_twin_7 : decode cX4_twin 7 = .ok (.astore_n 1, 1) := dk_76 (dk_at dksX4_twin_0 7 rfl rfl)
theorem dX4_twin_8 : decode cX4_twin 8 = .ok (.aload_n 1, 1) := dk_43 (dk_at dksX4_twin_0 8 rfl rfl)
theorem dX4_twin_9 : decode cX4_twin 9 = .ok (.aload_n 0, 1) := dk_42 (dk_at dksX4_twin_0 9 rfl rfl)
theorem dX4_twin_10 : decode cX4_twin 10 = .ok (.getfield 9, 3) := dk_180 0 9 (dk_at dksX4_twin_0 10 rfl rfl)
theorem dX4_twin_13 : decode cX4_twin 13 = .ok (.invokevirtual 25, 3) := dk_182 0 25 (dk_at dksX4_twin_0 13 rfl rfl)
theorem dX4_twin_16 : decode cX4_twin 16 = .ok (.checkcast 26, 3) := dk_192 0 26 (dk_at dksX4_twin_0 16 rfl rfl)
theorem dX4_twin_19 : decode cX4_twin 19 = .ok (.putfield 9, 3) := dk_181 0 9 (dk_at dksX4_twin_0 19 rfl rfl)
theorem dX4_twin_22 : decode cX4_twin 22 = .ok (.aload_n 1, 1) := dk_43 (dk_at dksX4_twin_0 22 rfl rfl)
theorem dX4_twin_23 : decode cX4_twin 23 = .ok (.aload_n 0, 1) := dk_42 (dk_at dksX4_twin_0 23 rfl rfl)
theorem dX4_twin_24 : decode cX4_twin 24 = .ok (.getfield 15, 3) := dk_180 0 15 (dk_at dksX4_twin_1 0 rfl rfl)
theorem dX4_twin_27 : decode cX4_twin 27 = .ok (.invokevirtual 25, 3) := dk_182 0 25 (dk_at dksX4_twin_1 3 rfl rfl)
theorem dX4_twin_30 : decode cX4_twin 30 = .ok (.checkcast 26, 3) := dk_192 0 26 (dk_at dksX4_twin_1 6 rfl rfl)
theorem dX4_twin_33 : decode cX4_twin 33 = .ok (.putfield 15, 3) := dk_181 0 15 (dk_at dksX4_twin_1 9 rfl rfl)
theorem dX4_twin_36 : decode cX4_twin 36 = .ok (.aload_n 1, 1) := dk_43 (dk_at dksX4_twin_1 12 rfl rfl)
theorem dX4_twin_37 : decode cX4_twin 37 = .ok (.aload_n 0, 1) := dk_42 (dk_at dksX4_twin_1 13 rfl rfl)
theorem dX4_twin_38 : decode cX4_twin 38 = .ok (.getfield 18, 3) := dk_180 0 18 (dk_at dksX4_twin_1 14 rfl rfl)
theorem dX4_twin_41 : decode cX4_twin 41 = .ok (.invokevirtual 25, 3) := dk_182 0 25 (dk_at dksX4_twin_1 17 rfl rfl)
theorem dX4_twin_44 : decode cX4_twin 44 = .ok (.checkcast 26, 3) := dk_192 0 26 (dk_at dksX4_twin_1 20 rfl rfl)
theorem dX4_twin_47 : decode cX4_twin 47 = .ok (.putfield 18, 3) := dk_181 0 18 (dk_at dksX4_twin_2 0 rfl rfl)
theorem dX4_twin_50 : decode cX4_twin 50 = .ok (.aload_n 1, 1) := dk_43 (dk_at dksX4_twin_2 3 rfl rfl)
theorem dX4_twin_51 : decode cX4_twin 51 = .ok (.aload_n 0, 1) := dk_42 (dk_at dksX4_twin_2 4 rfl rfl)
theorem dX4_twin_52 : decode cX4_twin 52 = .ok (.getfield 21, 3) := dk_180 0 21 (dk_at dksX4_twin_2 5 rfl rfl)
theorem dX4_twin_55 : decode cX4_twin 55 = .ok (.invokevirtual 25, 3) := dk_182 0 25 (dk_at dksX4_twin_2 8 rfl rfl)
theorem dX4_twin_58 : decode cX4_twin 58 = .ok (.checkcast 26, 3) := dk_192 0 26 (dk_at dksX4_twin_2 11 rfl rfl)
theorem dX4_twin_61 : decode cX4_twin 61 = .ok (.putfield 21, 3) := dk_181 0 21 (dk_at dksX4_twin_2 14 rfl rfl)
theorem dX4_twin_64 : decode cX4_twin 64 = .ok (.aload_n 1, 1) := dk_43 (dk_at dksX4_twin_2 17 rfl rfl)
theorem dX4_twin_65 : decode cX4_twin 65 = .ok (.areturn, 1) := dk_176 (dk_at dksX4_twin_2 18 rfl rfl)
abbrev cX4_counts : ByteArray := prog_7_method_7_code
def yX4_counts : MethodName := ⟨RX4, "counts", "(LOfferSky$Offer;)Z"⟩
def dkwX4_counts_1 : List UInt8 := [132, 3, 1, 167, 255, 234, 28, 172]
abbrev dktX4_counts_1 : List UInt8 := dkwX4_counts_1 ++ []
def dkwX4_counts_0 : List UInt8 := [4, 61, 3, 62, 29, 7, 162, 0, 23, 28, 42, 29, 43, 180, 0, 38, 29, 46, 182, 0, 47, 126, 61]
abbrev dktX4_counts_0 : List UInt8 := dkwX4_counts_0 ++ dktX4_counts_1
theorem dksX4_counts_0 : cX4_counts.data.toList.drop 0 = dktX4_counts_0 := by decide +kernel
theorem dksX4_counts_1 : cX4_counts.data.toList.drop 23 = dktX4_counts_1 := dk_seg dksX4_counts_0 23 rfl rfl
theorem dX4_counts_0 : decode cX4_counts 0 = .ok (.iconst 1, 1) := dk_4 (dk_at dksX4_counts_0 0 rfl rfl)
theorem dX4_counts_1 : decode cX4_counts 1 = .ok (.istore_n 2, 1) := dk_61 (dk_at dksX4_counts_0 1 rfl rfl)
theorem dX4_counts_2 : decode cX4_counts 2 = .ok (.iconst 0, 1) := dk_3 (dk_at dksX4_counts_0 2 rfl rfl)
theorem dX4_counts_3 : decode cX4_counts 3 = .ok (.istore_n 3, 1) := dk_62 (dk_at dksX4_counts_0 3 rfl rfl)
theorem dX4_counts_4 : decode cX4_counts 4 = .ok (.iload_n 3, 1) := dk_29 (dk_at dksX4_counts_0 4 rfl rfl)
theorem dX4_counts_5 : decode cX4_counts 5 = .ok (.iconst 4, 1) := dk_7 (dk_at dksX4_counts_0 5 rfl rfl)
theorem dX4_counts_6 : decode cX4_counts 6 = .ok (.if_icmp .ge 23, 3) := dk_162 0 23 (dk_at dksX4_counts_0 6 rfl rfl)
theorem dX4_counts_9 : decode cX4_counts 9 = .ok (.iload_n 2, 1) := dk_28 (dk_at dksX4_counts_0 9 rfl rfl)
theorem dX4_counts_10 : decode cX4_counts 10 = .ok (.aload_n 0, 1) := dk_42 (dk_at dksX4_counts_0 10 rfl rfl)
theorem dX4_counts_11 : decode cX4_counts 11 = .ok (.iload_n 3, 1) := dk_29 (dk_at dksX4_counts_0 11 rfl rfl)
theorem dX4_counts_12 : decode cX4_counts 12 = .ok (.aload_n 1, 1) := dk_43 (dk_at dksX4_counts_0 12 rfl rfl)
theorem dX4_counts_13 : decode cX4_counts 13 = .ok (.getfield 38, 3) := dk_180 0 38 (dk_at dksX4_counts_0 13 rfl rfl)
theorem dX4_counts_16 : decode cX4_counts 16 = .ok (.iload_n 3, 1) := dk_29 (dk_at dksX4_counts_0 16 rfl rfl)
theorem dX4_counts_17 : decode cX4_counts 17 = .ok (.iaload, 1) := dk_46 (dk_at dksX4_counts_0 17 rfl rfl)
theorem dX4_counts_18 : decode cX4_counts 18 = .ok (.invokevirtual 47, 3) := dk_182 0 47 (dk_at dksX4_counts_0 18 rfl rfl)
theorem dX4_counts_21 : decode cX4_counts 21 = .ok (.iand, 1) := dk_126 (dk_at dksX4_counts_0 21 rfl rfl)
theorem dX4_counts_22 : decode cX4_counts 22 = .ok (.istore_n 2, 1) := dk_61 (dk_at dksX4_counts_0 22 rfl rfl)
theorem dX4_counts_23 : decode cX4_counts 23 = .ok (.iinc 3 1, 3) := dk_132 3 1 (dk_at dksX4_counts_1 0 rfl rfl)
theorem dX4_counts_26 : decode cX4_counts 26 = .ok (.goto (-22), 3) := dk_167 255 234 (dk_at dksX4_counts_1 3 rfl rfl)
theorem dX4_counts_29 : decode cX4_counts 29 = .ok (.iload_n 2, 1) := dk_28 (dk_at dksX4_counts_1 6 rfl rfl)
theorem dX4_counts_30 : decode cX4_counts 30 = .ok (.ireturn, 1) := dk_172 (dk_at dksX4_counts_1 7 rfl rfl)
abbrev cX4_isWithin : ByteArray := prog_7_method_6_code
def yX4_isWithin : MethodName := ⟨RX4, "isWithin", "(II)Z"⟩
def dkwX4_isWithin_0 : List UInt8 := [28, 42, 180, 0, 15, 27, 46, 42, 180, 0, 18, 27, 46, 184, 0, 43, 172]
abbrev dktX4_isWithin_0 : List UInt8 := dkwX4_isWithin_0 ++ []
theorem dksX4_isWithin_0 : cX4_isWithin.data.toList.drop 0 = dktX4_isWithin_0 := by decide +kernel
theorem dX4_isWithin_0 : decode cX4_isWithin 0 = .ok (.iload_n 2, 1) := dk_28 (dk_at dksX4_isWithin_0 0 rfl rfl)
theorem dX4_isWithin_1 : decode cX4_isWithin 1 = .ok (.aload_n 0, 1) := dk_42 (dk_at dksX4_isWithin_0 1 rfl rfl)
theorem dX4_isWithin_2 : decode cX4_isWithin 2 = .ok (.getfield 15, 3) := dk_180 0 15 (dk_at dksX4_isWithin_0 2 rfl rfl)
theorem dX4_isWithin_5 : decode cX4_isWithin 5 = .ok (.iload_n 1, 1) := dk_27 (dk_at dksX4_isWithin_0 5 rfl rfl)
theorem dX4_isWithin_6 : decode cX4_isWithin 6 = .ok (.iaload, 1) := dk_46 (dk_at dksX4_isWithin_0 6 rfl rfl)
theorem dX4_isWithin_7 : decode cX4_isWithin 7 = .ok (.aload_n 0, 1) := dk_42 (dk_at dksX4_isWithin_0 7 rfl rfl)
theorem dX4_isWithin_8 : decode cX4_isWithin 8 = .ok (.getfield 18, 3) := dk_180 0 18 (dk_at dksX4_isWithin_0 8 rfl rfl)
theorem dX4_isWithin_11 : decode cX4_isWithin 11 = .ok (.iload_n 1, 1) := dk_27 (dk_at dksX4_isWithin_0 11 rfl rfl)
theorem dX4_isWithin_12 : decode cX4_isWithin 12 = .ok (.iaload, 1) := dk_46 (dk_at dksX4_isWithin_0 12 rfl rfl)
theorem dX4_isWithin_13 : decode cX4_isWithin 13 = .ok (.invokestatic 43, 3) := dk_184 0 43 (dk_at dksX4_isWithin_0 13 rfl rfl)
theorem dX4_isWithin_16 : decode cX4_isWithin 16 = .ok (.ireturn, 1) := dk_172 (dk_at dksX4_isWithin_0 16 rfl rfl)
abbrev cX4_isAbove : ByteArray := prog_7_method_10_code
def yX4_isAbove : MethodName := ⟨RX4, "isAbove", "(LOfferSky$Offer;LOfferSky$Offer;I)Z"⟩
def dkwX4_isAbove_1 : List UInt8 := [3, 172]
abbrev dktX4_isAbove_1 : List UInt8 := dkwX4_isAbove_1 ++ []
def dkwX4_isAbove_0 : List UInt8 := [42, 44, 43, 29, 182, 0, 58, 154, 0, 17, 42, 43, 44, 29, 182, 0, 58, 158, 0, 7, 4, 167, 0, 4]
abbrev dktX4_isAbove_0 : List UInt8 := dkwX4_isAbove_0 ++ dktX4_isAbove_1
theorem dksX4_isAbove_0 : cX4_isAbove.data.toList.drop 0 = dktX4_isAbove_0 := by decide +kernel
theorem dksX4_isAbove_1 : cX4_isAbove.data.toList.drop 24 = dktX4_isAbove_1 := dk_seg dksX4_isAbove_0 24 rfl rfl
theorem dX4_isAbove_0 : decode cX4_isAbove 0 = .ok (.aload_n 0, 1) := dk_42 (dk_at dksX4_isAbove_0 0 rfl rfl)
theorem dX4_isAbove_1 : decode cX4_isAbove 1 = .ok (.aload_n 2, 1) := dk_44 (dk_at dksX4_isAbove_0 1 rfl rfl)
theorem dX4_isAbove_2 : decode cX4_isAbove 2 = .ok (.aload_n 1, 1) := dk_43 (dk_at dksX4_isAbove_0 2 rfl rfl)
theorem dX4_isAbove_3 : decode cX4_isAbove 3 = .ok (.iload_n 3, 1) := dk_29 (dk_at dksX4_isAbove_0 3 rfl rfl)
theorem dX4_isAbove_4 : decode cX4_isAbove 4 = .ok (.invokevirtual 58, 3) := dk_182 0 58 (dk_at dksX4_isAbove_0 4 rfl rfl)
theorem dX4_isAbove_7 : decode cX4_isAbove 7 = .ok (.ifCond .ne 17, 3) := dk_154 0 17 (dk_at dksX4_isAbove_0 7 rfl rfl)
theorem dX4_isAbove_10 : decode cX4_isAbove 10 = .ok (.aload_n 0, 1) := dk_42 (dk_at dksX4_isAbove_0 10 rfl rfl)
theorem dX4_isAbove_11 : decode cX4_isAbove 11 = .ok (.aload_n 1, 1) := dk_43 (dk_at dksX4_isAbove_0 11 rfl rfl)
theorem dX4_isAbove_12 : decode cX4_isAbove 12 = .ok (.aload_n 2, 1) := dk_44 (dk_at dksX4_isAbove_0 12 rfl rfl)
theorem dX4_isAbove_13 : decode cX4_isAbove 13 = .ok (.iload_n 3, 1) := dk_29 (dk_at dksX4_isAbove_0 13 rfl rfl)
theorem dX4_isAbove_14 : decode cX4_isAbove 14 = .ok (.invokevirtual 58, 3) := dk_182 0 58 (dk_at dksX4_isAbove_0 14 rfl rfl)
theorem dX4_isAbove_17 : decode cX4_isAbove 17 = .ok (.ifCond .le 7, 3) := dk_158 0 7 (dk_at dksX4_isAbove_0 17 rfl rfl)
theorem dX4_isAbove_20 : decode cX4_isAbove 20 = .ok (.iconst 1, 1) := dk_4 (dk_at dksX4_isAbove_0 20 rfl rfl)
theorem dX4_isAbove_21 : decode cX4_isAbove 21 = .ok (.goto 4, 3) := dk_167 0 4 (dk_at dksX4_isAbove_0 21 rfl rfl)
theorem dX4_isAbove_24 : decode cX4_isAbove 24 = .ok (.iconst 0, 1) := dk_3 (dk_at dksX4_isAbove_1 0 rfl rfl)
theorem dX4_isAbove_25 : decode cX4_isAbove 25 = .ok (.ireturn, 1) := dk_172 (dk_at dksX4_isAbove_1 1 rfl rfl)
abbrev cX4_better : ByteArray := prog_7_method_8_code
def yX4_better : MethodName := ⟨RX4, "better", "(LOfferSky$Offer;LOfferSky$Offer;I)I"⟩
def dkwX4_better_3 : List UInt8 := [132, 5, 1, 167, 255, 187, 21, 4, 172]
abbrev dktX4_better_3 : List UInt8 := dkwX4_better_3 ++ []
def dkwX4_better_2 : List UInt8 := [182, 0, 54, 42, 44, 21, 5, 182, 0, 54, 164, 0, 7, 4, 167, 0, 4, 3, 184, 0, 34, 96, 54, 4]
abbrev dktX4_better_2 : List UInt8 := dkwX4_better_2 ++ dktX4_better_3
def dkwX4_better_1 : List UInt8 := [182, 0, 30, 153, 0, 7, 4, 167, 0, 4, 3, 54, 6, 21, 4, 21, 6, 153, 0, 24, 42, 43, 21, 5]
abbrev dktX4_better_1 : List UInt8 := dkwX4_better_1 ++ dktX4_better_2
def dkwX4_better_0 : List UInt8 := [3, 54, 4, 3, 54, 5, 21, 5, 7, 162, 0, 69, 29, 21, 5, 184, 0, 51, 153, 0, 16, 42, 21, 5]
abbrev dktX4_better_0 : List UInt8 := dkwX4_better_0 ++ dktX4_better_1
theorem dksX4_better_0 : cX4_better.data.toList.drop 0 = dktX4_better_0 := by decide +kernel
theorem dksX4_better_1 : cX4_better.data.toList.drop 24 = dktX4_better_1 := dk_seg dksX4_better_0 24 rfl rfl
theorem dksX4_better_2 : cX4_better.data.toList.drop 48 = dktX4_better_2 := dk_seg dksX4_better_1 24 rfl rfl
theorem dksX4_better_3 : cX4_better.data.toList.drop 72 = dktX4_better_3 := dk_seg dksX4_better_2 24 rfl rfl
theorem dX4_better_0 : decode cX4_better 0 = .ok (.iconst 0, 1) := dk_3 (dk_at dksX4_better_0 0 rfl rfl)
theorem dX4_better_1 : decode cX4_better 1 = .ok (.istore 4, 2) := dk_54 4 (dk_at dksX4_better_0 1 rfl rfl)
theorem dX4_better_3 : decode cX4_better 3 = .ok (.iconst 0, 1) := dk_3 (dk_at dksX4_better_0 3 rfl rfl)
theorem dX4_better_4 : decode cX4_better 4 = .ok (.istore 5, 2) := dk_54 5 (dk_at dksX4_better_0 4 rfl rfl)
theorem dX4_better_6 : decode cX4_better 6 = .ok (.iload 5, 2) := dk_21 5 (dk_at dksX4_better_0 6 rfl rfl)
theorem dX4_better_8 : decode cX4_better 8 = .ok (.iconst 4, 1) := dk_7 (dk_at dksX4_better_0 8 rfl rfl)
theorem dX4_better_9 : decode cX4_better 9 = .ok (.if_icmp .ge 69, 3) := dk_162 0 69 (dk_at dksX4_better_0 9 rfl rfl)
theorem dX4_better_12 : decode cX4_better 12 = .ok (.iload_n 3, 1) := dk_29 (dk_at dksX4_better_0 12 rfl rfl)
theorem dX4_better_13 : decode cX4_better 13 = .ok (.iload 5, 2) := dk_21 5 (dk_at dksX4_better_0 13 rfl rfl)
theorem dX4_better_15 : decode cX4_better 15 = .ok (.invokestatic 51, 3) := dk_184 0 51 (dk_at dksX4_better_0 15 rfl rfl)
theorem dX4_better_18 : decode cX4_better 18 = .ok (.ifCond .eq 16, 3) := dk_153 0 16 (dk_at dksX4_better_0 18 rfl rfl)
theorem dX4_better_21 : decode cX4_better 21 = .ok (.aload_n 0, 1) := dk_42 (dk_at dksX4_better_0 21 rfl rfl)
theorem dX4_better_22 : decode cX4_better 22 = .ok (.iload 5, 2) := dk_21 5 (dk_at dksX4_better_0 22 rfl rfl)
theorem dX4_better_24 : decode cX4_better 24 = .ok (.invokevirtual 30, 3) := dk_182 0 30 (dk_at dksX4_better_1 0 rfl rfl)
theorem dX4_better_27 : decode cX4_better 27 = .ok (.ifCond .eq 7, 3) := dk_153 0 7 (dk_at dksX4_better_1 3 rfl rfl)
theorem dX4_better_30 : decode cX4_better 30 = .ok (.iconst 1, 1) := dk_4 (dk_at dksX4_better_1 6 rfl rfl)
theorem dX4_better_31 : decode cX4_better 31 = .ok (.goto 4, 3) := dk_167 0 4 (dk_at dksX4_better_1 7 rfl rfl)
theorem dX4_better_34 : decode cX4_better 34 = .ok (.iconst 0, 1) := dk_3 (dk_at dksX4_better_1 10 rfl rfl)
theorem dX4_better_35 : decode cX4_better 35 = .ok (.istore 6, 2) := dk_54 6 (dk_at dksX4_better_1 11 rfl rfl)
theorem dX4_better_37 : decode cX4_better 37 = .ok (.iload 4, 2) := dk_21 4 (dk_at dksX4_better_1 13 rfl rfl)
theorem dX4_better_39 : decode cX4_better 39 = .ok (.iload 6, 2) := dk_21 6 (dk_at dksX4_better_1 15 rfl rfl)
theorem dX4_better_41 : decode cX4_better 41 = .ok (.ifCond .eq 24, 3) := dk_153 0 24 (dk_at dksX4_better_1 17 rfl rfl)
theorem dX4_better_44 : decode cX4_better 44 = .ok (.aload_n 0, 1) := dk_42 (dk_at dksX4_better_1 20 rfl rfl)
theorem dX4_better_45 : decode cX4_better 45 = .ok (.aload_n 1, 1) := dk_43 (dk_at dksX4_better_1 21 rfl rfl)
theorem dX4_better_46 : decode cX4_better 46 = .ok (.iload 5, 2) := dk_21 5 (dk_at dksX4_better_1 22 rfl rfl)
theorem dX4_better_48 : decode cX4_better 48 = .ok (.invokevirtual 54, 3) := dk_182 0 54 (dk_at dksX4_better_2 0 rfl rfl)
theorem dX4_better_51 : decode cX4_better 51 = .ok (.aload_n 0, 1) := dk_42 (dk_at dksX4_better_2 3 rfl rfl)
theorem dX4_better_52 : decode cX4_better 52 = .ok (.aload_n 2, 1) := dk_44 (dk_at dksX4_better_2 4 rfl rfl)
theorem dX4_better_53 : decode cX4_better 53 = .ok (.iload 5, 2) := dk_21 5 (dk_at dksX4_better_2 5 rfl rfl)
theorem dX4_better_55 : decode cX4_better 55 = .ok (.invokevirtual 54, 3) := dk_182 0 54 (dk_at dksX4_better_2 7 rfl rfl)
theorem dX4_better_58 : decode cX4_better 58 = .ok (.if_icmp .le 7, 3) := dk_164 0 7 (dk_at dksX4_better_2 10 rfl rfl)
theorem dX4_better_61 : decode cX4_better 61 = .ok (.iconst 1, 1) := dk_4 (dk_at dksX4_better_2 13 rfl rfl)
theorem dX4_better_62 : decode cX4_better 62 = .ok (.goto 4, 3) := dk_167 0 4 (dk_at dksX4_better_2 14 rfl rfl)
theorem dX4_better_65 : decode cX4_better 65 = .ok (.iconst 0, 1) := dk_3 (dk_at dksX4_better_2 17 rfl rfl)
theorem dX4_better_66 : decode cX4_better 66 = .ok (.invokestatic 34, 3) := dk_184 0 34 (dk_at dksX4_better_2 18 rfl rfl)
theorem dX4_better_69 : decode cX4_better 69 = .ok (.iadd, 1) := dk_96 (dk_at dksX4_better_2 21 rfl rfl)
theorem dX4_better_70 : decode cX4_better 70 = .ok (.istore 4, 2) := dk_54 4 (dk_at dksX4_better_2 22 rfl rfl)
theorem dX4_better_72 : decode cX4_better 72 = .ok (.iinc 5 1, 3) := dk_132 5 1 (dk_at dksX4_better_3 0 rfl rfl)
theorem dX4_better_75 : decode cX4_better 75 = .ok (.goto (-69), 3) := dk_167 255 187 (dk_at dksX4_better_3 3 rfl rfl)
theorem dX4_better_78 : decode cX4_better 78 = .ok (.iload 4, 2) := dk_21 4 (dk_at dksX4_better_3 6 rfl rfl)
theorem dX4_better_80 : decode cX4_better 80 = .ok (.ireturn, 1) := dk_172 (dk_at dksX4_better_3 8 rfl rfl)
abbrev cX4_matters : ByteArray := prog_7_method_3_code
def yX4_matters : MethodName := ⟨RX4, "matters", "(I)Z"⟩
def dkwX4_matters_0 : List UInt8 := [42, 180, 0, 9, 27, 46, 5, 159, 0, 7, 4, 167, 0, 4, 3, 172]
abbrev dktX4_matters_0 : List UInt8 := dkwX4_matters_0 ++ []
theorem dksX4_matters_0 : cX4_matters.data.toList.drop 0 = dktX4_matters_0 := by decide +kernel
theorem dX4_matters_0 : decode cX4_matters 0 = .ok (.aload_n 0, 1) := dk_42 (dk_at dksX4_matters_0 0 rfl rfl)
theorem dX4_matters_1 : decode cX4_matters 1 = .ok (.getfield 9, 3) := dk_180 0 9 (dk_at dksX4_matters_0 1 rfl rfl)
theorem dX4_matters_4 : decode cX4_matters 4 = .ok (.iload_n 1, 1) := dk_27 (dk_at dksX4_matters_0 4 rfl rfl)
theorem dX4_matters_5 : decode cX4_matters 5 = .ok (.iaload, 1) := dk_46 (dk_at dksX4_matters_0 5 rfl rfl)
theorem dX4_matters_6 : decode cX4_matters 6 = .ok (.iconst 2, 1) := dk_5 (dk_at dksX4_matters_0 6 rfl rfl)
theorem dX4_matters_7 : decode cX4_matters 7 = .ok (.if_icmp .eq 7, 3) := dk_159 0 7 (dk_at dksX4_matters_0 7 rfl rfl)
theorem dX4_matters_10 : decode cX4_matters 10 = .ok (.iconst 1, 1) := dk_4 (dk_at dksX4_matters_0 10 rfl rfl)
theorem dX4_matters_11 : decode cX4_matters 11 = .ok (.goto 4, 3) := dk_167 0 4 (dk_at dksX4_matters_0 11 rfl rfl)
theorem dX4_matters_14 : decode cX4_matters 14 = .ok (.iconst 0, 1) := dk_3 (dk_at dksX4_matters_0 14 rfl rfl)
theorem dX4_matters_15 : decode cX4_matters 15 = .ok (.ireturn, 1) := dk_172 (dk_at dksX4_matters_0 15 rfl rfl)
abbrev cX4_good : ByteArray := prog_7_method_5_code
def yX4_good : MethodName := ⟨RX4, "good", "(LOfferSky$Offer;I)I"⟩
def dkwX4_good_1 : List UInt8 := [180, 0, 38, 28, 46, 100, 172]
abbrev dktX4_good_1 : List UInt8 := dkwX4_good_1 ++ []
def dkwX4_good_0 : List UInt8 := [42, 180, 0, 9, 28, 46, 4, 160, 0, 12, 43, 180, 0, 38, 28, 46, 167, 0, 12, 16, 99, 43]
abbrev dktX4_good_0 : List UInt8 := dkwX4_good_0 ++ dktX4_good_1
theorem dksX4_good_0 : cX4_good.data.toList.drop 0 = dktX4_good_0 := by decide +kernel
theorem dksX4_good_1 : cX4_good.data.toList.drop 22 = dktX4_good_1 := dk_seg dksX4_good_0 22 rfl rfl
theorem dX4_good_0 : decode cX4_good 0 = .ok (.aload_n 0, 1) := dk_42 (dk_at dksX4_good_0 0 rfl rfl)
theorem dX4_good_1 : decode cX4_good 1 = .ok (.getfield 9, 3) := dk_180 0 9 (dk_at dksX4_good_0 1 rfl rfl)
theorem dX4_good_4 : decode cX4_good 4 = .ok (.iload_n 2, 1) := dk_28 (dk_at dksX4_good_0 4 rfl rfl)
theorem dX4_good_5 : decode cX4_good 5 = .ok (.iaload, 1) := dk_46 (dk_at dksX4_good_0 5 rfl rfl)
theorem dX4_good_6 : decode cX4_good 6 = .ok (.iconst 1, 1) := dk_4 (dk_at dksX4_good_0 6 rfl rfl)
theorem dX4_good_7 : decode cX4_good 7 = .ok (.if_icmp .ne 12, 3) := dk_160 0 12 (dk_at dksX4_good_0 7 rfl rfl)
theorem dX4_good_10 : decode cX4_good 10 = .ok (.aload_n 1, 1) := dk_43 (dk_at dksX4_good_0 10 rfl rfl)
theorem dX4_good_11 : decode cX4_good 11 = .ok (.getfield 38, 3) := dk_180 0 38 (dk_at dksX4_good_0 11 rfl rfl)
theorem dX4_good_14 : decode cX4_good 14 = .ok (.iload_n 2, 1) := dk_28 (dk_at dksX4_good_0 14 rfl rfl)
theorem dX4_good_15 : decode cX4_good 15 = .ok (.iaload, 1) := dk_46 (dk_at dksX4_good_0 15 rfl rfl)
theorem dX4_good_16 : decode cX4_good 16 = .ok (.goto 12, 3) := dk_167 0 12 (dk_at dksX4_good_0 16 rfl rfl)
theorem dX4_good_19 : decode cX4_good 19 = .ok (.bipush 99, 2) := dk_16 99 (dk_at dksX4_good_0 19 rfl rfl)
theorem dX4_good_21 : decode cX4_good 21 = .ok (.aload_n 1, 1) := dk_43 (dk_at dksX4_good_0 21 rfl rfl)
theorem dX4_good_22 : decode cX4_good 22 = .ok (.getfield 38, 3) := dk_180 0 38 (dk_at dksX4_good_1 0 rfl rfl)
theorem dX4_good_25 : decode cX4_good 25 = .ok (.iload_n 2, 1) := dk_28 (dk_at dksX4_good_1 3 rfl rfl)
theorem dX4_good_26 : decode cX4_good 26 = .ok (.iaload, 1) := dk_46 (dk_at dksX4_good_1 4 rfl rfl)
theorem dX4_good_27 : decode cX4_good 27 = .ok (.isub, 1) := dk_100 (dk_at dksX4_good_1 5 rfl rfl)
theorem dX4_good_28 : decode cX4_good 28 = .ok (.ireturn, 1) := dk_172 (dk_at dksX4_good_1 6 rfl rfl)
abbrev cX4_sum : ByteArray := prog_7_method_12_code
def yX4_sum : MethodName := ⟨RX4, "sum", "(LOfferSky$Offer;)I"⟩
def dkwX4_sum_1 : List UInt8 := [167, 0, 4, 3, 96, 61, 132, 3, 1, 167, 255, 227, 28, 172]
abbrev dktX4_sum_1 : List UInt8 := dkwX4_sum_1 ++ []
def dkwX4_sum_0 : List UInt8 := [3, 61, 3, 62, 29, 7, 162, 0, 30, 28, 42, 29, 182, 0, 30, 153, 0, 12, 42, 43, 29, 182, 0, 54]
abbrev dktX4_sum_0 : List UInt8 := dkwX4_sum_0 ++ dktX4_sum_1
theorem dksX4_sum_0 : cX4_sum.data.toList.drop 0 = dktX4_sum_0 := by decide +kernel
theorem dksX4_sum_1 : cX4_sum.data.toList.drop 24 = dktX4_sum_1 := dk_seg dksX4_sum_0 24 rfl rfl
theorem dX4_sum_0 : decode cX4_sum 0 = .ok (.iconst 0, 1) := dk_3 (dk_at dksX4_sum_0 0 rfl rfl)
theorem dX4_sum_1 : decode cX4_sum 1 = .ok (.istore_n 2, 1) := dk_61 (dk_at dksX4_sum_0 1 rfl rfl)
theorem dX4_sum_2 : decode cX4_sum 2 = .ok (.iconst 0, 1) := dk_3 (dk_at dksX4_sum_0 2 rfl rfl)
theorem dX4_sum_3 : decode cX4_sum 3 = .ok (.istore_n 3, 1) := dk_62 (dk_at dksX4_sum_0 3 rfl rfl)
theorem dX4_sum_4 : decode cX4_sum 4 = .ok (.iload_n 3, 1) := dk_29 (dk_at dksX4_sum_0 4 rfl rfl)
theorem dX4_sum_5 : decode cX4_sum 5 = .ok (.iconst 4, 1) := dk_7 (dk_at dksX4_sum_0 5 rfl rfl)
theorem dX4_sum_6 : decode cX4_sum 6 = .ok (.if_icmp .ge 30, 3) := dk_162 0 30 (dk_at dksX4_sum_0 6 rfl rfl)
theorem dX4_sum_9 : decode cX4_sum 9 = .ok (.iload_n 2, 1) := dk_28 (dk_at dksX4_sum_0 9 rfl rfl)
theorem dX4_sum_10 : decode cX4_sum 10 = .ok (.aload_n 0, 1) := dk_42 (dk_at dksX4_sum_0 10 rfl rfl)
theorem dX4_sum_11 : decode cX4_sum 11 = .ok (.iload_n 3, 1) := dk_29 (dk_at dksX4_sum_0 11 rfl rfl)
theorem dX4_sum_12 : decode cX4_sum 12 = .ok (.invokevirtual 30, 3) := dk_182 0 30 (dk_at dksX4_sum_0 12 rfl rfl)
theorem dX4_sum_15 : decode cX4_sum 15 = .ok (.ifCond .eq 12, 3) := dk_153 0 12 (dk_at dksX4_sum_0 15 rfl rfl)
theorem dX4_sum_18 : decode cX4_sum 18 = .ok (.aload_n 0, 1) := dk_42 (dk_at dksX4_sum_0 18 rfl rfl)
theorem dX4_sum_19 : decode cX4_sum 19 = .ok (.aload_n 1, 1) := dk_43 (dk_at dksX4_sum_0 19 rfl rfl)
theorem dX4_sum_20 : decode cX4_sum 20 = .ok (.iload_n 3, 1) := dk_29 (dk_at dksX4_sum_0 20 rfl rfl)
theorem dX4_sum_21 : decode cX4_sum 21 = .ok (.invokevirtual 54, 3) := dk_182 0 54 (dk_at dksX4_sum_0 21 rfl rfl)
theorem dX4_sum_24 : decode cX4_sum 24 = .ok (.goto 4, 3) := dk_167 0 4 (dk_at dksX4_sum_1 0 rfl rfl)
theorem dX4_sum_27 : decode cX4_sum 27 = .ok (.iconst 0, 1) := dk_3 (dk_at dksX4_sum_1 3 rfl rfl)
theorem dX4_sum_28 : decode cX4_sum 28 = .ok (.iadd, 1) := dk_96 (dk_at dksX4_sum_1 4 rfl rfl)
theorem dX4_sum_29 : decode cX4_sum 29 = .ok (.istore_n 2, 1) := dk_61 (dk_at dksX4_sum_1 5 rfl rfl)
theorem dX4_sum_30 : decode cX4_sum 30 = .ok (.iinc 3 1, 3) := dk_132 3 1 (dk_at dksX4_sum_1 6 rfl rfl)
theorem dX4_sum_33 : decode cX4_sum 33 = .ok (.goto (-29), 3) := dk_167 255 227 (dk_at dksX4_sum_1 9 rfl rfl)
theorem dX4_sum_36 : decode cX4_sum 36 = .ok (.iload_n 2, 1) := dk_28 (dk_at dksX4_sum_1 12 rfl rfl)
theorem dX4_sum_37 : decode cX4_sum 37 = .ok (.ireturn, 1) := dk_172 (dk_at dksX4_sum_1 13 rfl rfl)
abbrev cX4_score : ByteArray := prog_7_method_13_code
def yX4_score : MethodName := ⟨RX4, "score", "(LOfferSky$Offer;)I"⟩
def dkwX4_score_1 : List UInt8 := [42, 180, 0, 21, 29, 46, 104, 167, 0, 4, 3, 96, 61, 132, 3, 1, 167, 255, 220, 28, 172]
abbrev dktX4_score_1 : List UInt8 := dkwX4_score_1 ++ []
def dkwX4_score_0 : List UInt8 := [3, 61, 3, 62, 29, 7, 162, 0, 37, 28, 42, 29, 182, 0, 30, 153, 0, 19, 42, 43, 29, 182, 0, 54]
abbrev dktX4_score_0 : List UInt8 := dkwX4_score_0 ++ dktX4_score_1
theorem dksX4_score_0 : cX4_score.data.toList.drop 0 = dktX4_score_0 := by decide +kernel
theorem dksX4_score_1 : cX4_score.data.toList.drop 24 = dktX4_score_1 := dk_seg dksX4_score_0 24 rfl rfl
theorem dX4_score_0 : decode cX4_score 0 = .ok (.iconst 0, 1) := dk_3 (dk_at dksX4_score_0 0 rfl rfl)
theorem dX4_score_1 : decode cX4_score 1 = .ok (.istore_n 2, 1) := dk_61 (dk_at dksX4_score_0 1 rfl rfl)
theorem dX4_score_2 : decode cX4_score 2 = .ok (.iconst 0, 1) := dk_3 (dk_at dksX4_score_0 2 rfl rfl)
theorem dX4_score_3 : decode cX4_score 3 = .ok (.istore_n 3, 1) := dk_62 (dk_at dksX4_score_0 3 rfl rfl)
theorem dX4_score_4 : decode cX4_score 4 = .ok (.iload_n 3, 1) := dk_29 (dk_at dksX4_score_0 4 rfl rfl)
theorem dX4_score_5 : decode cX4_score 5 = .ok (.iconst 4, 1) := dk_7 (dk_at dksX4_score_0 5 rfl rfl)
theorem dX4_score_6 : decode cX4_score 6 = .ok (.if_icmp .ge 37, 3) := dk_162 0 37 (dk_at dksX4_score_0 6 rfl rfl)
theorem dX4_score_9 : decode cX4_score 9 = .ok (.iload_n 2, 1) := dk_28 (dk_at dksX4_score_0 9 rfl rfl)
theorem dX4_score_10 : decode cX4_score 10 = .ok (.aload_n 0, 1) := dk_42 (dk_at dksX4_score_0 10 rfl rfl)
theorem dX4_score_11 : decode cX4_score 11 = .ok (.iload_n 3, 1) := dk_29 (dk_at dksX4_score_0 11 rfl rfl)
theorem dX4_score_12 : decode cX4_score 12 = .ok (.invokevirtual 30, 3) := dk_182 0 30 (dk_at dksX4_score_0 12 rfl rfl)
theorem dX4_score_15 : decode cX4_score 15 = .ok (.ifCond .eq 19, 3) := dk_153 0 19 (dk_at dksX4_score_0 15 rfl rfl)
theorem dX4_score_18 : decode cX4_score 18 = .ok (.aload_n 0, 1) := dk_42 (dk_at dksX4_score_0 18 rfl rfl)
theorem dX4_score_19 : decode cX4_score 19 = .ok (.aload_n 1, 1) := dk_43 (dk_at dksX4_score_0 19 rfl rfl)
theorem dX4_score_20 : decode cX4_score 20 = .ok (.iload_n 3, 1) := dk_29 (dk_at dksX4_score_0 20 rfl rfl)
theorem dX4_score_21 : decode cX4_score 21 = .ok (.invokevirtual 54, 3) := dk_182 0 54 (dk_at dksX4_score_0 21 rfl rfl)
theorem dX4_score_24 : decode cX4_score 24 = .ok (.aload_n 0, 1) := dk_42 (dk_at dksX4_score_1 0 rfl rfl)
theorem dX4_score_25 : decode cX4_score 25 = .ok (.getfield 21, 3) := dk_180 0 21 (dk_at dksX4_score_1 1 rfl rfl)
theorem dX4_score_28 : decode cX4_score 28 = .ok (.iload_n 3, 1) := dk_29 (dk_at dksX4_score_1 4 rfl rfl)
theorem dX4_score_29 : decode cX4_score 29 = .ok (.iaload, 1) := dk_46 (dk_at dksX4_score_1 5 rfl rfl)
theorem dX4_score_30 : decode cX4_score 30 = .ok (.imul, 1) := dk_104 (dk_at dksX4_score_1 6 rfl rfl)
theorem dX4_score_31 : decode cX4_score 31 = .ok (.goto 4, 3) := dk_167 0 4 (dk_at dksX4_score_1 7 rfl rfl)
theorem dX4_score_34 : decode cX4_score 34 = .ok (.iconst 0, 1) := dk_3 (dk_at dksX4_score_1 10 rfl rfl)
theorem dX4_score_35 : decode cX4_score 35 = .ok (.iadd, 1) := dk_96 (dk_at dksX4_score_1 11 rfl rfl)
theorem dX4_score_36 : decode cX4_score 36 = .ok (.istore_n 2, 1) := dk_61 (dk_at dksX4_score_1 12 rfl rfl)
theorem dX4_score_37 : decode cX4_score 37 = .ok (.iinc 3 1, 3) := dk_132 3 1 (dk_at dksX4_score_1 13 rfl rfl)
theorem dX4_score_40 : decode cX4_score 40 = .ok (.goto (-36), 3) := dk_167 255 220 (dk_at dksX4_score_1 16 rfl rfl)
theorem dX4_score_43 : decode cX4_score 43 = .ok (.iload_n 2, 1) := dk_28 (dk_at dksX4_score_1 19 rfl rfl)
theorem dX4_score_44 : decode cX4_score 44 = .ok (.ireturn, 1) := dk_172 (dk_at dksX4_score_1 20 rfl rfl)
abbrev cX4_isAboveWeakly : ByteArray := prog_7_method_11_code
def yX4_isAboveWeakly : MethodName := ⟨RX4, "isAboveWeakly", "(LOfferSky$Offer;LOfferSky$Offer;I)Z"⟩
def dkwX4_isAboveWeakly_1 : List UInt8 := [167, 0, 4, 3, 172]
abbrev dktX4_isAboveWeakly_1 : List UInt8 := dkwX4_isAboveWeakly_1 ++ []
def dkwX4_isAboveWeakly_0 : List UInt8 := [42, 43, 44, 16, 15, 182, 0, 62, 29, 161, 0, 18, 42, 43, 44, 16, 15, 182, 0, 58, 158, 0, 7, 4]
abbrev dktX4_isAboveWeakly_0 : List UInt8 := dkwX4_isAboveWeakly_0 ++ dktX4_isAboveWeakly_1
theorem dksX4_isAboveWeakly_0 : cX4_isAboveWeakly.data.toList.drop 0 = dktX4_isAboveWeakly_0 := by decide +kernel
theorem dksX4_isAboveWeakly_1 : cX4_isAboveWeakly.data.toList.drop 24 = dktX4_isAboveWeakly_1 := dk_seg dksX4_isAboveWeakly_0 24 rfl rfl
theorem dX4_isAboveWeakly_0 : decode cX4_isAboveWeakly 0 = .ok (.aload_n 0, 1) := dk_42 (dk_at dksX4_isAboveWeakly_0 0 rfl rfl)
theorem dX4_isAboveWeakly_1 : decode cX4_isAboveWeakly 1 = .ok (.aload_n 1, 1) := dk_43 (dk_at dksX4_isAboveWeakly_0 1 rfl rfl)
theorem dX4_isAboveWeakly_2 : decode cX4_isAboveWeakly 2 = .ok (.aload_n 2, 1) := dk_44 (dk_at dksX4_isAboveWeakly_0 2 rfl rfl)
theorem dX4_isAboveWeakly_3 : decode cX4_isAboveWeakly 3 = .ok (.bipush 15, 2) := dk_16 15 (dk_at dksX4_isAboveWeakly_0 3 rfl rfl)
theorem dX4_isAboveWeakly_5 : decode cX4_isAboveWeakly 5 = .ok (.invokevirtual 62, 3) := dk_182 0 62 (dk_at dksX4_isAboveWeakly_0 5 rfl rfl)
theorem dX4_isAboveWeakly_8 : decode cX4_isAboveWeakly 8 = .ok (.iload_n 3, 1) := dk_29 (dk_at dksX4_isAboveWeakly_0 8 rfl rfl)
theorem dX4_isAboveWeakly_9 : decode cX4_isAboveWeakly 9 = .ok (.if_icmp .lt 18, 3) := dk_161 0 18 (dk_at dksX4_isAboveWeakly_0 9 rfl rfl)
theorem dX4_isAboveWeakly_12 : decode cX4_isAboveWeakly 12 = .ok (.aload_n 0, 1) := dk_42 (dk_at dksX4_isAboveWeakly_0 12 rfl rfl)
theorem dX4_isAboveWeakly_13 : decode cX4_isAboveWeakly 13 = .ok (.aload_n 1, 1) := dk_43 (dk_at dksX4_isAboveWeakly_0 13 rfl rfl)
theorem dX4_isAboveWeakly_14 : decode cX4_isAboveWeakly 14 = .ok (.aload_n 2, 1) := dk_44 (dk_at dksX4_isAboveWeakly_0 14 rfl rfl)
theorem dX4_isAboveWeakly_15 : decode cX4_isAboveWeakly 15 = .ok (.bipush 15, 2) := dk_16 15 (dk_at dksX4_isAboveWeakly_0 15 rfl rfl)
theorem dX4_isAboveWeakly_17 : decode cX4_isAboveWeakly 17 = .ok (.invokevirtual 58, 3) := dk_182 0 58 (dk_at dksX4_isAboveWeakly_0 17 rfl rfl)
theorem dX4_isAboveWeakly_20 : decode cX4_isAboveWeakly 20 = .ok (.ifCond .le 7, 3) := dk_158 0 7 (dk_at dksX4_isAboveWeakly_0 20 rfl rfl)
theorem dX4_isAboveWeakly_23 : decode cX4_isAboveWeakly 23 = .ok (.iconst 1, 1) := dk_4 (dk_at dksX4_isAboveWeakly_0 23 rfl rfl)
theorem dX4_isAboveWeakly_24 : decode cX4_isAboveWeakly 24 = .ok (.goto 4, 3) := dk_167 0 4 (dk_at dksX4_isAboveWeakly_1 0 rfl rfl)
theorem dX4_isAboveWeakly_27 : decode cX4_isAboveWeakly 27 = .ok (.iconst 0, 1) := dk_3 (dk_at dksX4_isAboveWeakly_1 3 rfl rfl)
theorem dX4_isAboveWeakly_28 : decode cX4_isAboveWeakly 28 = .ok (.ireturn, 1) := dk_172 (dk_at dksX4_isAboveWeakly_1 4 rfl rfl)
abbrev cX4_asGood : ByteArray := prog_7_method_9_code
def yX4_asGood : MethodName := ⟨RX4, "asGood", "(LOfferSky$Offer;LOfferSky$Offer;I)I"⟩
def dkwX4_asGood_3 : List UInt8 := [132, 5, 1, 167, 255, 187, 21, 4, 172]
abbrev dktX4_asGood_3 : List UInt8 := dkwX4_asGood_3 ++ []
def dkwX4_asGood_2 : List UInt8 := [182, 0, 54, 42, 44, 21, 5, 182, 0, 54, 161, 0, 7, 4, 167, 0, 4, 3, 184, 0, 34, 96, 54, 4]
abbrev dktX4_asGood_2 : List UInt8 := dkwX4_asGood_2 ++ dktX4_asGood_3
def dkwX4_asGood_1 : List UInt8 := [182, 0, 30, 153, 0, 7, 4, 167, 0, 4, 3, 54, 6, 21, 4, 21, 6, 153, 0, 24, 42, 43, 21, 5]
abbrev dktX4_asGood_1 : List UInt8 := dkwX4_asGood_1 ++ dktX4_asGood_2
def dkwX4_asGood_0 : List UInt8 := [3, 54, 4, 3, 54, 5, 21, 5, 7, 162, 0, 69, 29, 21, 5, 184, 0, 51, 153, 0, 16, 42, 21, 5]
abbrev dktX4_asGood_0 : List UInt8 := dkwX4_asGood_0 ++ dktX4_asGood_1
theorem dksX4_asGood_0 : cX4_asGood.data.toList.drop 0 = dktX4_asGood_0 := by decide +kernel
theorem dksX4_asGood_1 : cX4_asGood.data.toList.drop 24 = dktX4_asGood_1 := dk_seg dksX4_asGood_0 24 rfl rfl
theorem dksX4_asGood_2 : cX4_asGood.data.toList.drop 48 = dktX4_asGood_2 := dk_seg dksX4_asGood_1 24 rfl rfl
theorem dksX4_asGood_3 : cX4_asGood.data.toList.drop 72 = dktX4_asGood_3 := dk_seg dksX4_asGood_2 24 rfl rfl
theorem dX4_asGood_0 : decode cX4_asGood 0 = .ok (.iconst 0, 1) := dk_3 (dk_at dksX4_asGood_0 0 rfl rfl)
theorem dX4_asGood_1 : decode cX4_asGood 1 = .ok (.istore 4, 2) := dk_54 4 (dk_at dksX4_asGood_0 1 rfl rfl)
theorem dX4_asGood_3 : decode cX4_asGood 3 = .ok (.iconst 0, 1) := dk_3 (dk_at dksX4_asGood_0 3 rfl rfl)
theorem dX4_asGood_4 : decode cX4_asGood 4 = .ok (.istore 5, 2) := dk_54 5 (dk_at dksX4_asGood_0 4 rfl rfl)
theorem dX4_asGood_6 : decode cX4_asGood 6 = .ok (.iload 5, 2) := dk_21 5 (dk_at dksX4_asGood_0 6 rfl rfl)
theorem dX4_asGood_8 : decode cX4_asGood 8 = .ok (.iconst 4, 1) := dk_7 (dk_at dksX4_asGood_0 8 rfl rfl)
theorem dX4_asGood_9 : decode cX4_asGood 9 = .ok (.if_icmp .ge 69, 3) := dk_162 0 69 (dk_at dksX4_asGood_0 9 rfl rfl)
theorem dX4_asGood_12 : decode cX4_asGood 12 = .ok (.iload_n 3, 1) := dk_29 (dk_at dksX4_asGood_0 12 rfl rfl)
theorem dX4_asGood_13 : decode cX4_asGood 13 = .ok (.iload 5, 2) := dk_21 5 (dk_at dksX4_asGood_0 13 rfl rfl)
theorem dX4_asGood_15 : decode cX4_asGood 15 = .ok (.invokestatic 51, 3) := dk_184 0 51 (dk_at dksX4_asGood_0 15 rfl rfl)
theorem dX4_asGood_18 : decode cX4_asGood 18 = .ok (.ifCond .eq 16, 3) := dk_153 0 16 (dk_at dksX4_asGood_0 18 rfl rfl)
theorem dX4_asGood_21 : decode cX4_asGood 21 = .ok (.aload_n 0, 1) := dk_42 (dk_at dksX4_asGood_0 21 rfl rfl)
theorem dX4_asGood_22 : decode cX4_asGood 22 = .ok (.iload 5, 2) := dk_21 5 (dk_at dksX4_asGood_0 22 rfl rfl)
theorem dX4_asGood_24 : decode cX4_asGood 24 = .ok (.invokevirtual 30, 3) := dk_182 0 30 (dk_at dksX4_asGood_1 0 rfl rfl)
theorem dX4_asGood_27 : decode cX4_asGood 27 = .ok (.ifCond .eq 7, 3) := dk_153 0 7 (dk_at dksX4_asGood_1 3 rfl rfl)
theorem dX4_asGood_30 : decode cX4_asGood 30 = .ok (.iconst 1, 1) := dk_4 (dk_at dksX4_asGood_1 6 rfl rfl)
theorem dX4_asGood_31 : decode cX4_asGood 31 = .ok (.goto 4, 3) := dk_167 0 4 (dk_at dksX4_asGood_1 7 rfl rfl)
theorem dX4_asGood_34 : decode cX4_asGood 34 = .ok (.iconst 0, 1) := dk_3 (dk_at dksX4_asGood_1 10 rfl rfl)
theorem dX4_asGood_35 : decode cX4_asGood 35 = .ok (.istore 6, 2) := dk_54 6 (dk_at dksX4_asGood_1 11 rfl rfl)
theorem dX4_asGood_37 : decode cX4_asGood 37 = .ok (.iload 4, 2) := dk_21 4 (dk_at dksX4_asGood_1 13 rfl rfl)
theorem dX4_asGood_39 : decode cX4_asGood 39 = .ok (.iload 6, 2) := dk_21 6 (dk_at dksX4_asGood_1 15 rfl rfl)
theorem dX4_asGood_41 : decode cX4_asGood 41 = .ok (.ifCond .eq 24, 3) := dk_153 0 24 (dk_at dksX4_asGood_1 17 rfl rfl)
theorem dX4_asGood_44 : decode cX4_asGood 44 = .ok (.aload_n 0, 1) := dk_42 (dk_at dksX4_asGood_1 20 rfl rfl)
theorem dX4_asGood_45 : decode cX4_asGood 45 = .ok (.aload_n 1, 1) := dk_43 (dk_at dksX4_asGood_1 21 rfl rfl)
theorem dX4_asGood_46 : decode cX4_asGood 46 = .ok (.iload 5, 2) := dk_21 5 (dk_at dksX4_asGood_1 22 rfl rfl)
theorem dX4_asGood_48 : decode cX4_asGood 48 = .ok (.invokevirtual 54, 3) := dk_182 0 54 (dk_at dksX4_asGood_2 0 rfl rfl)
theorem dX4_asGood_51 : decode cX4_asGood 51 = .ok (.aload_n 0, 1) := dk_42 (dk_at dksX4_asGood_2 3 rfl rfl)
theorem dX4_asGood_52 : decode cX4_asGood 52 = .ok (.aload_n 2, 1) := dk_44 (dk_at dksX4_asGood_2 4 rfl rfl)
theorem dX4_asGood_53 : decode cX4_asGood 53 = .ok (.iload 5, 2) := dk_21 5 (dk_at dksX4_asGood_2 5 rfl rfl)
theorem dX4_asGood_55 : decode cX4_asGood 55 = .ok (.invokevirtual 54, 3) := dk_182 0 54 (dk_at dksX4_asGood_2 7 rfl rfl)
theorem dX4_asGood_58 : decode cX4_asGood 58 = .ok (.if_icmp .lt 7, 3) := dk_161 0 7 (dk_at dksX4_asGood_2 10 rfl rfl)
theorem dX4_asGood_61 : decode cX4_asGood 61 = .ok (.iconst 1, 1) := dk_4 (dk_at dksX4_asGood_2 13 rfl rfl)
theorem dX4_asGood_62 : decode cX4_asGood 62 = .ok (.goto 4, 3) := dk_167 0 4 (dk_at dksX4_asGood_2 14 rfl rfl)
theorem dX4_asGood_65 : decode cX4_asGood 65 = .ok (.iconst 0, 1) := dk_3 (dk_at dksX4_asGood_2 17 rfl rfl)
theorem dX4_asGood_66 : decode cX4_asGood 66 = .ok (.invokestatic 34, 3) := dk_184 0 34 (dk_at dksX4_asGood_2 18 rfl rfl)
theorem dX4_asGood_69 : decode cX4_asGood 69 = .ok (.iadd, 1) := dk_96 (dk_at dksX4_asGood_2 21 rfl rfl)
theorem dX4_asGood_70 : decode cX4_asGood 70 = .ok (.istore 4, 2) := dk_54 4 (dk_at dksX4_asGood_2 22 rfl rfl)
theorem dX4_asGood_72 : decode cX4_asGood 72 = .ok (.iinc 5 1, 3) := dk_132 5 1 (dk_at dksX4_asGood_3 0 rfl rfl)
theorem dX4_asGood_75 : decode cX4_asGood 75 = .ok (.goto (-69), 3) := dk_167 255 187 (dk_at dksX4_asGood_3 3 rfl rfl)
theorem dX4_asGood_78 : decode cX4_asGood 78 = .ok (.iload 4, 2) := dk_21 4 (dk_at dksX4_asGood_3 6 rfl rfl)
theorem dX4_asGood_80 : decode cX4_asGood 80 = .ok (.ireturn, 1) := dk_172 (dk_at dksX4_asGood_3 8 rfl rfl)
theorem q105 : (Jvm.Cond.initialized "OfferSky$Sides") ∈ lw_all := lw_g (lw_at lw_m1 7 rfl) rfl
theorem q184 : (Jvm.Cond.instantiable "OfferSky$Sides" (4 : Nat)) ∈ lw_all := lw_g (lw_at lw_m1 86 rfl) rfl
theorem q186 : (Jvm.Cond.instanceMethod ({ cls := "OfferSky$Sides", name := "<init>", desc := "()V" } : Jvm.MethodName)) ∈ lw_all := lw_g (lw_at lw_m1 88 rfl) rfl
theorem q187 : (Jvm.Cond.code ({ cls := "OfferSky$Sides", name := "<init>", desc := "()V" } : Jvm.MethodName) prog_7_method_1_code (2 : Nat) (Option.none : Option Jvm.ClassFile.FieldType)) ∈ lw_all := lw_g (lw_at lw_m1 89 rfl) rfl
theorem q188 : (Jvm.Cond.methodLink "OfferSky$Sides" (3 : Nat) ({ cls := "java/lang/Object", name := "<init>", desc := "()V" } : Jvm.MethodName)) ∈ lw_all := lw_g (lw_at lw_m1 90 rfl) rfl
theorem q189 : (Jvm.Cond.fieldLink "OfferSky$Sides" (9 : Nat) "OfferSky$Sides" "wishes" "[I") ∈ lw_all := lw_g (lw_at lw_m1 91 rfl) rfl
theorem q192 : (Jvm.Cond.fieldLink "OfferSky$Sides" (15 : Nat) "OfferSky$Sides" "leasts" "[I") ∈ lw_all := lw_g (lw_at lw_m1 94 rfl) rfl
theorem q195 : (Jvm.Cond.fieldLink "OfferSky$Sides" (18 : Nat) "OfferSky$Sides" "mosts" "[I") ∈ lw_all := lw_g (lw_at lw_m1 97 rfl) rfl
theorem q198 : (Jvm.Cond.fieldLink "OfferSky$Sides" (21 : Nat) "OfferSky$Sides" "weights" "[I") ∈ lw_all := lw_g (lw_at lw_m1 100 rfl) rfl
theorem q200 : (Jvm.Cond.lays "OfferSky$Sides" "OfferSky$Sides" "wishes" "[I") ∈ lw_all := lw_g (lw_at lw_m1 102 rfl) rfl
theorem q201 : (Jvm.Cond.soleField "OfferSky$Sides" "wishes") ∈ lw_all := lw_g (lw_at lw_m1 103 rfl) rfl
theorem q202 : (Jvm.Cond.lays "OfferSky$Sides" "OfferSky$Sides" "leasts" "[I") ∈ lw_all := lw_g (lw_at lw_m1 104 rfl) rfl
theorem q203 : (Jvm.Cond.soleField "OfferSky$Sides" "leasts") ∈ lw_all := lw_g (lw_at lw_m1 105 rfl) rfl
theorem q204 : (Jvm.Cond.lays "OfferSky$Sides" "OfferSky$Sides" "mosts" "[I") ∈ lw_all := lw_g (lw_at lw_m1 106 rfl) rfl
theorem q205 : (Jvm.Cond.soleField "OfferSky$Sides" "mosts") ∈ lw_all := lw_g (lw_at lw_m1 107 rfl) rfl
theorem q206 : (Jvm.Cond.lays "OfferSky$Sides" "OfferSky$Sides" "weights" "[I") ∈ lw_all := lw_g (lw_at lw_m1 108 rfl) rfl
theorem q207 : (Jvm.Cond.soleField "OfferSky$Sides" "weights") ∈ lw_all := lw_g (lw_at lw_m1 109 rfl) rfl
theorem q208 : (Jvm.Cond.superclass "OfferSky$Sides" "java/lang/Object") ∈ lw_all := lw_g (lw_at lw_m1 110 rfl) rfl
theorem q396 : (Jvm.Cond.selects "OfferSky$Sides" ({ cls := "java/lang/Object", name := "getClass", desc := "()Ljava/lang/Class;" } : Jvm.MethodName) ({ cls := "java/lang/Object", name := "getClass", desc := "()Ljava/lang/Class;" } : Jvm.MethodName)) ∈ lw_all := lw_g (lw_at lw_m2 58 rfl) rfl
theorem q423 : (Jvm.Cond.instanceMethod ({ cls := "OfferSky$Sides", name := "twin", desc := "()LOfferSky$Sides;" } : Jvm.MethodName)) ∈ lw_all := lw_g (lw_at lw_m2 85 rfl) rfl
theorem q424 : (Jvm.Cond.selects "OfferSky$Sides" ({ cls := "OfferSky$Sides", name := "twin", desc := "()LOfferSky$Sides;" } : Jvm.MethodName) ({ cls := "OfferSky$Sides", name := "twin", desc := "()LOfferSky$Sides;" } : Jvm.MethodName)) ∈ lw_all := lw_g (lw_at lw_m2 86 rfl) rfl
theorem q425 : (Jvm.Cond.code ({ cls := "OfferSky$Sides", name := "twin", desc := "()LOfferSky$Sides;" } : Jvm.MethodName) prog_7_method_2_code (2 : Nat) (Option.some (Jvm.ClassFile.FieldType.object "OfferSky$Sides"))) ∈ lw_all := lw_g (lw_at lw_m2 87 rfl) rfl
theorem q426 : (Jvm.Cond.classLink "OfferSky$Sides" (10 : Nat) "OfferSky$Sides") ∈ lw_all := lw_g (lw_at lw_m2 88 rfl) rfl
theorem q427 : (Jvm.Cond.methodLink "OfferSky$Sides" (24 : Nat) ({ cls := "OfferSky$Sides", name := "<init>", desc := "()V" } : Jvm.MethodName)) ∈ lw_all := lw_g (lw_at lw_m2 89 rfl) rfl
theorem q428 : (Jvm.Cond.methodLink "OfferSky$Sides" (25 : Nat) ({ cls := "[I", name := "clone", desc := "()Ljava/lang/Object;" } : Jvm.MethodName)) ∈ lw_all := lw_g (lw_at lw_m2 90 rfl) rfl
theorem q434 : (Jvm.Cond.classLink "OfferSky$Sides" (26 : Nat) "[I") ∈ lw_all := lw_g (lw_at lw_m2 96 rfl) rfl
theorem q535 : (Jvm.Cond.instanceMethod ({ cls := "OfferSky$Sides", name := "counts", desc := "(LOfferSky$Offer;)Z" } : Jvm.MethodName)) ∈ lw_all := lw_g (lw_at lw_m2 197 rfl) rfl
theorem q536 : (Jvm.Cond.selects "OfferSky$Sides" ({ cls := "OfferSky$Sides", name := "counts", desc := "(LOfferSky$Offer;)Z" } : Jvm.MethodName) ({ cls := "OfferSky$Sides", name := "counts", desc := "(LOfferSky$Offer;)Z" } : Jvm.MethodName)) ∈ lw_all := lw_g (lw_at lw_m2 198 rfl) rfl
theorem q537 : (Jvm.Cond.code ({ cls := "OfferSky$Sides", name := "counts", desc := "(LOfferSky$Offer;)Z" } : Jvm.MethodName) prog_7_method_7_code (4 : Nat) (Option.some Jvm.ClassFile.FieldType.boolean)) ∈ lw_all := lw_g (lw_at lw_m2 199 rfl) rfl
theorem q538 : (Jvm.Cond.methodLink "OfferSky$Sides" (47 : Nat) ({ cls := "OfferSky$Sides", name := "isWithin", desc := "(II)Z" } : Jvm.MethodName)) ∈ lw_all := lw_g (lw_at lw_m2 200 rfl) rfl
theorem q539 : (Jvm.Cond.instanceMethod ({ cls := "OfferSky$Sides", name := "isWithin", desc := "(II)Z" } : Jvm.MethodName)) ∈ lw_all := lw_g (lw_at lw_m2 201 rfl) rfl
theorem q540 : (Jvm.Cond.selects "OfferSky$Sides" ({ cls := "OfferSky$Sides", name := "isWithin", desc := "(II)Z" } : Jvm.MethodName) ({ cls := "OfferSky$Sides", name := "isWithin", desc := "(II)Z" } : Jvm.MethodName)) ∈ lw_all := lw_g (lw_at lw_m2 202 rfl) rfl
theorem q541 : (Jvm.Cond.code ({ cls := "OfferSky$Sides", name := "isWithin", desc := "(II)Z" } : Jvm.MethodName) prog_7_method_6_code (3 : Nat) (Option.some Jvm.ClassFile.FieldType.boolean)) ∈ lw_all := lw_g (lw_at lw_m2 203 rfl) rfl
theorem q542 : (Jvm.Cond.methodLinkNest "OfferSky$Sides" (43 : Nat) ({ cls := "OfferSky", name := "inRange", desc := "(III)Z" } : Jvm.MethodName) "OfferSky") ∈ lw_tbl := lw_at lw_m2 204 rfl
theorem q574 : (Jvm.Cond.instanceMethod ({ cls := "OfferSky$Sides", name := "isAbove", desc := "(LOfferSky$Offer;LOfferSky$Offer;I)Z" } : Jvm.MethodName)) ∈ lw_all := lw_g (lw_at lw_m2 236 rfl) rfl
theorem q575 : (Jvm.Cond.selects "OfferSky$Sides" ({ cls := "OfferSky$Sides", name := "isAbove", desc := "(LOfferSky$Offer;LOfferSky$Offer;I)Z" } : Jvm.MethodName) ({ cls := "OfferSky$Sides", name := "isAbove", desc := "(LOfferSky$Offer;LOfferSky$Offer;I)Z" } : Jvm.MethodName)) ∈ lw_all := lw_g (lw_at lw_m2 237 rfl) rfl
theorem q576 : (Jvm.Cond.code ({ cls := "OfferSky$Sides", name := "isAbove", desc := "(LOfferSky$Offer;LOfferSky$Offer;I)Z" } : Jvm.MethodName) prog_7_method_10_code (4 : Nat) (Option.some Jvm.ClassFile.FieldType.boolean)) ∈ lw_all := lw_g (lw_at lw_m2 238 rfl) rfl
theorem q577 : (Jvm.Cond.methodLink "OfferSky$Sides" (58 : Nat) ({ cls := "OfferSky$Sides", name := "better", desc := "(LOfferSky$Offer;LOfferSky$Offer;I)I" } : Jvm.MethodName)) ∈ lw_all := lw_g (lw_at lw_m2 239 rfl) rfl
theorem q578 : (Jvm.Cond.instanceMethod ({ cls := "OfferSky$Sides", name := "better", desc := "(LOfferSky$Offer;LOfferSky$Offer;I)I" } : Jvm.MethodName)) ∈ lw_all := lw_g (lw_at lw_m3 0 rfl) rfl
theorem q579 : (Jvm.Cond.selects "OfferSky$Sides" ({ cls := "OfferSky$Sides", name := "better", desc := "(LOfferSky$Offer;LOfferSky$Offer;I)I" } : Jvm.MethodName) ({ cls := "OfferSky$Sides", name := "better", desc := "(LOfferSky$Offer;LOfferSky$Offer;I)I" } : Jvm.MethodName)) ∈ lw_all := lw_g (lw_at lw_m3 1 rfl) rfl
theorem q580 : (Jvm.Cond.code ({ cls := "OfferSky$Sides", name := "better", desc := "(LOfferSky$Offer;LOfferSky$Offer;I)I" } : Jvm.MethodName) prog_7_method_8_code (7 : Nat) (Option.some Jvm.ClassFile.FieldType.int)) ∈ lw_all := lw_g (lw_at lw_m3 2 rfl) rfl
theorem q581 : (Jvm.Cond.methodLinkNest "OfferSky$Sides" (51 : Nat) ({ cls := "OfferSky", name := "has", desc := "(II)Z" } : Jvm.MethodName) "OfferSky") ∈ lw_tbl := lw_at lw_m3 3 rfl
theorem q584 : (Jvm.Cond.methodLink "OfferSky$Sides" (30 : Nat) ({ cls := "OfferSky$Sides", name := "matters", desc := "(I)Z" } : Jvm.MethodName)) ∈ lw_all := lw_g (lw_at lw_m3 6 rfl) rfl
theorem q585 : (Jvm.Cond.instanceMethod ({ cls := "OfferSky$Sides", name := "matters", desc := "(I)Z" } : Jvm.MethodName)) ∈ lw_all := lw_g (lw_at lw_m3 7 rfl) rfl
theorem q586 : (Jvm.Cond.selects "OfferSky$Sides" ({ cls := "OfferSky$Sides", name := "matters", desc := "(I)Z" } : Jvm.MethodName) ({ cls := "OfferSky$Sides", name := "matters", desc := "(I)Z" } : Jvm.MethodName)) ∈ lw_all := lw_g (lw_at lw_m3 8 rfl) rfl
theorem q587 : (Jvm.Cond.code ({ cls := "OfferSky$Sides", name := "matters", desc := "(I)Z" } : Jvm.MethodName) prog_7_method_3_code (2 : Nat) (Option.some Jvm.ClassFile.FieldType.boolean)) ∈ lw_all := lw_g (lw_at lw_m3 9 rfl) rfl
theorem q588 : (Jvm.Cond.methodLink "OfferSky$Sides" (54 : Nat) ({ cls := "OfferSky$Sides", name := "good", desc := "(LOfferSky$Offer;I)I" } : Jvm.MethodName)) ∈ lw_all := lw_g (lw_at lw_m3 10 rfl) rfl
theorem q589 : (Jvm.Cond.instanceMethod ({ cls := "OfferSky$Sides", name := "good", desc := "(LOfferSky$Offer;I)I" } : Jvm.MethodName)) ∈ lw_all := lw_g (lw_at lw_m3 11 rfl) rfl
theorem q590 : (Jvm.Cond.selects "OfferSky$Sides" ({ cls := "OfferSky$Sides", name := "good", desc := "(LOfferSky$Offer;I)I" } : Jvm.MethodName) ({ cls := "OfferSky$Sides", name := "good", desc := "(LOfferSky$Offer;I)I" } : Jvm.MethodName)) ∈ lw_all := lw_g (lw_at lw_m3 12 rfl) rfl
theorem q591 : (Jvm.Cond.code ({ cls := "OfferSky$Sides", name := "good", desc := "(LOfferSky$Offer;I)I" } : Jvm.MethodName) prog_7_method_5_code (3 : Nat) (Option.some Jvm.ClassFile.FieldType.int)) ∈ lw_all := lw_g (lw_at lw_m3 13 rfl) rfl
theorem q592 : (Jvm.Cond.methodLinkNest "OfferSky$Sides" (34 : Nat) ({ cls := "OfferSky", name := "flag", desc := "(Z)I" } : Jvm.MethodName) "OfferSky") ∈ lw_tbl := lw_at lw_m3 14 rfl
theorem q1020 : (Jvm.Cond.instanceMethod ({ cls := "OfferSky$Sides", name := "sum", desc := "(LOfferSky$Offer;)I" } : Jvm.MethodName)) ∈ lw_all := lw_g (lw_at lw_m4 202 rfl) rfl
theorem q1021 : (Jvm.Cond.selects "OfferSky$Sides" ({ cls := "OfferSky$Sides", name := "sum", desc := "(LOfferSky$Offer;)I" } : Jvm.MethodName) ({ cls := "OfferSky$Sides", name := "sum", desc := "(LOfferSky$Offer;)I" } : Jvm.MethodName)) ∈ lw_all := lw_g (lw_at lw_m4 203 rfl) rfl
theorem q1022 : (Jvm.Cond.code ({ cls := "OfferSky$Sides", name := "sum", desc := "(LOfferSky$Offer;)I" } : Jvm.MethodName) prog_7_method_12_code (4 : Nat) (Option.some Jvm.ClassFile.FieldType.int)) ∈ lw_all := lw_g (lw_at lw_m4 204 rfl) rfl
theorem q1200 : (Jvm.Cond.instanceMethod ({ cls := "OfferSky$Sides", name := "score", desc := "(LOfferSky$Offer;)I" } : Jvm.MethodName)) ∈ lw_all := lw_g (lw_at lw_m5 142 rfl) rfl
theorem q1201 : (Jvm.Cond.selects "OfferSky$Sides" ({ cls := "OfferSky$Sides", name := "score", desc := "(LOfferSky$Offer;)I" } : Jvm.MethodName) ({ cls := "OfferSky$Sides", name := "score", desc := "(LOfferSky$Offer;)I" } : Jvm.MethodName)) ∈ lw_all := lw_g (lw_at lw_m5 143 rfl) rfl
theorem q1202 : (Jvm.Cond.code ({ cls := "OfferSky$Sides", name := "score", desc := "(LOfferSky$Offer;)I" } : Jvm.MethodName) prog_7_method_13_code (4 : Nat) (Option.some Jvm.ClassFile.FieldType.int)) ∈ lw_all := lw_g (lw_at lw_m5 144 rfl) rfl
theorem q1229 : (Jvm.Cond.instanceMethod ({ cls := "OfferSky$Sides", name := "isAboveWeakly", desc := "(LOfferSky$Offer;LOfferSky$Offer;I)Z" } : Jvm.MethodName)) ∈ lw_all := lw_g (lw_at lw_m5 171 rfl) rfl
theorem q1230 : (Jvm.Cond.selects "OfferSky$Sides" ({ cls := "OfferSky$Sides", name := "isAboveWeakly", desc := "(LOfferSky$Offer;LOfferSky$Offer;I)Z" } : Jvm.MethodName) ({ cls := "OfferSky$Sides", name := "isAboveWeakly", desc := "(LOfferSky$Offer;LOfferSky$Offer;I)Z" } : Jvm.MethodName)) ∈ lw_all := lw_g (lw_at lw_m5 172 rfl) rfl
theorem q1231 : (Jvm.Cond.code ({ cls := "OfferSky$Sides", name := "isAboveWeakly", desc := "(LOfferSky$Offer;LOfferSky$Offer;I)Z" } : Jvm.MethodName) prog_7_method_11_code (4 : Nat) (Option.some Jvm.ClassFile.FieldType.boolean)) ∈ lw_all := lw_g (lw_at lw_m5 173 rfl) rfl
theorem q1232 : (Jvm.Cond.methodLink "OfferSky$Sides" (62 : Nat) ({ cls := "OfferSky$Sides", name := "asGood", desc := "(LOfferSky$Offer;LOfferSky$Offer;I)I" } : Jvm.MethodName)) ∈ lw_all := lw_g (lw_at lw_m5 174 rfl) rfl
theorem q1233 : (Jvm.Cond.instanceMethod ({ cls := "OfferSky$Sides", name := "asGood", desc := "(LOfferSky$Offer;LOfferSky$Offer;I)I" } : Jvm.MethodName)) ∈ lw_all := lw_g (lw_at lw_m5 175 rfl) rfl
theorem q1234 : (Jvm.Cond.selects "OfferSky$Sides" ({ cls := "OfferSky$Sides", name := "asGood", desc := "(LOfferSky$Offer;LOfferSky$Offer;I)I" } : Jvm.MethodName) ({ cls := "OfferSky$Sides", name := "asGood", desc := "(LOfferSky$Offer;LOfferSky$Offer;I)I" } : Jvm.MethodName)) ∈ lw_all := lw_g (lw_at lw_m5 176 rfl) rfl
theorem q1235 : (Jvm.Cond.code ({ cls := "OfferSky$Sides", name := "asGood", desc := "(LOfferSky$Offer;LOfferSky$Offer;I)I" } : Jvm.MethodName) prog_7_method_9_code (7 : Nat) (Option.some Jvm.ClassFile.FieldType.int)) ∈ lw_all := lw_g (lw_at lw_m5 177 rfl) rfl
theorem q1355 : (Jvm.Cond.fieldLinkNest "OfferSky$Sides" (38 : Nat) "OfferSky$Offer" "values" "[I" "OfferSky") ∈ lw_tbl := lw_at lw_m6 57 rfl
theorem q2320 : (Jvm.Cond.castable "OfferSky$Sides" "java/lang/Object") ∈ lw_tbl := lw_at lw_m10 62 rfl
theorem in_X4 : ∀ w ∈ wsX40, w ∈ lw_all := lw_in wsX40 [200, 202, 204, 206] (by decide +kernel) (by decide +kernel)
/-! OfferSky$Offer -/
set_option maxRecDepth 100000
def RX6 : String := "OfferSky$Offer"
def TX6 : u_T := fun k => match k with
  | _ => ("OfferSky$Offer", "values", "[I", true)
def tyX6 : Nat → FieldType := fun k => match k with
  | _ => .array .int
abbrev wsX60 : List Cond := u_ws RX6 TX6 1
theorem nmX6 : ∀ a, a < 1 → ∀ b, b < 1 → a ≠ b → (TX6 a).2.1 ≠ (TX6 b).2.1 := by decide +kernel
theorem tyX6_ok : ∀ k, k < 1 → parseFieldDescriptor (TX6 k).2.2.1 = some (tyX6 k) := by decide +kernel
abbrev cX6_init : ByteArray := prog_4_method_1_code
def yX6_init : MethodName := ⟨RX6, "<init>", "([I)V"⟩
def dkwX6_init_0 : List UInt8 := [42, 183, 0, 1, 42, 43, 181, 0, 7, 177]
abbrev dktX6_init_0 : List UInt8 := dkwX6_init_0 ++ []
theorem dksX6_init_0 : cX6_init.data.toList.drop 0 = dktX6_init_0 := by decide +kernel
theorem dX6_init_0 : decode cX6_init 0 = .ok (.aload_n 0, 1) := dk_42 (dk_at dksX6_init_0 0 rfl rfl)
theorem dX6_init_1 : decode cX6_init 1 = .ok (.invokespecial 1, 3) := dk_183 0 1 (dk_at dksX6_init_0 1 rfl rfl)
theorem dX6_init_4 : decode cX6_init 4 = .ok (.aload_n 0, 1) := dk_42 (dk_at dksX6_init_0 4 rfl rfl)
theorem dX6_init_5 : decode cX6_init 5 = .ok (.aload_n 1, 1) := dk_43 (dk_at dksX6_init_0 5 rfl rfl)
theorem dX6_init_6 : decode cX6_init 6 = .ok (.putfield 7, 3) := dk_181 0 7 (dk_at dksX6_init_0 6 rfl rfl)
theorem dX6_init_9 : decode cX6_init 9 = .ok (.return_, 1) := dk_177 (dk_at dksX6_init_0 9 rfl rfl)
abbrev cX6_with : ByteArray := prog_4_method_2_code
def yX6_with : MethodName := ⟨RX6, "with", "(II)LOfferSky$Offer;"⟩
def dkwX6_with_0 : List UInt8 := [42, 180, 0, 7, 182, 0, 13, 192, 0, 14, 78, 45, 27, 28, 79, 187, 0, 8, 89, 45, 183, 0, 18, 176]
abbrev dktX6_with_0 : List UInt8 := dkwX6_with_0 ++ []
theorem dksX6_with_0 : cX6_with.data.toList.drop 0 = dktX6_with_0 := by decide +kernel
theorem dX6_with_0 : decode cX6_with 0 = .ok (.aload_n 0, 1) := dk_42 (dk_at dksX6_with_0 0 rfl rfl)
theorem dX6_with_1 : decode cX6_with 1 = .ok (.getfield 7, 3) := dk_180 0 7 (dk_at dksX6_with_0 1 rfl rfl)
theorem dX6_with_4 : decode cX6_with 4 = .ok (.invokevirtual 13, 3) := dk_182 0 13 (dk_at dksX6_with_0 4 rfl rfl)
theorem dX6_with_7 : decode cX6_with 7 = .ok (.checkcast 14, 3) := dk_192 0 14 (dk_at dksX6_with_0 7 rfl rfl)
theorem dX6_with_10 : decode cX6_with 10 = .ok (.astore_n 3, 1) := dk_78 (dk_at dksX6_with_0 10 rfl rfl)
theorem dX6_with_11 : decode cX6_with 11 = .ok (.aload_n 3, 1) := dk_45 (dk_at dksX6_with_0 11 rfl rfl)
theorem dX6_with_12 : decode cX6_with 12 = .ok (.iload_n 1, 1) := dk_27 (dk_at dksX6_with_0 12 rfl rfl)
theorem dX6_with_13 : decode cX6_with 13 = .ok (.iload_n 2, 1) := dk_28 (dk_at dksX6_with_0 13 rfl rfl)
theorem dX6_with_14 : decode cX6_with 14 = .ok (.iastore, 1) := dk_79 (dk_at dksX6_with_0 14 rfl rfl)
theorem dX6_with_15 : decode cX6_with 15 = .ok (.new 8, 3) := dk_187 0 8 (dk_at dksX6_with_0 15 rfl rfl)
theorem dX6_with_18 : decode cX6_with 18 = .ok (.dup, 1) := dk_89 (dk_at dksX6_with_0 18 rfl rfl)
theorem dX6_with_19 : decode cX6_with 19 = .ok (.aload_n 3, 1) := dk_45 (dk_at dksX6_with_0 19 rfl rfl)
theorem dX6_with_20 : decode cX6_with 20 = .ok (.invokespecial 18, 3) := dk_183 0 18 (dk_at dksX6_with_0 20 rfl rfl)
theorem dX6_with_23 : decode cX6_with 23 = .ok (.areturn, 1) := dk_176 (dk_at dksX6_with_0 23 rfl rfl)
theorem q123 : (Jvm.Cond.initialized "OfferSky$Offer") ∈ lw_all := lw_g (lw_at lw_m1 25 rfl) rfl
theorem q394 : (Jvm.Cond.selects "OfferSky$Offer" ({ cls := "java/lang/Object", name := "getClass", desc := "()Ljava/lang/Class;" } : Jvm.MethodName) ({ cls := "java/lang/Object", name := "getClass", desc := "()Ljava/lang/Class;" } : Jvm.MethodName)) ∈ lw_all := lw_g (lw_at lw_m2 56 rfl) rfl
theorem q1349 : (Jvm.Cond.instantiable "OfferSky$Offer" (1 : Nat)) ∈ lw_all := lw_g (lw_at lw_m6 51 rfl) rfl
theorem q1351 : (Jvm.Cond.instanceMethod ({ cls := "OfferSky$Offer", name := "<init>", desc := "([I)V" } : Jvm.MethodName)) ∈ lw_all := lw_g (lw_at lw_m6 53 rfl) rfl
theorem q1352 : (Jvm.Cond.code ({ cls := "OfferSky$Offer", name := "<init>", desc := "([I)V" } : Jvm.MethodName) prog_4_method_1_code (2 : Nat) (Option.none : Option Jvm.ClassFile.FieldType)) ∈ lw_all := lw_g (lw_at lw_m6 54 rfl) rfl
theorem q1353 : (Jvm.Cond.methodLink "OfferSky$Offer" (1 : Nat) ({ cls := "java/lang/Object", name := "<init>", desc := "()V" } : Jvm.MethodName)) ∈ lw_all := lw_g (lw_at lw_m6 55 rfl) rfl
theorem q1354 : (Jvm.Cond.fieldLink "OfferSky$Offer" (7 : Nat) "OfferSky$Offer" "values" "[I") ∈ lw_all := lw_g (lw_at lw_m6 56 rfl) rfl
theorem q1358 : (Jvm.Cond.laysFinal "OfferSky$Offer" "OfferSky$Offer" "values" "[I") ∈ lw_all := lw_g (lw_at lw_m6 60 rfl) rfl
theorem q1359 : (Jvm.Cond.soleField "OfferSky$Offer" "values") ∈ lw_all := lw_g (lw_at lw_m6 61 rfl) rfl
theorem q1360 : (Jvm.Cond.superclass "OfferSky$Offer" "java/lang/Object") ∈ lw_all := lw_g (lw_at lw_m6 62 rfl) rfl
theorem q1415 : (Jvm.Cond.instanceMethod ({ cls := "OfferSky$Offer", name := "with", desc := "(II)LOfferSky$Offer;" } : Jvm.MethodName)) ∈ lw_all := lw_g (lw_at lw_m6 117 rfl) rfl
theorem q1416 : (Jvm.Cond.selects "OfferSky$Offer" ({ cls := "OfferSky$Offer", name := "with", desc := "(II)LOfferSky$Offer;" } : Jvm.MethodName) ({ cls := "OfferSky$Offer", name := "with", desc := "(II)LOfferSky$Offer;" } : Jvm.MethodName)) ∈ lw_all := lw_g (lw_at lw_m6 118 rfl) rfl
theorem q1417 : (Jvm.Cond.code ({ cls := "OfferSky$Offer", name := "with", desc := "(II)LOfferSky$Offer;" } : Jvm.MethodName) prog_4_method_2_code (4 : Nat) (Option.some (Jvm.ClassFile.FieldType.object "OfferSky$Offer"))) ∈ lw_all := lw_g (lw_at lw_m6 119 rfl) rfl
theorem q1418 : (Jvm.Cond.methodLink "OfferSky$Offer" (13 : Nat) ({ cls := "[I", name := "clone", desc := "()Ljava/lang/Object;" } : Jvm.MethodName)) ∈ lw_all := lw_g (lw_at lw_m6 120 rfl) rfl
theorem q1419 : (Jvm.Cond.classLink "OfferSky$Offer" (14 : Nat) "[I") ∈ lw_all := lw_g (lw_at lw_m6 121 rfl) rfl
theorem q1420 : (Jvm.Cond.classLink "OfferSky$Offer" (8 : Nat) "OfferSky$Offer") ∈ lw_all := lw_g (lw_at lw_m6 122 rfl) rfl
theorem q1421 : (Jvm.Cond.methodLink "OfferSky$Offer" (18 : Nat) ({ cls := "OfferSky$Offer", name := "<init>", desc := "([I)V" } : Jvm.MethodName)) ∈ lw_all := lw_g (lw_at lw_m6 123 rfl) rfl
theorem q2326 : (Jvm.Cond.castable "OfferSky$Offer" "java/lang/Object") ∈ lw_tbl := lw_at lw_m10 68 rfl
theorem in_X6 : ∀ w ∈ wsX60, w ∈ lw_all := lw_in wsX60 [1358] (by decide +kernel) (by decide +kernel)
