/-! OfferSky$State -/
set_option maxRecDepth 100000
def RX2 : String := "OfferSky$State"
def TX2 : u_T := fun k => match k with
  | 0 => ("OfferSky$State", "list", "LOfferSky$Bag;", false)
  | 1 => ("OfferSky$State", "sides", "LOfferSky$Sides;", false)
  | 2 => ("OfferSky$State", "put", "I", false)
  | _ => ("OfferSky$State", "gone", "I", false)
def tyX2 : Nat → FieldType := fun k => match k with
  | 0 => .object "OfferSky$Bag"
  | 1 => .object "OfferSky$Sides"
  | 2 => .int
  | _ => .int
abbrev wsX20 : List Cond := u_ws RX2 TX2 4
theorem nmX2 : ∀ a, a < 4 → ∀ b, b < 4 → a ≠ b → (TX2 a).2.1 ≠ (TX2 b).2.1 := by decide +kernel
theorem tyX2_ok : ∀ k, k < 4 → parseFieldDescriptor (TX2 k).2.2.1 = some (tyX2 k) := by decide +kernel
abbrev cX2_init : ByteArray := prog_8_method_1_code
def yX2_init : MethodName := ⟨RX2, "<init>", "()V"⟩
def dkwX2_init_1 : List UInt8 := [181, 0, 21, 177]
abbrev dktX2_init_1 : List UInt8 := dkwX2_init_1 ++ []
def dkwX2_init_0 : List UInt8 := [42, 183, 0, 3, 42, 187, 0, 9, 89, 183, 0, 11, 181, 0, 12, 42, 187, 0, 18, 89, 183, 0, 20]
abbrev dktX2_init_0 : List UInt8 := dkwX2_init_0 ++ dktX2_init_1
theorem dksX2_init_0 : cX2_init.data.toList.drop 0 = dktX2_init_0 := by decide +kernel
theorem dksX2_init_1 : cX2_init.data.toList.drop 23 = dktX2_init_1 := dk_seg dksX2_init_0 23 rfl rfl
theorem dX2_init_0 : decode cX2_init 0 = .ok (.aload_n 0, 1) := dk_42 (dk_at dksX2_init_0 0 rfl rfl)
theorem dX2_init_1 : decode cX2_init 1 = .ok (.invokespecial 3, 3) := dk_183 0 3 (dk_at dksX2_init_0 1 rfl rfl)
theorem dX2_init_4 : decode cX2_init 4 = .ok (.aload_n 0, 1) := dk_42 (dk_at dksX2_init_0 4 rfl rfl)
theorem dX2_init_5 : decode cX2_init 5 = .ok (.new 9, 3) := dk_187 0 9 (dk_at dksX2_init_0 5 rfl rfl)
theorem dX2_init_8 : decode cX2_init 8 = .ok (.dup, 1) := dk_89 (dk_at dksX2_init_0 8 rfl rfl)
theorem dX2_init_9 : decode cX2_init 9 = .ok (.invokespecial 11, 3) := dk_183 0 11 (dk_at dksX2_init_0 9 rfl rfl)
theorem dX2_init_12 : decode cX2_init 12 = .ok (.putfield 12, 3) := dk_181 0 12 (dk_at dksX2_init_0 12 rfl rfl)
theorem dX2_init_15 : decode cX2_init 15 = .ok (.aload_n 0, 1) := dk_42 (dk_at dksX2_init_0 15 rfl rfl)
theorem dX2_init_16 : decode cX2_init 16 = .ok (.new 18, 3) := dk_187 0 18 (dk_at dksX2_init_0 16 rfl rfl)
theorem dX2_init_19 : decode cX2_init 19 = .ok (.dup, 1) := dk_89 (dk_at dksX2_init_0 19 rfl rfl)
theorem dX2_init_20 : decode cX2_init 20 = .ok (.invokespecial 20, 3) := dk_183 0 20 (dk_at dksX2_init_0 20 rfl rfl)
theorem dX2_init_23 : decode cX2_init 23 = .ok (.putfield 21, 3) := dk_181 0 21 (dk_at dksX2_init_1 0 rfl rfl)
theorem dX2_init_26 : decode cX2_init 26 = .ok (.return_, 1) := dk_177 (dk_at dksX2_init_1 3 rfl rfl)
abbrev cX2_twin : ByteArray := prog_8_method_2_code
def yX2_twin : MethodName := ⟨RX2, "twin", "()LOfferSky$State;"⟩
def dkwX2_twin_1 : List UInt8 := [182, 0, 30, 181, 0, 21, 43, 42, 180, 0, 34, 181, 0, 34, 43, 42, 180, 0, 38, 181, 0, 38, 43, 176]
abbrev dktX2_twin_1 : List UInt8 := dkwX2_twin_1 ++ []
def dkwX2_twin_0 : List UInt8 := [187, 0, 13, 89, 183, 0, 25, 76, 43, 42, 180, 0, 12, 182, 0, 26, 181, 0, 12, 43, 42, 180, 0, 21]
abbrev dktX2_twin_0 : List UInt8 := dkwX2_twin_0 ++ dktX2_twin_1
theorem dksX2_twin_0 : cX2_twin.data.toList.drop 0 = dktX2_twin_0 := by decide +kernel
theorem dksX2_twin_1 : cX2_twin.data.toList.drop 24 = dktX2_twin_1 := dk_seg dksX2_twin_0 24 rfl rfl
theorem dX2_twin_0 : decode cX2_twin 0 = .ok (.new 13, 3) := dk_187 0 13 (dk_at dksX2_twin_0 0 rfl rfl)
theorem dX2_twin_3 : decode cX2_twin 3 = .ok (.dup, 1) := dk_89 (dk_at dksX2_twin_0 3 rfl rfl)
theorem dX2_twin_4 : decode cX2_twin 4 = .ok (.invokespecial 25, 3) := dk_183 0 25 (dk_at dksX2_twin_0 4 rfl rfl)
theorem dX2_twin_7 : decode cX2_twin 7 = .ok (.astore_n 1, 1) := dk_76 (dk_at dksX2_twin_0 7 rfl rfl)
theorem dX2_twin_8 : decode cX2_twin 8 = .ok (.aload_n 1, 1) := dk_43 (dk_at dksX2_twin_0 8 rfl rfl)
theorem dX2_twin_9 : decode cX2_twin 9 = .ok (.aload_n 0, 1) := dk_42 (dk_at dksX2_twin_0 9 rfl rfl)
theorem dX2_twin_10 : decode cX2_twin 10 = .ok (.getfield 12, 3) := dk_180 0 12 (dk_at dksX2_twin_0 10 rfl rfl)
theorem dX2_twin_13 : decode cX2_twin 13 = .ok (.invokevirtual 26, 3) := dk_182 0 26 (dk_at dksX2_twin_0 13 rfl rfl)
theorem dX2_twin_16 : decode cX2_twin 16 = .ok (.putfield 12, 3) := dk_181 0 12 (dk_at dksX2_twin_0 16 rfl rfl)
theorem dX2_twin_19 : decode cX2_twin 19 = .ok (.aload_n 1, 1) := dk_43 (dk_at dksX2_twin_0 19 rfl rfl)
theorem dX2_twin_20 : decode cX2_twin 20 = .ok (.aload_n 0, 1) := dk_42 (dk_at dksX2_twin_0 20 rfl rfl)
theorem dX2_twin_21 : decode cX2_twin 21 = .ok (.getfield 21, 3) := dk_180 0 21 (dk_at dksX2_twin_0 21 rfl rfl)
theorem dX2_twin_24 : decode cX2_twin 24 = .ok (.invokevirtual 30, 3) := dk_182 0 30 (dk_at dksX2_twin_1 0 rfl rfl)
theorem dX2_twin_27 : decode cX2_twin 27 = .ok (.putfield 21, 3) := dk_181 0 21 (dk_at dksX2_twin_1 3 rfl rfl)
theorem dX2_twin_30 : decode cX2_twin 30 = .ok (.aload_n 1, 1) := dk_43 (dk_at dksX2_twin_1 6 rfl rfl)
theorem dX2_twin_31 : decode cX2_twin 31 = .ok (.aload_n 0, 1) := dk_42 (dk_at dksX2_twin_1 7 rfl rfl)
theorem dX2_twin_32 : decode cX2_twin 32 = .ok (.getfield 34, 3) := dk_180 0 34 (dk_at dksX2_twin_1 8 rfl rfl)
theorem dX2_twin_35 : decode cX2_twin 35 = .ok (.putfield 34, 3) := dk_181 0 34 (dk_at dksX2_twin_1 11 rfl rfl)
theorem dX2_twin_38 : decode cX2_twin 38 = .ok (.aload_n 1, 1) := dk_43 (dk_at dksX2_twin_1 14 rfl rfl)
theorem dX2_twin_39 : decode cX2_twin 39 = .ok (.aload_n 0, 1) := dk_42 (dk_at dksX2_twin_1 15 rfl rfl)
theorem dX2_twin_40 : decode cX2_twin 40 = .ok (.getfield 38, 3) := dk_180 0 38 (dk_at dksX2_twin_1 16 rfl rfl)
theorem dX2_twin_43 : decode cX2_twin 43 = .ok (.putfield 38, 3) := dk_181 0 38 (dk_at dksX2_twin_1 19 rfl rfl)
theorem dX2_twin_46 : decode cX2_twin 46 = .ok (.aload_n 1, 1) := dk_43 (dk_at dksX2_twin_1 22 rfl rfl)
theorem dX2_twin_47 : decode cX2_twin 47 = .ok (.areturn, 1) := dk_176 (dk_at dksX2_twin_1 23 rfl rfl)
abbrev cX2_prunes : ByteArray := prog_8_method_10_code
def yX2_prunes : MethodName := ⟨RX2, "prunes", "()I"⟩
def dkwX2_prunes_1 : List UInt8 := [42, 89, 180, 0, 38, 28, 96, 181, 0, 38, 28, 172]
abbrev dktX2_prunes_1 : List UInt8 := dkwX2_prunes_1 ++ []
def dkwX2_prunes_0 : List UInt8 := [42, 42, 182, 0, 80, 182, 0, 83, 76, 42, 180, 0, 12, 42, 43, 186, 0, 87, 0, 0, 182, 0, 91, 61]
abbrev dktX2_prunes_0 : List UInt8 := dkwX2_prunes_0 ++ dktX2_prunes_1
theorem dksX2_prunes_0 : cX2_prunes.data.toList.drop 0 = dktX2_prunes_0 := by decide +kernel
theorem dksX2_prunes_1 : cX2_prunes.data.toList.drop 24 = dktX2_prunes_1 := dk_seg dksX2_prunes_0 24 rfl rfl
theorem dX2_prunes_0 : decode cX2_prunes 0 = .ok (.aload_n 0, 1) := dk_42 (dk_at dksX2_prunes_0 0 rfl rfl)
theorem dX2_prunes_1 : decode cX2_prunes 1 = .ok (.aload_n 0, 1) := dk_42 (dk_at dksX2_prunes_0 1 rfl rfl)
theorem dX2_prunes_2 : decode cX2_prunes 2 = .ok (.invokevirtual 80, 3) := dk_182 0 80 (dk_at dksX2_prunes_0 2 rfl rfl)
theorem dX2_prunes_5 : decode cX2_prunes 5 = .ok (.invokevirtual 83, 3) := dk_182 0 83 (dk_at dksX2_prunes_0 5 rfl rfl)
theorem dX2_prunes_8 : decode cX2_prunes 8 = .ok (.astore_n 1, 1) := dk_76 (dk_at dksX2_prunes_0 8 rfl rfl)
theorem dX2_prunes_9 : decode cX2_prunes 9 = .ok (.aload_n 0, 1) := dk_42 (dk_at dksX2_prunes_0 9 rfl rfl)
theorem dX2_prunes_10 : decode cX2_prunes 10 = .ok (.getfield 12, 3) := dk_180 0 12 (dk_at dksX2_prunes_0 10 rfl rfl)
theorem dX2_prunes_13 : decode cX2_prunes 13 = .ok (.aload_n 0, 1) := dk_42 (dk_at dksX2_prunes_0 13 rfl rfl)
theorem dX2_prunes_14 : decode cX2_prunes 14 = .ok (.aload_n 1, 1) := dk_43 (dk_at dksX2_prunes_0 14 rfl rfl)
theorem dX2_prunes_15 : decode cX2_prunes 15 = .ok (.invokedynamic 87, 5) := by decide +kernel
theorem dX2_prunes_20 : decode cX2_prunes 20 = .ok (.invokevirtual 91, 3) := dk_182 0 91 (dk_at dksX2_prunes_0 20 rfl rfl)
theorem dX2_prunes_23 : decode cX2_prunes 23 = .ok (.istore_n 2, 1) := dk_61 (dk_at dksX2_prunes_0 23 rfl rfl)
theorem dX2_prunes_24 : decode cX2_prunes 24 = .ok (.aload_n 0, 1) := dk_42 (dk_at dksX2_prunes_1 0 rfl rfl)
theorem dX2_prunes_25 : decode cX2_prunes 25 = .ok (.dup, 1) := dk_89 (dk_at dksX2_prunes_1 1 rfl rfl)
theorem dX2_prunes_26 : decode cX2_prunes 26 = .ok (.getfield 38, 3) := dk_180 0 38 (dk_at dksX2_prunes_1 2 rfl rfl)
theorem dX2_prunes_29 : decode cX2_prunes 29 = .ok (.iload_n 2, 1) := dk_28 (dk_at dksX2_prunes_1 5 rfl rfl)
theorem dX2_prunes_30 : decode cX2_prunes 30 = .ok (.iadd, 1) := dk_96 (dk_at dksX2_prunes_1 6 rfl rfl)
theorem dX2_prunes_31 : decode cX2_prunes 31 = .ok (.putfield 38, 3) := dk_181 0 38 (dk_at dksX2_prunes_1 7 rfl rfl)
theorem dX2_prunes_34 : decode cX2_prunes 34 = .ok (.iload_n 2, 1) := dk_28 (dk_at dksX2_prunes_1 10 rfl rfl)
theorem dX2_prunes_35 : decode cX2_prunes 35 = .ok (.ireturn, 1) := dk_172 (dk_at dksX2_prunes_1 11 rfl rfl)
abbrev cX2_active : ByteArray := prog_8_method_13_code
def yX2_active : MethodName := ⟨RX2, "active", "()LOfferSky$Bag;"⟩
def dkwX2_active_0 : List UInt8 := [42, 180, 0, 12, 42, 186, 0, 104, 0, 0, 182, 0, 107, 176]
abbrev dktX2_active_0 : List UInt8 := dkwX2_active_0 ++ []
theorem dksX2_active_0 : cX2_active.data.toList.drop 0 = dktX2_active_0 := by decide +kernel
theorem dX2_active_0 : decode cX2_active 0 = .ok (.aload_n 0, 1) := dk_42 (dk_at dksX2_active_0 0 rfl rfl)
theorem dX2_active_1 : decode cX2_active 1 = .ok (.getfield 12, 3) := dk_180 0 12 (dk_at dksX2_active_0 1 rfl rfl)
theorem dX2_active_4 : decode cX2_active 4 = .ok (.aload_n 0, 1) := dk_42 (dk_at dksX2_active_0 4 rfl rfl)
theorem dX2_active_5 : decode cX2_active 5 = .ok (.invokedynamic 104, 5) := by decide +kernel
theorem dX2_active_10 : decode cX2_active 10 = .ok (.invokevirtual 107, 3) := dk_182 0 107 (dk_at dksX2_active_0 10 rfl rfl)
theorem dX2_active_13 : decode cX2_active 13 = .ok (.areturn, 1) := dk_176 (dk_at dksX2_active_0 13 rfl rfl)
abbrev cX2_lambda_active_2 : ByteArray := prog_8_method_65_code
def yX2_lambda_active_2 : MethodName := ⟨RX2, "lambda$active$2", "(LOfferSky$Offer;)Z"⟩
def dkwX2_lambda_active_2_0 : List UInt8 := [42, 180, 0, 21, 43, 182, 0, 116, 172]
abbrev dktX2_lambda_active_2_0 : List UInt8 := dkwX2_lambda_active_2_0 ++ []
theorem dksX2_lambda_active_2_0 : cX2_lambda_active_2.data.toList.drop 0 = dktX2_lambda_active_2_0 := by decide +kernel
theorem dX2_lambda_active_2_0 : decode cX2_lambda_active_2 0 = .ok (.aload_n 0, 1) := dk_42 (dk_at dksX2_lambda_active_2_0 0 rfl rfl)
theorem dX2_lambda_active_2_1 : decode cX2_lambda_active_2 1 = .ok (.getfield 21, 3) := dk_180 0 21 (dk_at dksX2_lambda_active_2_0 1 rfl rfl)
theorem dX2_lambda_active_2_4 : decode cX2_lambda_active_2 4 = .ok (.aload_n 1, 1) := dk_43 (dk_at dksX2_lambda_active_2_0 4 rfl rfl)
theorem dX2_lambda_active_2_5 : decode cX2_lambda_active_2 5 = .ok (.invokevirtual 116, 3) := dk_182 0 116 (dk_at dksX2_lambda_active_2_0 5 rfl rfl)
theorem dX2_lambda_active_2_8 : decode cX2_lambda_active_2 8 = .ok (.ireturn, 1) := dk_172 (dk_at dksX2_lambda_active_2_0 8 rfl rfl)
abbrev cX2_told : ByteArray := prog_8_method_15_code
def yX2_told : MethodName := ⟨RX2, "told", "(LOfferSky$Bag;)LOfferSky$Bag;"⟩
def dkwX2_told_0 : List UInt8 := [43, 42, 43, 186, 0, 115, 0, 0, 182, 0, 107, 176]
abbrev dktX2_told_0 : List UInt8 := dkwX2_told_0 ++ []
theorem dksX2_told_0 : cX2_told.data.toList.drop 0 = dktX2_told_0 := by decide +kernel
theorem dX2_told_0 : decode cX2_told 0 = .ok (.aload_n 1, 1) := dk_43 (dk_at dksX2_told_0 0 rfl rfl)
theorem dX2_told_1 : decode cX2_told 1 = .ok (.aload_n 0, 1) := dk_42 (dk_at dksX2_told_0 1 rfl rfl)
theorem dX2_told_2 : decode cX2_told 2 = .ok (.aload_n 1, 1) := dk_43 (dk_at dksX2_told_0 2 rfl rfl)
theorem dX2_told_3 : decode cX2_told 3 = .ok (.invokedynamic 115, 5) := by decide +kernel
theorem dX2_told_8 : decode cX2_told 8 = .ok (.invokevirtual 107, 3) := dk_182 0 107 (dk_at dksX2_told_0 8 rfl rfl)
theorem dX2_told_11 : decode cX2_told 11 = .ok (.areturn, 1) := dk_176 (dk_at dksX2_told_0 11 rfl rfl)
abbrev cX2_lambda_told_3 : ByteArray := prog_8_method_64_code
def yX2_lambda_told_3 : MethodName := ⟨RX2, "lambda$told$3", "(LOfferSky$Bag;LOfferSky$Offer;)Z"⟩
def dkwX2_lambda_told_3_0 : List UInt8 := [42, 44, 43, 16, 15, 182, 0, 130, 154, 0, 7, 4, 167, 0, 4, 3, 172]
abbrev dktX2_lambda_told_3_0 : List UInt8 := dkwX2_lambda_told_3_0 ++ []
theorem dksX2_lambda_told_3_0 : cX2_lambda_told_3.data.toList.drop 0 = dktX2_lambda_told_3_0 := by decide +kernel
theorem dX2_lambda_told_3_0 : decode cX2_lambda_told_3 0 = .ok (.aload_n 0, 1) := dk_42 (dk_at dksX2_lambda_told_3_0 0 rfl rfl)
theorem dX2_lambda_told_3_1 : decode cX2_lambda_told_3 1 = .ok (.aload_n 2, 1) := dk_44 (dk_at dksX2_lambda_told_3_0 1 rfl rfl)
theorem dX2_lambda_told_3_2 : decode cX2_lambda_told_3 2 = .ok (.aload_n 1, 1) := dk_43 (dk_at dksX2_lambda_told_3_0 2 rfl rfl)
theorem dX2_lambda_told_3_3 : decode cX2_lambda_told_3 3 = .ok (.bipush 15, 2) := dk_16 15 (dk_at dksX2_lambda_told_3_0 3 rfl rfl)
theorem dX2_lambda_told_3_5 : decode cX2_lambda_told_3 5 = .ok (.invokevirtual 130, 3) := dk_182 0 130 (dk_at dksX2_lambda_told_3_0 5 rfl rfl)
theorem dX2_lambda_told_3_8 : decode cX2_lambda_told_3 8 = .ok (.ifCond .ne 7, 3) := dk_154 0 7 (dk_at dksX2_lambda_told_3_0 8 rfl rfl)
theorem dX2_lambda_told_3_11 : decode cX2_lambda_told_3 11 = .ok (.iconst 1, 1) := dk_4 (dk_at dksX2_lambda_told_3_0 11 rfl rfl)
theorem dX2_lambda_told_3_12 : decode cX2_lambda_told_3 12 = .ok (.goto 4, 3) := dk_167 0 4 (dk_at dksX2_lambda_told_3_0 12 rfl rfl)
theorem dX2_lambda_told_3_15 : decode cX2_lambda_told_3 15 = .ok (.iconst 0, 1) := dk_3 (dk_at dksX2_lambda_told_3_0 15 rfl rfl)
theorem dX2_lambda_told_3_16 : decode cX2_lambda_told_3 16 = .ok (.ireturn, 1) := dk_172 (dk_at dksX2_lambda_told_3_0 16 rfl rfl)
abbrev cX2_isBeaten : ByteArray := prog_8_method_14_code
def yX2_isBeaten : MethodName := ⟨RX2, "isBeaten", "(LOfferSky$Offer;LOfferSky$Bag;I)Z"⟩
def dkwX2_isBeaten_1 : List UInt8 := [182, 0, 49, 192, 0, 53, 43, 29, 182, 0, 111, 128, 54, 4, 132, 5, 1, 167, 255, 221, 21, 4, 172]
abbrev dktX2_isBeaten_1 : List UInt8 := dkwX2_isBeaten_1 ++ []
def dkwX2_isBeaten_0 : List UInt8 := [3, 54, 4, 3, 54, 5, 21, 5, 44, 182, 0, 41, 162, 0, 32, 21, 4, 42, 180, 0, 21, 44, 21, 5]
abbrev dktX2_isBeaten_0 : List UInt8 := dkwX2_isBeaten_0 ++ dktX2_isBeaten_1
theorem dksX2_isBeaten_0 : cX2_isBeaten.data.toList.drop 0 = dktX2_isBeaten_0 := by decide +kernel
theorem dksX2_isBeaten_1 : cX2_isBeaten.data.toList.drop 24 = dktX2_isBeaten_1 := dk_seg dksX2_isBeaten_0 24 rfl rfl
theorem dX2_isBeaten_0 : decode cX2_isBeaten 0 = .ok (.iconst 0, 1) := dk_3 (dk_at dksX2_isBeaten_0 0 rfl rfl)
theorem dX2_isBeaten_1 : decode cX2_isBeaten 1 = .ok (.istore 4, 2) := dk_54 4 (dk_at dksX2_isBeaten_0 1 rfl rfl)
theorem dX2_isBeaten_3 : decode cX2_isBeaten 3 = .ok (.iconst 0, 1) := dk_3 (dk_at dksX2_isBeaten_0 3 rfl rfl)
theorem dX2_isBeaten_4 : decode cX2_isBeaten 4 = .ok (.istore 5, 2) := dk_54 5 (dk_at dksX2_isBeaten_0 4 rfl rfl)
theorem dX2_isBeaten_6 : decode cX2_isBeaten 6 = .ok (.iload 5, 2) := dk_21 5 (dk_at dksX2_isBeaten_0 6 rfl rfl)
theorem dX2_isBeaten_8 : decode cX2_isBeaten 8 = .ok (.aload_n 2, 1) := dk_44 (dk_at dksX2_isBeaten_0 8 rfl rfl)
theorem dX2_isBeaten_9 : decode cX2_isBeaten 9 = .ok (.invokevirtual 41, 3) := dk_182 0 41 (dk_at dksX2_isBeaten_0 9 rfl rfl)
theorem dX2_isBeaten_12 : decode cX2_isBeaten 12 = .ok (.if_icmp .ge 32, 3) := dk_162 0 32 (dk_at dksX2_isBeaten_0 12 rfl rfl)
theorem dX2_isBeaten_15 : decode cX2_isBeaten 15 = .ok (.iload 4, 2) := dk_21 4 (dk_at dksX2_isBeaten_0 15 rfl rfl)
theorem dX2_isBeaten_17 : decode cX2_isBeaten 17 = .ok (.aload_n 0, 1) := dk_42 (dk_at dksX2_isBeaten_0 17 rfl rfl)
theorem dX2_isBeaten_18 : decode cX2_isBeaten 18 = .ok (.getfield 21, 3) := dk_180 0 21 (dk_at dksX2_isBeaten_0 18 rfl rfl)
theorem dX2_isBeaten_21 : decode cX2_isBeaten 21 = .ok (.aload_n 2, 1) := dk_44 (dk_at dksX2_isBeaten_0 21 rfl rfl)
theorem dX2_isBeaten_22 : decode cX2_isBeaten 22 = .ok (.iload 5, 2) := dk_21 5 (dk_at dksX2_isBeaten_0 22 rfl rfl)
theorem dX2_isBeaten_24 : decode cX2_isBeaten 24 = .ok (.invokevirtual 49, 3) := dk_182 0 49 (dk_at dksX2_isBeaten_1 0 rfl rfl)
theorem dX2_isBeaten_27 : decode cX2_isBeaten 27 = .ok (.checkcast 53, 3) := dk_192 0 53 (dk_at dksX2_isBeaten_1 3 rfl rfl)
theorem dX2_isBeaten_30 : decode cX2_isBeaten 30 = .ok (.aload_n 1, 1) := dk_43 (dk_at dksX2_isBeaten_1 6 rfl rfl)
theorem dX2_isBeaten_31 : decode cX2_isBeaten 31 = .ok (.iload_n 3, 1) := dk_29 (dk_at dksX2_isBeaten_1 7 rfl rfl)
theorem dX2_isBeaten_32 : decode cX2_isBeaten 32 = .ok (.invokevirtual 111, 3) := dk_182 0 111 (dk_at dksX2_isBeaten_1 8 rfl rfl)
theorem dX2_isBeaten_35 : decode cX2_isBeaten 35 = .ok (.ior, 1) := dk_128 (dk_at dksX2_isBeaten_1 11 rfl rfl)
theorem dX2_isBeaten_36 : decode cX2_isBeaten 36 = .ok (.istore 4, 2) := dk_54 4 (dk_at dksX2_isBeaten_1 12 rfl rfl)
theorem dX2_isBeaten_38 : decode cX2_isBeaten 38 = .ok (.iinc 5 1, 3) := dk_132 5 1 (dk_at dksX2_isBeaten_1 14 rfl rfl)
theorem dX2_isBeaten_41 : decode cX2_isBeaten 41 = .ok (.goto (-35), 3) := dk_167 255 221 (dk_at dksX2_isBeaten_1 17 rfl rfl)
theorem dX2_isBeaten_44 : decode cX2_isBeaten 44 = .ok (.iload 4, 2) := dk_21 4 (dk_at dksX2_isBeaten_1 20 rfl rfl)
theorem dX2_isBeaten_46 : decode cX2_isBeaten 46 = .ok (.ireturn, 1) := dk_172 (dk_at dksX2_isBeaten_1 22 rfl rfl)
abbrev cX2_lambda_prunes_1 : ByteArray := prog_8_method_66_code
def yX2_lambda_prunes_1 : MethodName := ⟨RX2, "lambda$prunes$1", "(LOfferSky$Bag;LOfferSky$Offer;)Z"⟩
def dkwX2_lambda_prunes_1_1 : List UInt8 := [4, 167, 0, 4, 3, 172]
abbrev dktX2_lambda_prunes_1_1 : List UInt8 := dkwX2_lambda_prunes_1_1 ++ []
def dkwX2_lambda_prunes_1_0 : List UInt8 := [42, 180, 0, 21, 44, 182, 0, 116, 153, 0, 20, 43, 44, 186, 1, 2, 0, 0, 182, 0, 247, 154, 0, 7]
abbrev dktX2_lambda_prunes_1_0 : List UInt8 := dkwX2_lambda_prunes_1_0 ++ dktX2_lambda_prunes_1_1
theorem dksX2_lambda_prunes_1_0 : cX2_lambda_prunes_1.data.toList.drop 0 = dktX2_lambda_prunes_1_0 := by decide +kernel
theorem dksX2_lambda_prunes_1_1 : cX2_lambda_prunes_1.data.toList.drop 24 = dktX2_lambda_prunes_1_1 := dk_seg dksX2_lambda_prunes_1_0 24 rfl rfl
theorem dX2_lambda_prunes_1_0 : decode cX2_lambda_prunes_1 0 = .ok (.aload_n 0, 1) := dk_42 (dk_at dksX2_lambda_prunes_1_0 0 rfl rfl)
theorem dX2_lambda_prunes_1_1 : decode cX2_lambda_prunes_1 1 = .ok (.getfield 21, 3) := dk_180 0 21 (dk_at dksX2_lambda_prunes_1_0 1 rfl rfl)
theorem dX2_lambda_prunes_1_4 : decode cX2_lambda_prunes_1 4 = .ok (.aload_n 2, 1) := dk_44 (dk_at dksX2_lambda_prunes_1_0 4 rfl rfl)
theorem dX2_lambda_prunes_1_5 : decode cX2_lambda_prunes_1 5 = .ok (.invokevirtual 116, 3) := dk_182 0 116 (dk_at dksX2_lambda_prunes_1_0 5 rfl rfl)
theorem dX2_lambda_prunes_1_8 : decode cX2_lambda_prunes_1 8 = .ok (.ifCond .eq 20, 3) := dk_153 0 20 (dk_at dksX2_lambda_prunes_1_0 8 rfl rfl)
theorem dX2_lambda_prunes_1_11 : decode cX2_lambda_prunes_1 11 = .ok (.aload_n 1, 1) := dk_43 (dk_at dksX2_lambda_prunes_1_0 11 rfl rfl)
theorem dX2_lambda_prunes_1_12 : decode cX2_lambda_prunes_1 12 = .ok (.aload_n 2, 1) := dk_44 (dk_at dksX2_lambda_prunes_1_0 12 rfl rfl)
theorem dX2_lambda_prunes_1_13 : decode cX2_lambda_prunes_1 13 = .ok (.invokedynamic 258, 5) := by decide +kernel
theorem dX2_lambda_prunes_1_18 : decode cX2_lambda_prunes_1 18 = .ok (.invokevirtual 247, 3) := dk_182 0 247 (dk_at dksX2_lambda_prunes_1_0 18 rfl rfl)
theorem dX2_lambda_prunes_1_21 : decode cX2_lambda_prunes_1 21 = .ok (.ifCond .ne 7, 3) := dk_154 0 7 (dk_at dksX2_lambda_prunes_1_0 21 rfl rfl)
theorem dX2_lambda_prunes_1_24 : decode cX2_lambda_prunes_1 24 = .ok (.iconst 1, 1) := dk_4 (dk_at dksX2_lambda_prunes_1_1 0 rfl rfl)
theorem dX2_lambda_prunes_1_25 : decode cX2_lambda_prunes_1 25 = .ok (.goto 4, 3) := dk_167 0 4 (dk_at dksX2_lambda_prunes_1_1 1 rfl rfl)
theorem dX2_lambda_prunes_1_28 : decode cX2_lambda_prunes_1 28 = .ok (.iconst 0, 1) := dk_3 (dk_at dksX2_lambda_prunes_1_1 4 rfl rfl)
theorem dX2_lambda_prunes_1_29 : decode cX2_lambda_prunes_1 29 = .ok (.ireturn, 1) := dk_172 (dk_at dksX2_lambda_prunes_1_1 5 rfl rfl)
abbrev cX2_lambda_prunes_0 : ByteArray := prog_8_method_67_code
def yX2_lambda_prunes_0 : MethodName := ⟨RX2, "lambda$prunes$0", "(LOfferSky$Offer;LOfferSky$Offer;)Z"⟩
def dkwX2_lambda_prunes_0_0 : List UInt8 := [43, 42, 166, 0, 7, 4, 167, 0, 4, 3, 172]
abbrev dktX2_lambda_prunes_0_0 : List UInt8 := dkwX2_lambda_prunes_0_0 ++ []
theorem dksX2_lambda_prunes_0_0 : cX2_lambda_prunes_0.data.toList.drop 0 = dktX2_lambda_prunes_0_0 := by decide +kernel
theorem dX2_lambda_prunes_0_0 : decode cX2_lambda_prunes_0 0 = .ok (.aload_n 1, 1) := dk_43 (dk_at dksX2_lambda_prunes_0_0 0 rfl rfl)
theorem dX2_lambda_prunes_0_1 : decode cX2_lambda_prunes_0 1 = .ok (.aload_n 0, 1) := dk_42 (dk_at dksX2_lambda_prunes_0_0 1 rfl rfl)
theorem dX2_lambda_prunes_0_2 : decode cX2_lambda_prunes_0 2 = .ok (.if_acmp .ne 7, 3) := dk_166 0 7 (dk_at dksX2_lambda_prunes_0_0 2 rfl rfl)
theorem dX2_lambda_prunes_0_5 : decode cX2_lambda_prunes_0 5 = .ok (.iconst 1, 1) := dk_4 (dk_at dksX2_lambda_prunes_0_0 5 rfl rfl)
theorem dX2_lambda_prunes_0_6 : decode cX2_lambda_prunes_0 6 = .ok (.goto 4, 3) := dk_167 0 4 (dk_at dksX2_lambda_prunes_0_0 6 rfl rfl)
theorem dX2_lambda_prunes_0_9 : decode cX2_lambda_prunes_0 9 = .ok (.iconst 0, 1) := dk_3 (dk_at dksX2_lambda_prunes_0_0 9 rfl rfl)
theorem dX2_lambda_prunes_0_10 : decode cX2_lambda_prunes_0 10 = .ok (.ireturn, 1) := dk_172 (dk_at dksX2_lambda_prunes_0_0 10 rfl rfl)
abbrev cX2_bySums : ByteArray := prog_8_method_20_code
def yX2_bySums : MethodName := ⟨RX2, "bySums", "()I"⟩
def dkwX2_bySums_3 : List UInt8 := [182, 0, 41, 172]
abbrev dktX2_bySums_3 : List UInt8 := dkwX2_bySums_3 ++ []
def dkwX2_bySums_2 : List UInt8 := [154, 0, 15, 44, 43, 29, 182, 0, 49, 192, 0, 53, 182, 0, 55, 132, 3, 1, 167, 255, 215, 44]
abbrev dktX2_bySums_2 : List UInt8 := dkwX2_bySums_2 ++ dktX2_bySums_3
def dkwX2_bySums_1 : List UInt8 := [29, 43, 182, 0, 41, 162, 0, 39, 42, 43, 29, 182, 0, 49, 192, 0, 53, 44, 16, 15, 182, 0, 130]
abbrev dktX2_bySums_1 : List UInt8 := dkwX2_bySums_1 ++ dktX2_bySums_2
def dkwX2_bySums_0 : List UInt8 := [42, 182, 0, 80, 42, 186, 0, 135, 0, 0, 182, 0, 139, 76, 187, 0, 9, 89, 183, 0, 11, 77, 3, 62]
abbrev dktX2_bySums_0 : List UInt8 := dkwX2_bySums_0 ++ dktX2_bySums_1
theorem dksX2_bySums_0 : cX2_bySums.data.toList.drop 0 = dktX2_bySums_0 := by decide +kernel
theorem dksX2_bySums_1 : cX2_bySums.data.toList.drop 24 = dktX2_bySums_1 := dk_seg dksX2_bySums_0 24 rfl rfl
theorem dksX2_bySums_2 : cX2_bySums.data.toList.drop 47 = dktX2_bySums_2 := dk_seg dksX2_bySums_1 23 rfl rfl
theorem dksX2_bySums_3 : cX2_bySums.data.toList.drop 69 = dktX2_bySums_3 := dk_seg dksX2_bySums_2 22 rfl rfl
theorem dX2_bySums_0 : decode cX2_bySums 0 = .ok (.aload_n 0, 1) := dk_42 (dk_at dksX2_bySums_0 0 rfl rfl)
theorem dX2_bySums_1 : decode cX2_bySums 1 = .ok (.invokevirtual 80, 3) := dk_182 0 80 (dk_at dksX2_bySums_0 1 rfl rfl)
theorem dX2_bySums_4 : decode cX2_bySums 4 = .ok (.aload_n 0, 1) := dk_42 (dk_at dksX2_bySums_0 4 rfl rfl)
theorem dX2_bySums_5 : decode cX2_bySums 5 = .ok (.invokedynamic 135, 5) := by decide +kernel
theorem dX2_bySums_10 : decode cX2_bySums 10 = .ok (.invokevirtual 139, 3) := dk_182 0 139 (dk_at dksX2_bySums_0 10 rfl rfl)
theorem dX2_bySums_13 : decode cX2_bySums 13 = .ok (.astore_n 1, 1) := dk_76 (dk_at dksX2_bySums_0 13 rfl rfl)
theorem dX2_bySums_14 : decode cX2_bySums 14 = .ok (.new 9, 3) := dk_187 0 9 (dk_at dksX2_bySums_0 14 rfl rfl)
theorem dX2_bySums_17 : decode cX2_bySums 17 = .ok (.dup, 1) := dk_89 (dk_at dksX2_bySums_0 17 rfl rfl)
theorem dX2_bySums_18 : decode cX2_bySums 18 = .ok (.invokespecial 11, 3) := dk_183 0 11 (dk_at dksX2_bySums_0 18 rfl rfl)
theorem dX2_bySums_21 : decode cX2_bySums 21 = .ok (.astore_n 2, 1) := dk_77 (dk_at dksX2_bySums_0 21 rfl rfl)
theorem dX2_bySums_22 : decode cX2_bySums 22 = .ok (.iconst 0, 1) := dk_3 (dk_at dksX2_bySums_0 22 rfl rfl)
theorem dX2_bySums_23 : decode cX2_bySums 23 = .ok (.istore_n 3, 1) := dk_62 (dk_at dksX2_bySums_0 23 rfl rfl)
theorem dX2_bySums_24 : decode cX2_bySums 24 = .ok (.iload_n 3, 1) := dk_29 (dk_at dksX2_bySums_1 0 rfl rfl)
theorem dX2_bySums_25 : decode cX2_bySums 25 = .ok (.aload_n 1, 1) := dk_43 (dk_at dksX2_bySums_1 1 rfl rfl)
theorem dX2_bySums_26 : decode cX2_bySums 26 = .ok (.invokevirtual 41, 3) := dk_182 0 41 (dk_at dksX2_bySums_1 2 rfl rfl)
theorem dX2_bySums_29 : decode cX2_bySums 29 = .ok (.if_icmp .ge 39, 3) := dk_162 0 39 (dk_at dksX2_bySums_1 5 rfl rfl)
theorem dX2_bySums_32 : decode cX2_bySums 32 = .ok (.aload_n 0, 1) := dk_42 (dk_at dksX2_bySums_1 8 rfl rfl)
theorem dX2_bySums_33 : decode cX2_bySums 33 = .ok (.aload_n 1, 1) := dk_43 (dk_at dksX2_bySums_1 9 rfl rfl)
theorem dX2_bySums_34 : decode cX2_bySums 34 = .ok (.iload_n 3, 1) := dk_29 (dk_at dksX2_bySums_1 10 rfl rfl)
theorem dX2_bySums_35 : decode cX2_bySums 35 = .ok (.invokevirtual 49, 3) := dk_182 0 49 (dk_at dksX2_bySums_1 11 rfl rfl)
theorem dX2_bySums_38 : decode cX2_bySums 38 = .ok (.checkcast 53, 3) := dk_192 0 53 (dk_at dksX2_bySums_1 14 rfl rfl)
theorem dX2_bySums_41 : decode cX2_bySums 41 = .ok (.aload_n 2, 1) := dk_44 (dk_at dksX2_bySums_1 17 rfl rfl)
theorem dX2_bySums_42 : decode cX2_bySums 42 = .ok (.bipush 15, 2) := dk_16 15 (dk_at dksX2_bySums_1 18 rfl rfl)
theorem dX2_bySums_44 : decode cX2_bySums 44 = .ok (.invokevirtual 130, 3) := dk_182 0 130 (dk_at dksX2_bySums_1 20 rfl rfl)
theorem dX2_bySums_47 : decode cX2_bySums 47 = .ok (.ifCond .ne 15, 3) := dk_154 0 15 (dk_at dksX2_bySums_2 0 rfl rfl)
theorem dX2_bySums_50 : decode cX2_bySums 50 = .ok (.aload_n 2, 1) := dk_44 (dk_at dksX2_bySums_2 3 rfl rfl)
theorem dX2_bySums_51 : decode cX2_bySums 51 = .ok (.aload_n 1, 1) := dk_43 (dk_at dksX2_bySums_2 4 rfl rfl)
theorem dX2_bySums_52 : decode cX2_bySums 52 = .ok (.iload_n 3, 1) := dk_29 (dk_at dksX2_bySums_2 5 rfl rfl)
theorem dX2_bySums_53 : decode cX2_bySums 53 = .ok (.invokevirtual 49, 3) := dk_182 0 49 (dk_at dksX2_bySums_2 6 rfl rfl)
theorem dX2_bySums_56 : decode cX2_bySums 56 = .ok (.checkcast 53, 3) := dk_192 0 53 (dk_at dksX2_bySums_2 9 rfl rfl)
theorem dX2_bySums_59 : decode cX2_bySums 59 = .ok (.invokevirtual 55, 3) := dk_182 0 55 (dk_at dksX2_bySums_2 12 rfl rfl)
theorem dX2_bySums_62 : decode cX2_bySums 62 = .ok (.iinc 3 1, 3) := dk_132 3 1 (dk_at dksX2_bySums_2 15 rfl rfl)
theorem dX2_bySums_65 : decode cX2_bySums 65 = .ok (.goto (-41), 3) := dk_167 255 215 (dk_at dksX2_bySums_2 18 rfl rfl)
theorem dX2_bySums_68 : decode cX2_bySums 68 = .ok (.aload_n 2, 1) := dk_44 (dk_at dksX2_bySums_2 21 rfl rfl)
theorem dX2_bySums_69 : decode cX2_bySums 69 = .ok (.invokevirtual 41, 3) := dk_182 0 41 (dk_at dksX2_bySums_3 0 rfl rfl)
theorem dX2_bySums_72 : decode cX2_bySums 72 = .ok (.ireturn, 1) := dk_172 (dk_at dksX2_bySums_3 3 rfl rfl)
abbrev cX2_lambda_bySums_7 : ByteArray := prog_8_method_60_code
def yX2_lambda_bySums_7 : MethodName := ⟨RX2, "lambda$bySums$7", "(LOfferSky$Offer;LOfferSky$Offer;)Z"⟩
def dkwX2_lambda_bySums_7_1 : List UInt8 := [172]
abbrev dktX2_lambda_bySums_7_1 : List UInt8 := dkwX2_lambda_bySums_7_1 ++ []
def dkwX2_lambda_bySums_7_0 : List UInt8 := [42, 180, 0, 21, 43, 182, 0, 255, 42, 180, 0, 21, 44, 182, 0, 255, 164, 0, 7, 4, 167, 0, 4, 3]
abbrev dktX2_lambda_bySums_7_0 : List UInt8 := dkwX2_lambda_bySums_7_0 ++ dktX2_lambda_bySums_7_1
theorem dksX2_lambda_bySums_7_0 : cX2_lambda_bySums_7.data.toList.drop 0 = dktX2_lambda_bySums_7_0 := by decide +kernel
theorem dksX2_lambda_bySums_7_1 : cX2_lambda_bySums_7.data.toList.drop 24 = dktX2_lambda_bySums_7_1 := dk_seg dksX2_lambda_bySums_7_0 24 rfl rfl
theorem dX2_lambda_bySums_7_0 : decode cX2_lambda_bySums_7 0 = .ok (.aload_n 0, 1) := dk_42 (dk_at dksX2_lambda_bySums_7_0 0 rfl rfl)
theorem dX2_lambda_bySums_7_1 : decode cX2_lambda_bySums_7 1 = .ok (.getfield 21, 3) := dk_180 0 21 (dk_at dksX2_lambda_bySums_7_0 1 rfl rfl)
theorem dX2_lambda_bySums_7_4 : decode cX2_lambda_bySums_7 4 = .ok (.aload_n 1, 1) := dk_43 (dk_at dksX2_lambda_bySums_7_0 4 rfl rfl)
theorem dX2_lambda_bySums_7_5 : decode cX2_lambda_bySums_7 5 = .ok (.invokevirtual 255, 3) := dk_182 0 255 (dk_at dksX2_lambda_bySums_7_0 5 rfl rfl)
theorem dX2_lambda_bySums_7_8 : decode cX2_lambda_bySums_7 8 = .ok (.aload_n 0, 1) := dk_42 (dk_at dksX2_lambda_bySums_7_0 8 rfl rfl)
theorem dX2_lambda_bySums_7_9 : decode cX2_lambda_bySums_7 9 = .ok (.getfield 21, 3) := dk_180 0 21 (dk_at dksX2_lambda_bySums_7_0 9 rfl rfl)
theorem dX2_lambda_bySums_7_12 : decode cX2_lambda_bySums_7 12 = .ok (.aload_n 2, 1) := dk_44 (dk_at dksX2_lambda_bySums_7_0 12 rfl rfl)
theorem dX2_lambda_bySums_7_13 : decode cX2_lambda_bySums_7 13 = .ok (.invokevirtual 255, 3) := dk_182 0 255 (dk_at dksX2_lambda_bySums_7_0 13 rfl rfl)
theorem dX2_lambda_bySums_7_16 : decode cX2_lambda_bySums_7 16 = .ok (.if_icmp .le 7, 3) := dk_164 0 7 (dk_at dksX2_lambda_bySums_7_0 16 rfl rfl)
theorem dX2_lambda_bySums_7_19 : decode cX2_lambda_bySums_7 19 = .ok (.iconst 1, 1) := dk_4 (dk_at dksX2_lambda_bySums_7_0 19 rfl rfl)
theorem dX2_lambda_bySums_7_20 : decode cX2_lambda_bySums_7 20 = .ok (.goto 4, 3) := dk_167 0 4 (dk_at dksX2_lambda_bySums_7_0 20 rfl rfl)
theorem dX2_lambda_bySums_7_23 : decode cX2_lambda_bySums_7 23 = .ok (.iconst 0, 1) := dk_3 (dk_at dksX2_lambda_bySums_7_0 23 rfl rfl)
theorem dX2_lambda_bySums_7_24 : decode cX2_lambda_bySums_7 24 = .ok (.ireturn, 1) := dk_172 (dk_at dksX2_lambda_bySums_7_1 0 rfl rfl)
abbrev cX2_peeled : ByteArray := prog_8_method_22_code
def yX2_peeled : MethodName := ⟨RX2, "peeled", "()[I"⟩
def dkwX2_peeled_3 : List UInt8 := [25, 4, 186, 0, 149, 0, 0, 182, 0, 107, 77, 167, 255, 191, 43, 176]
abbrev dktX2_peeled_3 : List UInt8 := dkwX2_peeled_3 ++ []
def dkwX2_peeled_2 : List UInt8 := [42, 25, 4, 21, 5, 182, 0, 49, 192, 0, 53, 182, 0, 146, 29, 79, 132, 5, 1, 167, 255, 226, 44]
abbrev dktX2_peeled_2 : List UInt8 := dkwX2_peeled_2 ++ dktX2_peeled_3
def dkwX2_peeled_1 : List UInt8 := [132, 3, 1, 42, 44, 182, 0, 83, 58, 4, 3, 54, 5, 21, 5, 25, 4, 182, 0, 41, 162, 0, 26, 43]
abbrev dktX2_peeled_1 : List UInt8 := dkwX2_peeled_1 ++ dktX2_peeled_2
def dkwX2_peeled_0 : List UInt8 := [42, 180, 0, 12, 182, 0, 41, 188, 10, 76, 42, 182, 0, 80, 77, 3, 62, 44, 182, 0, 41, 158, 0, 64]
abbrev dktX2_peeled_0 : List UInt8 := dkwX2_peeled_0 ++ dktX2_peeled_1
theorem dksX2_peeled_0 : cX2_peeled.data.toList.drop 0 = dktX2_peeled_0 := by decide +kernel
theorem dksX2_peeled_1 : cX2_peeled.data.toList.drop 24 = dktX2_peeled_1 := dk_seg dksX2_peeled_0 24 rfl rfl
theorem dksX2_peeled_2 : cX2_peeled.data.toList.drop 48 = dktX2_peeled_2 := dk_seg dksX2_peeled_1 24 rfl rfl
theorem dksX2_peeled_3 : cX2_peeled.data.toList.drop 71 = dktX2_peeled_3 := dk_seg dksX2_peeled_2 23 rfl rfl
theorem dX2_peeled_0 : decode cX2_peeled 0 = .ok (.aload_n 0, 1) := dk_42 (dk_at dksX2_peeled_0 0 rfl rfl)
theorem dX2_peeled_1 : decode cX2_peeled 1 = .ok (.getfield 12, 3) := dk_180 0 12 (dk_at dksX2_peeled_0 1 rfl rfl)
theorem dX2_peeled_4 : decode cX2_peeled 4 = .ok (.invokevirtual 41, 3) := dk_182 0 41 (dk_at dksX2_peeled_0 4 rfl rfl)
theorem dX2_peeled_7 : decode cX2_peeled 7 = .ok (.newarray .int, 2) := dk_188_10 (dk_at dksX2_peeled_0 7 rfl rfl)
theorem dX2_peeled_9 : decode cX2_peeled 9 = .ok (.astore_n 1, 1) := dk_76 (dk_at dksX2_peeled_0 9 rfl rfl)
theorem dX2_peeled_10 : decode cX2_peeled 10 = .ok (.aload_n 0, 1) := dk_42 (dk_at dksX2_peeled_0 10 rfl rfl)
theorem dX2_peeled_11 : decode cX2_peeled 11 = .ok (.invokevirtual 80, 3) := dk_182 0 80 (dk_at dksX2_peeled_0 11 rfl rfl)
theorem dX2_peeled_14 : decode cX2_peeled 14 = .ok (.astore_n 2, 1) := dk_77 (dk_at dksX2_peeled_0 14 rfl rfl)
theorem dX2_peeled_15 : decode cX2_peeled 15 = .ok (.iconst 0, 1) := dk_3 (dk_at dksX2_peeled_0 15 rfl rfl)
theorem dX2_peeled_16 : decode cX2_peeled 16 = .ok (.istore_n 3, 1) := dk_62 (dk_at dksX2_peeled_0 16 rfl rfl)
theorem dX2_peeled_17 : decode cX2_peeled 17 = .ok (.aload_n 2, 1) := dk_44 (dk_at dksX2_peeled_0 17 rfl rfl)
theorem dX2_peeled_18 : decode cX2_peeled 18 = .ok (.invokevirtual 41, 3) := dk_182 0 41 (dk_at dksX2_peeled_0 18 rfl rfl)
theorem dX2_peeled_21 : decode cX2_peeled 21 = .ok (.ifCond .le 64, 3) := dk_158 0 64 (dk_at dksX2_peeled_0 21 rfl rfl)
theorem dX2_peeled_24 : decode cX2_peeled 24 = .ok (.iinc 3 1, 3) := dk_132 3 1 (dk_at dksX2_peeled_1 0 rfl rfl)
theorem dX2_peeled_27 : decode cX2_peeled 27 = .ok (.aload_n 0, 1) := dk_42 (dk_at dksX2_peeled_1 3 rfl rfl)
theorem dX2_peeled_28 : decode cX2_peeled 28 = .ok (.aload_n 2, 1) := dk_44 (dk_at dksX2_peeled_1 4 rfl rfl)
theorem dX2_peeled_29 : decode cX2_peeled 29 = .ok (.invokevirtual 83, 3) := dk_182 0 83 (dk_at dksX2_peeled_1 5 rfl rfl)
theorem dX2_peeled_32 : decode cX2_peeled 32 = .ok (.astore 4, 2) := dk_58 4 (dk_at dksX2_peeled_1 8 rfl rfl)
theorem dX2_peeled_34 : decode cX2_peeled 34 = .ok (.iconst 0, 1) := dk_3 (dk_at dksX2_peeled_1 10 rfl rfl)
theorem dX2_peeled_35 : decode cX2_peeled 35 = .ok (.istore 5, 2) := dk_54 5 (dk_at dksX2_peeled_1 11 rfl rfl)
theorem dX2_peeled_37 : decode cX2_peeled 37 = .ok (.iload 5, 2) := dk_21 5 (dk_at dksX2_peeled_1 13 rfl rfl)
theorem dX2_peeled_39 : decode cX2_peeled 39 = .ok (.aload 4, 2) := dk_25 4 (dk_at dksX2_peeled_1 15 rfl rfl)
theorem dX2_peeled_41 : decode cX2_peeled 41 = .ok (.invokevirtual 41, 3) := dk_182 0 41 (dk_at dksX2_peeled_1 17 rfl rfl)
theorem dX2_peeled_44 : decode cX2_peeled 44 = .ok (.if_icmp .ge 26, 3) := dk_162 0 26 (dk_at dksX2_peeled_1 20 rfl rfl)
theorem dX2_peeled_47 : decode cX2_peeled 47 = .ok (.aload_n 1, 1) := dk_43 (dk_at dksX2_peeled_1 23 rfl rfl)
theorem dX2_peeled_48 : decode cX2_peeled 48 = .ok (.aload_n 0, 1) := dk_42 (dk_at dksX2_peeled_2 0 rfl rfl)
theorem dX2_peeled_49 : decode cX2_peeled 49 = .ok (.aload 4, 2) := dk_25 4 (dk_at dksX2_peeled_2 1 rfl rfl)
theorem dX2_peeled_51 : decode cX2_peeled 51 = .ok (.iload 5, 2) := dk_21 5 (dk_at dksX2_peeled_2 3 rfl rfl)
theorem dX2_peeled_53 : decode cX2_peeled 53 = .ok (.invokevirtual 49, 3) := dk_182 0 49 (dk_at dksX2_peeled_2 5 rfl rfl)
theorem dX2_peeled_56 : decode cX2_peeled 56 = .ok (.checkcast 53, 3) := dk_192 0 53 (dk_at dksX2_peeled_2 8 rfl rfl)
theorem dX2_peeled_59 : decode cX2_peeled 59 = .ok (.invokevirtual 146, 3) := dk_182 0 146 (dk_at dksX2_peeled_2 11 rfl rfl)
theorem dX2_peeled_62 : decode cX2_peeled 62 = .ok (.iload_n 3, 1) := dk_29 (dk_at dksX2_peeled_2 14 rfl rfl)
theorem dX2_peeled_63 : decode cX2_peeled 63 = .ok (.iastore, 1) := dk_79 (dk_at dksX2_peeled_2 15 rfl rfl)
theorem dX2_peeled_64 : decode cX2_peeled 64 = .ok (.iinc 5 1, 3) := dk_132 5 1 (dk_at dksX2_peeled_2 16 rfl rfl)
theorem dX2_peeled_67 : decode cX2_peeled 67 = .ok (.goto (-30), 3) := dk_167 255 226 (dk_at dksX2_peeled_2 19 rfl rfl)
theorem dX2_peeled_70 : decode cX2_peeled 70 = .ok (.aload_n 2, 1) := dk_44 (dk_at dksX2_peeled_2 22 rfl rfl)
theorem dX2_peeled_71 : decode cX2_peeled 71 = .ok (.aload 4, 2) := dk_25 4 (dk_at dksX2_peeled_3 0 rfl rfl)
theorem dX2_peeled_73 : decode cX2_peeled 73 = .ok (.invokedynamic 149, 5) := by decide +kernel
theorem dX2_peeled_78 : decode cX2_peeled 78 = .ok (.invokevirtual 107, 3) := dk_182 0 107 (dk_at dksX2_peeled_3 7 rfl rfl)
theorem dX2_peeled_81 : decode cX2_peeled 81 = .ok (.astore_n 2, 1) := dk_77 (dk_at dksX2_peeled_3 10 rfl rfl)
theorem dX2_peeled_82 : decode cX2_peeled 82 = .ok (.goto (-65), 3) := dk_167 255 191 (dk_at dksX2_peeled_3 11 rfl rfl)
theorem dX2_peeled_85 : decode cX2_peeled 85 = .ok (.aload_n 1, 1) := dk_43 (dk_at dksX2_peeled_3 14 rfl rfl)
theorem dX2_peeled_86 : decode cX2_peeled 86 = .ok (.areturn, 1) := dk_176 (dk_at dksX2_peeled_3 15 rfl rfl)
abbrev cX2_numberOf : ByteArray := prog_8_method_5_code
def yX2_numberOf : MethodName := ⟨RX2, "numberOf", "(LOfferSky$Offer;)I"⟩
def dkwX2_numberOf_1 : List UInt8 := [166, 0, 7, 29, 167, 0, 4, 28, 61, 132, 3, 1, 167, 255, 224, 28, 172]
abbrev dktX2_numberOf_1 : List UInt8 := dkwX2_numberOf_1 ++ []
def dkwX2_numberOf_0 : List UInt8 := [2, 61, 3, 62, 29, 42, 180, 0, 12, 182, 0, 41, 162, 0, 27, 42, 180, 0, 12, 29, 182, 0, 49, 43]
abbrev dktX2_numberOf_0 : List UInt8 := dkwX2_numberOf_0 ++ dktX2_numberOf_1
theorem dksX2_numberOf_0 : cX2_numberOf.data.toList.drop 0 = dktX2_numberOf_0 := by decide +kernel
theorem dksX2_numberOf_1 : cX2_numberOf.data.toList.drop 24 = dktX2_numberOf_1 := dk_seg dksX2_numberOf_0 24 rfl rfl
theorem dX2_numberOf_0 : decode cX2_numberOf 0 = .ok (.iconst (-1), 1) := dk_2 (dk_at dksX2_numberOf_0 0 rfl rfl)
theorem dX2_numberOf_1 : decode cX2_numberOf 1 = .ok (.istore_n 2, 1) := dk_61 (dk_at dksX2_numberOf_0 1 rfl rfl)
theorem dX2_numberOf_2 : decode cX2_numberOf 2 = .ok (.iconst 0, 1) := dk_3 (dk_at dksX2_numberOf_0 2 rfl rfl)
theorem dX2_numberOf_3 : decode cX2_numberOf 3 = .ok (.istore_n 3, 1) := dk_62 (dk_at dksX2_numberOf_0 3 rfl rfl)
theorem dX2_numberOf_4 : decode cX2_numberOf 4 = .ok (.iload_n 3, 1) := dk_29 (dk_at dksX2_numberOf_0 4 rfl rfl)
theorem dX2_numberOf_5 : decode cX2_numberOf 5 = .ok (.aload_n 0, 1) := dk_42 (dk_at dksX2_numberOf_0 5 rfl rfl)
theorem dX2_numberOf_6 : decode cX2_numberOf 6 = .ok (.getfield 12, 3) := dk_180 0 12 (dk_at dksX2_numberOf_0 6 rfl rfl)
theorem dX2_numberOf_9 : decode cX2_numberOf 9 = .ok (.invokevirtual 41, 3) := dk_182 0 41 (dk_at dksX2_numberOf_0 9 rfl rfl)
theorem dX2_numberOf_12 : decode cX2_numberOf 12 = .ok (.if_icmp .ge 27, 3) := dk_162 0 27 (dk_at dksX2_numberOf_0 12 rfl rfl)
theorem dX2_numberOf_15 : decode cX2_numberOf 15 = .ok (.aload_n 0, 1) := dk_42 (dk_at dksX2_numberOf_0 15 rfl rfl)
theorem dX2_numberOf_16 : decode cX2_numberOf 16 = .ok (.getfield 12, 3) := dk_180 0 12 (dk_at dksX2_numberOf_0 16 rfl rfl)
theorem dX2_numberOf_19 : decode cX2_numberOf 19 = .ok (.iload_n 3, 1) := dk_29 (dk_at dksX2_numberOf_0 19 rfl rfl)
theorem dX2_numberOf_20 : decode cX2_numberOf 20 = .ok (.invokevirtual 49, 3) := dk_182 0 49 (dk_at dksX2_numberOf_0 20 rfl rfl)
theorem dX2_numberOf_23 : decode cX2_numberOf 23 = .ok (.aload_n 1, 1) := dk_43 (dk_at dksX2_numberOf_0 23 rfl rfl)
theorem dX2_numberOf_24 : decode cX2_numberOf 24 = .ok (.if_acmp .ne 7, 3) := dk_166 0 7 (dk_at dksX2_numberOf_1 0 rfl rfl)
theorem dX2_numberOf_27 : decode cX2_numberOf 27 = .ok (.iload_n 3, 1) := dk_29 (dk_at dksX2_numberOf_1 3 rfl rfl)
theorem dX2_numberOf_28 : decode cX2_numberOf 28 = .ok (.goto 4, 3) := dk_167 0 4 (dk_at dksX2_numberOf_1 4 rfl rfl)
theorem dX2_numberOf_31 : decode cX2_numberOf 31 = .ok (.iload_n 2, 1) := dk_28 (dk_at dksX2_numberOf_1 7 rfl rfl)
theorem dX2_numberOf_32 : decode cX2_numberOf 32 = .ok (.istore_n 2, 1) := dk_61 (dk_at dksX2_numberOf_1 8 rfl rfl)
theorem dX2_numberOf_33 : decode cX2_numberOf 33 = .ok (.iinc 3 1, 3) := dk_132 3 1 (dk_at dksX2_numberOf_1 9 rfl rfl)
theorem dX2_numberOf_36 : decode cX2_numberOf 36 = .ok (.goto (-32), 3) := dk_167 255 224 (dk_at dksX2_numberOf_1 12 rfl rfl)
theorem dX2_numberOf_39 : decode cX2_numberOf 39 = .ok (.iload_n 2, 1) := dk_28 (dk_at dksX2_numberOf_1 15 rfl rfl)
theorem dX2_numberOf_40 : decode cX2_numberOf 40 = .ok (.ireturn, 1) := dk_172 (dk_at dksX2_numberOf_1 16 rfl rfl)
abbrev cX2_lambda_peeled_9 : ByteArray := prog_8_method_58_code
def yX2_lambda_peeled_9 : MethodName := ⟨RX2, "lambda$peeled$9", "(LOfferSky$Bag;LOfferSky$Offer;)Z"⟩
def dkwX2_lambda_peeled_9_0 : List UInt8 := [42, 43, 186, 0, 254, 0, 0, 182, 0, 247, 154, 0, 7, 4, 167, 0, 4, 3, 172]
abbrev dktX2_lambda_peeled_9_0 : List UInt8 := dkwX2_lambda_peeled_9_0 ++ []
theorem dksX2_lambda_peeled_9_0 : cX2_lambda_peeled_9.data.toList.drop 0 = dktX2_lambda_peeled_9_0 := by decide +kernel
theorem dX2_lambda_peeled_9_0 : decode cX2_lambda_peeled_9 0 = .ok (.aload_n 0, 1) := dk_42 (dk_at dksX2_lambda_peeled_9_0 0 rfl rfl)
theorem dX2_lambda_peeled_9_1 : decode cX2_lambda_peeled_9 1 = .ok (.aload_n 1, 1) := dk_43 (dk_at dksX2_lambda_peeled_9_0 1 rfl rfl)
theorem dX2_lambda_peeled_9_2 : decode cX2_lambda_peeled_9 2 = .ok (.invokedynamic 254, 5) := by decide +kernel
theorem dX2_lambda_peeled_9_7 : decode cX2_lambda_peeled_9 7 = .ok (.invokevirtual 247, 3) := dk_182 0 247 (dk_at dksX2_lambda_peeled_9_0 7 rfl rfl)
theorem dX2_lambda_peeled_9_10 : decode cX2_lambda_peeled_9 10 = .ok (.ifCond .ne 7, 3) := dk_154 0 7 (dk_at dksX2_lambda_peeled_9_0 10 rfl rfl)
theorem dX2_lambda_peeled_9_13 : decode cX2_lambda_peeled_9 13 = .ok (.iconst 1, 1) := dk_4 (dk_at dksX2_lambda_peeled_9_0 13 rfl rfl)
theorem dX2_lambda_peeled_9_14 : decode cX2_lambda_peeled_9 14 = .ok (.goto 4, 3) := dk_167 0 4 (dk_at dksX2_lambda_peeled_9_0 14 rfl rfl)
theorem dX2_lambda_peeled_9_17 : decode cX2_lambda_peeled_9 17 = .ok (.iconst 0, 1) := dk_3 (dk_at dksX2_lambda_peeled_9_0 17 rfl rfl)
theorem dX2_lambda_peeled_9_18 : decode cX2_lambda_peeled_9 18 = .ok (.ireturn, 1) := dk_172 (dk_at dksX2_lambda_peeled_9_0 18 rfl rfl)
abbrev cX2_lambda_peeled_8 : ByteArray := prog_8_method_59_code
def yX2_lambda_peeled_8 : MethodName := ⟨RX2, "lambda$peeled$8", "(LOfferSky$Offer;LOfferSky$Offer;)Z"⟩
def dkwX2_lambda_peeled_8_0 : List UInt8 := [43, 42, 166, 0, 7, 4, 167, 0, 4, 3, 172]
abbrev dktX2_lambda_peeled_8_0 : List UInt8 := dkwX2_lambda_peeled_8_0 ++ []
theorem dksX2_lambda_peeled_8_0 : cX2_lambda_peeled_8.data.toList.drop 0 = dktX2_lambda_peeled_8_0 := by decide +kernel
theorem dX2_lambda_peeled_8_0 : decode cX2_lambda_peeled_8 0 = .ok (.aload_n 1, 1) := dk_43 (dk_at dksX2_lambda_peeled_8_0 0 rfl rfl)
theorem dX2_lambda_peeled_8_1 : decode cX2_lambda_peeled_8 1 = .ok (.aload_n 0, 1) := dk_42 (dk_at dksX2_lambda_peeled_8_0 1 rfl rfl)
theorem dX2_lambda_peeled_8_2 : decode cX2_lambda_peeled_8 2 = .ok (.if_acmp .ne 7, 3) := dk_166 0 7 (dk_at dksX2_lambda_peeled_8_0 2 rfl rfl)
theorem dX2_lambda_peeled_8_5 : decode cX2_lambda_peeled_8 5 = .ok (.iconst 1, 1) := dk_4 (dk_at dksX2_lambda_peeled_8_0 5 rfl rfl)
theorem dX2_lambda_peeled_8_6 : decode cX2_lambda_peeled_8 6 = .ok (.goto 4, 3) := dk_167 0 4 (dk_at dksX2_lambda_peeled_8_0 6 rfl rfl)
theorem dX2_lambda_peeled_8_9 : decode cX2_lambda_peeled_8 9 = .ok (.iconst 0, 1) := dk_3 (dk_at dksX2_lambda_peeled_8_0 9 rfl rfl)
theorem dX2_lambda_peeled_8_10 : decode cX2_lambda_peeled_8 10 = .ok (.ireturn, 1) := dk_172 (dk_at dksX2_lambda_peeled_8_0 10 rfl rfl)
abbrev cX2_greatestOf : ByteArray := prog_8_method_25_code
def yX2_greatestOf : MethodName := ⟨RX2, "greatestOf", "([I)I"⟩
def dkwX2_greatestOf_1 : List UInt8 := [28, 21, 6, 184, 0, 155, 61, 132, 5, 1, 167, 255, 233, 28, 172]
abbrev dktX2_greatestOf_1 : List UInt8 := dkwX2_greatestOf_1 ++ []
def dkwX2_greatestOf_0 : List UInt8 := [3, 61, 43, 78, 45, 190, 54, 4, 3, 54, 5, 21, 5, 21, 4, 162, 0, 22, 45, 21, 5, 46, 54, 6]
abbrev dktX2_greatestOf_0 : List UInt8 := dkwX2_greatestOf_0 ++ dktX2_greatestOf_1
theorem dksX2_greatestOf_0 : cX2_greatestOf.data.toList.drop 0 = dktX2_greatestOf_0 := by decide +kernel
theorem dksX2_greatestOf_1 : cX2_greatestOf.data.toList.drop 24 = dktX2_greatestOf_1 := dk_seg dksX2_greatestOf_0 24 rfl rfl
theorem dX2_greatestOf_0 : decode cX2_greatestOf 0 = .ok (.iconst 0, 1) := dk_3 (dk_at dksX2_greatestOf_0 0 rfl rfl)
theorem dX2_greatestOf_1 : decode cX2_greatestOf 1 = .ok (.istore_n 2, 1) := dk_61 (dk_at dksX2_greatestOf_0 1 rfl rfl)
theorem dX2_greatestOf_2 : decode cX2_greatestOf 2 = .ok (.aload_n 1, 1) := dk_43 (dk_at dksX2_greatestOf_0 2 rfl rfl)
theorem dX2_greatestOf_3 : decode cX2_greatestOf 3 = .ok (.astore_n 3, 1) := dk_78 (dk_at dksX2_greatestOf_0 3 rfl rfl)
theorem dX2_greatestOf_4 : decode cX2_greatestOf 4 = .ok (.aload_n 3, 1) := dk_45 (dk_at dksX2_greatestOf_0 4 rfl rfl)
theorem dX2_greatestOf_5 : decode cX2_greatestOf 5 = .ok (.arraylength, 1) := dk_190 (dk_at dksX2_greatestOf_0 5 rfl rfl)
theorem dX2_greatestOf_6 : decode cX2_greatestOf 6 = .ok (.istore 4, 2) := dk_54 4 (dk_at dksX2_greatestOf_0 6 rfl rfl)
theorem dX2_greatestOf_8 : decode cX2_greatestOf 8 = .ok (.iconst 0, 1) := dk_3 (dk_at dksX2_greatestOf_0 8 rfl rfl)
theorem dX2_greatestOf_9 : decode cX2_greatestOf 9 = .ok (.istore 5, 2) := dk_54 5 (dk_at dksX2_greatestOf_0 9 rfl rfl)
theorem dX2_greatestOf_11 : decode cX2_greatestOf 11 = .ok (.iload 5, 2) := dk_21 5 (dk_at dksX2_greatestOf_0 11 rfl rfl)
theorem dX2_greatestOf_13 : decode cX2_greatestOf 13 = .ok (.iload 4, 2) := dk_21 4 (dk_at dksX2_greatestOf_0 13 rfl rfl)
theorem dX2_greatestOf_15 : decode cX2_greatestOf 15 = .ok (.if_icmp .ge 22, 3) := dk_162 0 22 (dk_at dksX2_greatestOf_0 15 rfl rfl)
theorem dX2_greatestOf_18 : decode cX2_greatestOf 18 = .ok (.aload_n 3, 1) := dk_45 (dk_at dksX2_greatestOf_0 18 rfl rfl)
theorem dX2_greatestOf_19 : decode cX2_greatestOf 19 = .ok (.iload 5, 2) := dk_21 5 (dk_at dksX2_greatestOf_0 19 rfl rfl)
theorem dX2_greatestOf_21 : decode cX2_greatestOf 21 = .ok (.iaload, 1) := dk_46 (dk_at dksX2_greatestOf_0 21 rfl rfl)
theorem dX2_greatestOf_22 : decode cX2_greatestOf 22 = .ok (.istore 6, 2) := dk_54 6 (dk_at dksX2_greatestOf_0 22 rfl rfl)
theorem dX2_greatestOf_24 : decode cX2_greatestOf 24 = .ok (.iload_n 2, 1) := dk_28 (dk_at dksX2_greatestOf_1 0 rfl rfl)
theorem dX2_greatestOf_25 : decode cX2_greatestOf 25 = .ok (.iload 6, 2) := dk_21 6 (dk_at dksX2_greatestOf_1 1 rfl rfl)
theorem dX2_greatestOf_27 : decode cX2_greatestOf 27 = .ok (.invokestatic 155, 3) := dk_184 0 155 (dk_at dksX2_greatestOf_1 3 rfl rfl)
theorem dX2_greatestOf_30 : decode cX2_greatestOf 30 = .ok (.istore_n 2, 1) := dk_61 (dk_at dksX2_greatestOf_1 6 rfl rfl)
theorem dX2_greatestOf_31 : decode cX2_greatestOf 31 = .ok (.iinc 5 1, 3) := dk_132 5 1 (dk_at dksX2_greatestOf_1 7 rfl rfl)
theorem dX2_greatestOf_34 : decode cX2_greatestOf 34 = .ok (.goto (-23), 3) := dk_167 255 233 (dk_at dksX2_greatestOf_1 10 rfl rfl)
theorem dX2_greatestOf_37 : decode cX2_greatestOf 37 = .ok (.iload_n 2, 1) := dk_28 (dk_at dksX2_greatestOf_1 13 rfl rfl)
theorem dX2_greatestOf_38 : decode cX2_greatestOf 38 = .ok (.ireturn, 1) := dk_172 (dk_at dksX2_greatestOf_1 14 rfl rfl)
abbrev cX2_bestByTwo : ByteArray := prog_8_method_44_code
def yX2_bestByTwo : MethodName := ⟨RX2, "bestByTwo", "()I"⟩
def dkwX2_bestByTwo_2 : List UInt8 := [129, 184, 0, 213, 184, 0, 155, 62, 132, 5, 1, 167, 255, 229, 132, 4, 1, 167, 255, 212, 29, 172]
abbrev dktX2_bestByTwo_2 : List UInt8 := dkwX2_bestByTwo_2 ++ []
def dkwX2_bestByTwo_1 : List UInt8 := [190, 162, 0, 43, 21, 4, 54, 5, 21, 5, 44, 190, 162, 0, 26, 29, 44, 21, 4, 47, 44, 21, 5, 47]
abbrev dktX2_bestByTwo_1 : List UInt8 := dkwX2_bestByTwo_1 ++ dktX2_bestByTwo_2
def dkwX2_bestByTwo_0 : List UInt8 := [42, 182, 0, 80, 76, 42, 42, 43, 182, 0, 83, 43, 182, 0, 224, 77, 3, 62, 3, 54, 4, 21, 4, 44]
abbrev dktX2_bestByTwo_0 : List UInt8 := dkwX2_bestByTwo_0 ++ dktX2_bestByTwo_1
theorem dksX2_bestByTwo_0 : cX2_bestByTwo.data.toList.drop 0 = dktX2_bestByTwo_0 := by decide +kernel
theorem dksX2_bestByTwo_1 : cX2_bestByTwo.data.toList.drop 24 = dktX2_bestByTwo_1 := dk_seg dksX2_bestByTwo_0 24 rfl rfl
theorem dksX2_bestByTwo_2 : cX2_bestByTwo.data.toList.drop 48 = dktX2_bestByTwo_2 := dk_seg dksX2_bestByTwo_1 24 rfl rfl
theorem dX2_bestByTwo_0 : decode cX2_bestByTwo 0 = .ok (.aload_n 0, 1) := dk_42 (dk_at dksX2_bestByTwo_0 0 rfl rfl)
theorem dX2_bestByTwo_1 : decode cX2_bestByTwo 1 = .ok (.invokevirtual 80, 3) := dk_182 0 80 (dk_at dksX2_bestByTwo_0 1 rfl rfl)
theorem dX2_bestByTwo_4 : decode cX2_bestByTwo 4 = .ok (.astore_n 1, 1) := dk_76 (dk_at dksX2_bestByTwo_0 4 rfl rfl)
theorem dX2_bestByTwo_5 : decode cX2_bestByTwo 5 = .ok (.aload_n 0, 1) := dk_42 (dk_at dksX2_bestByTwo_0 5 rfl rfl)
theorem dX2_bestByTwo_6 : decode cX2_bestByTwo 6 = .ok (.aload_n 0, 1) := dk_42 (dk_at dksX2_bestByTwo_0 6 rfl rfl)
theorem dX2_bestByTwo_7 : decode cX2_bestByTwo 7 = .ok (.aload_n 1, 1) := dk_43 (dk_at dksX2_bestByTwo_0 7 rfl rfl)
theorem dX2_bestByTwo_8 : decode cX2_bestByTwo 8 = .ok (.invokevirtual 83, 3) := dk_182 0 83 (dk_at dksX2_bestByTwo_0 8 rfl rfl)
theorem dX2_bestByTwo_11 : decode cX2_bestByTwo 11 = .ok (.aload_n 1, 1) := dk_43 (dk_at dksX2_bestByTwo_0 11 rfl rfl)
theorem dX2_bestByTwo_12 : decode cX2_bestByTwo 12 = .ok (.invokevirtual 224, 3) := dk_182 0 224 (dk_at dksX2_bestByTwo_0 12 rfl rfl)
theorem dX2_bestByTwo_15 : decode cX2_bestByTwo 15 = .ok (.astore_n 2, 1) := dk_77 (dk_at dksX2_bestByTwo_0 15 rfl rfl)
theorem dX2_bestByTwo_16 : decode cX2_bestByTwo 16 = .ok (.iconst 0, 1) := dk_3 (dk_at dksX2_bestByTwo_0 16 rfl rfl)
theorem dX2_bestByTwo_17 : decode cX2_bestByTwo 17 = .ok (.istore_n 3, 1) := dk_62 (dk_at dksX2_bestByTwo_0 17 rfl rfl)
theorem dX2_bestByTwo_18 : decode cX2_bestByTwo 18 = .ok (.iconst 0, 1) := dk_3 (dk_at dksX2_bestByTwo_0 18 rfl rfl)
theorem dX2_bestByTwo_19 : decode cX2_bestByTwo 19 = .ok (.istore 4, 2) := dk_54 4 (dk_at dksX2_bestByTwo_0 19 rfl rfl)
theorem dX2_bestByTwo_21 : decode cX2_bestByTwo 21 = .ok (.iload 4, 2) := dk_21 4 (dk_at dksX2_bestByTwo_0 21 rfl rfl)
theorem dX2_bestByTwo_23 : decode cX2_bestByTwo 23 = .ok (.aload_n 2, 1) := dk_44 (dk_at dksX2_bestByTwo_0 23 rfl rfl)
theorem dX2_bestByTwo_24 : decode cX2_bestByTwo 24 = .ok (.arraylength, 1) := dk_190 (dk_at dksX2_bestByTwo_1 0 rfl rfl)
theorem dX2_bestByTwo_25 : decode cX2_bestByTwo 25 = .ok (.if_icmp .ge 43, 3) := dk_162 0 43 (dk_at dksX2_bestByTwo_1 1 rfl rfl)
theorem dX2_bestByTwo_28 : decode cX2_bestByTwo 28 = .ok (.iload 4, 2) := dk_21 4 (dk_at dksX2_bestByTwo_1 4 rfl rfl)
theorem dX2_bestByTwo_30 : decode cX2_bestByTwo 30 = .ok (.istore 5, 2) := dk_54 5 (dk_at dksX2_bestByTwo_1 6 rfl rfl)
theorem dX2_bestByTwo_32 : decode cX2_bestByTwo 32 = .ok (.iload 5, 2) := dk_21 5 (dk_at dksX2_bestByTwo_1 8 rfl rfl)
theorem dX2_bestByTwo_34 : decode cX2_bestByTwo 34 = .ok (.aload_n 2, 1) := dk_44 (dk_at dksX2_bestByTwo_1 10 rfl rfl)
theorem dX2_bestByTwo_35 : decode cX2_bestByTwo 35 = .ok (.arraylength, 1) := dk_190 (dk_at dksX2_bestByTwo_1 11 rfl rfl)
theorem dX2_bestByTwo_36 : decode cX2_bestByTwo 36 = .ok (.if_icmp .ge 26, 3) := dk_162 0 26 (dk_at dksX2_bestByTwo_1 12 rfl rfl)
theorem dX2_bestByTwo_39 : decode cX2_bestByTwo 39 = .ok (.iload_n 3, 1) := dk_29 (dk_at dksX2_bestByTwo_1 15 rfl rfl)
theorem dX2_bestByTwo_40 : decode cX2_bestByTwo 40 = .ok (.aload_n 2, 1) := dk_44 (dk_at dksX2_bestByTwo_1 16 rfl rfl)
theorem dX2_bestByTwo_41 : decode cX2_bestByTwo 41 = .ok (.iload 4, 2) := dk_21 4 (dk_at dksX2_bestByTwo_1 17 rfl rfl)
theorem dX2_bestByTwo_43 : decode cX2_bestByTwo 43 = .ok (.laload, 1) := dk_47 (dk_at dksX2_bestByTwo_1 19 rfl rfl)
theorem dX2_bestByTwo_44 : decode cX2_bestByTwo 44 = .ok (.aload_n 2, 1) := dk_44 (dk_at dksX2_bestByTwo_1 20 rfl rfl)
theorem dX2_bestByTwo_45 : decode cX2_bestByTwo 45 = .ok (.iload 5, 2) := dk_21 5 (dk_at dksX2_bestByTwo_1 21 rfl rfl)
theorem dX2_bestByTwo_47 : decode cX2_bestByTwo 47 = .ok (.laload, 1) := dk_47 (dk_at dksX2_bestByTwo_1 23 rfl rfl)
theorem dX2_bestByTwo_48 : decode cX2_bestByTwo 48 = .ok (.lor, 1) := dk_129 (dk_at dksX2_bestByTwo_2 0 rfl rfl)
theorem dX2_bestByTwo_49 : decode cX2_bestByTwo 49 = .ok (.invokestatic 213, 3) := dk_184 0 213 (dk_at dksX2_bestByTwo_2 1 rfl rfl)
theorem dX2_bestByTwo_52 : decode cX2_bestByTwo 52 = .ok (.invokestatic 155, 3) := dk_184 0 155 (dk_at dksX2_bestByTwo_2 4 rfl rfl)
theorem dX2_bestByTwo_55 : decode cX2_bestByTwo 55 = .ok (.istore_n 3, 1) := dk_62 (dk_at dksX2_bestByTwo_2 7 rfl rfl)
theorem dX2_bestByTwo_56 : decode cX2_bestByTwo 56 = .ok (.iinc 5 1, 3) := dk_132 5 1 (dk_at dksX2_bestByTwo_2 8 rfl rfl)
theorem dX2_bestByTwo_59 : decode cX2_bestByTwo 59 = .ok (.goto (-27), 3) := dk_167 255 229 (dk_at dksX2_bestByTwo_2 11 rfl rfl)
theorem dX2_bestByTwo_62 : decode cX2_bestByTwo 62 = .ok (.iinc 4 1, 3) := dk_132 4 1 (dk_at dksX2_bestByTwo_2 14 rfl rfl)
theorem dX2_bestByTwo_65 : decode cX2_bestByTwo 65 = .ok (.goto (-44), 3) := dk_167 255 212 (dk_at dksX2_bestByTwo_2 17 rfl rfl)
theorem dX2_bestByTwo_68 : decode cX2_bestByTwo 68 = .ok (.iload_n 3, 1) := dk_29 (dk_at dksX2_bestByTwo_2 20 rfl rfl)
theorem dX2_bestByTwo_69 : decode cX2_bestByTwo 69 = .ok (.ireturn, 1) := dk_172 (dk_at dksX2_bestByTwo_2 21 rfl rfl)
abbrev cX2_masks : ByteArray := prog_8_method_38_code
def yX2_masks : MethodName := ⟨RX2, "masks", "(LOfferSky$Bag;LOfferSky$Bag;)[J"⟩
def dkwX2_masks_3 : List UInt8 := [21, 5, 121, 129, 80, 132, 5, 1, 167, 255, 199, 132, 4, 1, 167, 255, 181, 45, 176]
abbrev dktX2_masks_3 : List UInt8 := dkwX2_masks_3 ++ []
def dkwX2_masks_2 : List UInt8 := [182, 0, 49, 192, 0, 53, 16, 15, 182, 0, 111, 184, 0, 171, 133, 55, 6, 45, 21, 4, 92, 47, 22, 6]
abbrev dktX2_masks_2 : List UInt8 := dkwX2_masks_2 ++ dktX2_masks_3
def dkwX2_masks_1 : List UInt8 := [44, 182, 0, 41, 162, 0, 54, 42, 180, 0, 21, 43, 21, 4, 182, 0, 49, 192, 0, 53, 44, 21, 5]
abbrev dktX2_masks_1 : List UInt8 := dkwX2_masks_1 ++ dktX2_masks_2
def dkwX2_masks_0 : List UInt8 := [43, 182, 0, 41, 188, 11, 78, 3, 54, 4, 21, 4, 43, 182, 0, 41, 162, 0, 72, 3, 54, 5, 21, 5]
abbrev dktX2_masks_0 : List UInt8 := dkwX2_masks_0 ++ dktX2_masks_1
theorem dksX2_masks_0 : cX2_masks.data.toList.drop 0 = dktX2_masks_0 := by decide +kernel
theorem dksX2_masks_1 : cX2_masks.data.toList.drop 24 = dktX2_masks_1 := dk_seg dksX2_masks_0 24 rfl rfl
theorem dksX2_masks_2 : cX2_masks.data.toList.drop 47 = dktX2_masks_2 := dk_seg dksX2_masks_1 23 rfl rfl
theorem dksX2_masks_3 : cX2_masks.data.toList.drop 71 = dktX2_masks_3 := dk_seg dksX2_masks_2 24 rfl rfl
theorem dX2_masks_0 : decode cX2_masks 0 = .ok (.aload_n 1, 1) := dk_43 (dk_at dksX2_masks_0 0 rfl rfl)
theorem dX2_masks_1 : decode cX2_masks 1 = .ok (.invokevirtual 41, 3) := dk_182 0 41 (dk_at dksX2_masks_0 1 rfl rfl)
theorem dX2_masks_4 : decode cX2_masks 4 = .ok (.newarray .long, 2) := dk_188_11 (dk_at dksX2_masks_0 4 rfl rfl)
theorem dX2_masks_6 : decode cX2_masks 6 = .ok (.astore_n 3, 1) := dk_78 (dk_at dksX2_masks_0 6 rfl rfl)
theorem dX2_masks_7 : decode cX2_masks 7 = .ok (.iconst 0, 1) := dk_3 (dk_at dksX2_masks_0 7 rfl rfl)
theorem dX2_masks_8 : decode cX2_masks 8 = .ok (.istore 4, 2) := dk_54 4 (dk_at dksX2_masks_0 8 rfl rfl)
theorem dX2_masks_10 : decode cX2_masks 10 = .ok (.iload 4, 2) := dk_21 4 (dk_at dksX2_masks_0 10 rfl rfl)
theorem dX2_masks_12 : decode cX2_masks 12 = .ok (.aload_n 1, 1) := dk_43 (dk_at dksX2_masks_0 12 rfl rfl)
theorem dX2_masks_13 : decode cX2_masks 13 = .ok (.invokevirtual 41, 3) := dk_182 0 41 (dk_at dksX2_masks_0 13 rfl rfl)
theorem dX2_masks_16 : decode cX2_masks 16 = .ok (.if_icmp .ge 72, 3) := dk_162 0 72 (dk_at dksX2_masks_0 16 rfl rfl)
theorem dX2_masks_19 : decode cX2_masks 19 = .ok (.iconst 0, 1) := dk_3 (dk_at dksX2_masks_0 19 rfl rfl)
theorem dX2_masks_20 : decode cX2_masks 20 = .ok (.istore 5, 2) := dk_54 5 (dk_at dksX2_masks_0 20 rfl rfl)
theorem dX2_masks_22 : decode cX2_masks 22 = .ok (.iload 5, 2) := dk_21 5 (dk_at dksX2_masks_0 22 rfl rfl)
theorem dX2_masks_24 : decode cX2_masks 24 = .ok (.aload_n 2, 1) := dk_44 (dk_at dksX2_masks_1 0 rfl rfl)
theorem dX2_masks_25 : decode cX2_masks 25 = .ok (.invokevirtual 41, 3) := dk_182 0 41 (dk_at dksX2_masks_1 1 rfl rfl)
theorem dX2_masks_28 : decode cX2_masks 28 = .ok (.if_icmp .ge 54, 3) := dk_162 0 54 (dk_at dksX2_masks_1 4 rfl rfl)
theorem dX2_masks_31 : decode cX2_masks 31 = .ok (.aload_n 0, 1) := dk_42 (dk_at dksX2_masks_1 7 rfl rfl)
theorem dX2_masks_32 : decode cX2_masks 32 = .ok (.getfield 21, 3) := dk_180 0 21 (dk_at dksX2_masks_1 8 rfl rfl)
theorem dX2_masks_35 : decode cX2_masks 35 = .ok (.aload_n 1, 1) := dk_43 (dk_at dksX2_masks_1 11 rfl rfl)
theorem dX2_masks_36 : decode cX2_masks 36 = .ok (.iload 4, 2) := dk_21 4 (dk_at dksX2_masks_1 12 rfl rfl)
theorem dX2_masks_38 : decode cX2_masks 38 = .ok (.invokevirtual 49, 3) := dk_182 0 49 (dk_at dksX2_masks_1 14 rfl rfl)
theorem dX2_masks_41 : decode cX2_masks 41 = .ok (.checkcast 53, 3) := dk_192 0 53 (dk_at dksX2_masks_1 17 rfl rfl)
theorem dX2_masks_44 : decode cX2_masks 44 = .ok (.aload_n 2, 1) := dk_44 (dk_at dksX2_masks_1 20 rfl rfl)
theorem dX2_masks_45 : decode cX2_masks 45 = .ok (.iload 5, 2) := dk_21 5 (dk_at dksX2_masks_1 21 rfl rfl)
theorem dX2_masks_47 : decode cX2_masks 47 = .ok (.invokevirtual 49, 3) := dk_182 0 49 (dk_at dksX2_masks_2 0 rfl rfl)
theorem dX2_masks_50 : decode cX2_masks 50 = .ok (.checkcast 53, 3) := dk_192 0 53 (dk_at dksX2_masks_2 3 rfl rfl)
theorem dX2_masks_53 : decode cX2_masks 53 = .ok (.bipush 15, 2) := dk_16 15 (dk_at dksX2_masks_2 6 rfl rfl)
theorem dX2_masks_55 : decode cX2_masks 55 = .ok (.invokevirtual 111, 3) := dk_182 0 111 (dk_at dksX2_masks_2 8 rfl rfl)
theorem dX2_masks_58 : decode cX2_masks 58 = .ok (.invokestatic 171, 3) := dk_184 0 171 (dk_at dksX2_masks_2 11 rfl rfl)
theorem dX2_masks_61 : decode cX2_masks 61 = .ok (.i2l, 1) := dk_133 (dk_at dksX2_masks_2 14 rfl rfl)
theorem dX2_masks_62 : decode cX2_masks 62 = .ok (.lstore 6, 2) := dk_55 6 (dk_at dksX2_masks_2 15 rfl rfl)
theorem dX2_masks_64 : decode cX2_masks 64 = .ok (.aload_n 3, 1) := dk_45 (dk_at dksX2_masks_2 17 rfl rfl)
theorem dX2_masks_65 : decode cX2_masks 65 = .ok (.iload 4, 2) := dk_21 4 (dk_at dksX2_masks_2 18 rfl rfl)
theorem dX2_masks_67 : decode cX2_masks 67 = .ok (.dup2, 1) := dk_92 (dk_at dksX2_masks_2 20 rfl rfl)
theorem dX2_masks_68 : decode cX2_masks 68 = .ok (.laload, 1) := dk_47 (dk_at dksX2_masks_2 21 rfl rfl)
theorem dX2_masks_69 : decode cX2_masks 69 = .ok (.lload 6, 2) := dk_22 6 (dk_at dksX2_masks_2 22 rfl rfl)
theorem dX2_masks_71 : decode cX2_masks 71 = .ok (.iload 5, 2) := dk_21 5 (dk_at dksX2_masks_3 0 rfl rfl)
theorem dX2_masks_73 : decode cX2_masks 73 = .ok (.lshl, 1) := dk_121 (dk_at dksX2_masks_3 2 rfl rfl)
theorem dX2_masks_74 : decode cX2_masks 74 = .ok (.lor, 1) := dk_129 (dk_at dksX2_masks_3 3 rfl rfl)
theorem dX2_masks_75 : decode cX2_masks 75 = .ok (.lastore, 1) := dk_80 (dk_at dksX2_masks_3 4 rfl rfl)
theorem dX2_masks_76 : decode cX2_masks 76 = .ok (.iinc 5 1, 3) := dk_132 5 1 (dk_at dksX2_masks_3 5 rfl rfl)
theorem dX2_masks_79 : decode cX2_masks 79 = .ok (.goto (-57), 3) := dk_167 255 199 (dk_at dksX2_masks_3 8 rfl rfl)
theorem dX2_masks_82 : decode cX2_masks 82 = .ok (.iinc 4 1, 3) := dk_132 4 1 (dk_at dksX2_masks_3 11 rfl rfl)
theorem dX2_masks_85 : decode cX2_masks 85 = .ok (.goto (-75), 3) := dk_167 255 181 (dk_at dksX2_masks_3 14 rfl rfl)
theorem dX2_masks_88 : decode cX2_masks 88 = .ok (.aload_n 3, 1) := dk_45 (dk_at dksX2_masks_3 17 rfl rfl)
theorem dX2_masks_89 : decode cX2_masks 89 = .ok (.areturn, 1) := dk_176 (dk_at dksX2_masks_3 18 rfl rfl)
abbrev cX2_ones : ByteArray := prog_8_method_39_code
def yX2_ones : MethodName := ⟨RX2, "ones", "(J)I"⟩
def dkwX2_ones_0 : List UInt8 := [3, 61, 30, 66, 33, 9, 148, 153, 0, 15, 132, 2, 1, 33, 33, 10, 101, 127, 66, 167, 255, 241, 28, 172]
abbrev dktX2_ones_0 : List UInt8 := dkwX2_ones_0 ++ []
theorem dksX2_ones_0 : cX2_ones.data.toList.drop 0 = dktX2_ones_0 := by decide +kernel
theorem dX2_ones_0 : decode cX2_ones 0 = .ok (.iconst 0, 1) := dk_3 (dk_at dksX2_ones_0 0 rfl rfl)
theorem dX2_ones_1 : decode cX2_ones 1 = .ok (.istore_n 2, 1) := dk_61 (dk_at dksX2_ones_0 1 rfl rfl)
theorem dX2_ones_2 : decode cX2_ones 2 = .ok (.lload_n 0, 1) := dk_30 (dk_at dksX2_ones_0 2 rfl rfl)
theorem dX2_ones_3 : decode cX2_ones 3 = .ok (.lstore_n 3, 1) := dk_66 (dk_at dksX2_ones_0 3 rfl rfl)
theorem dX2_ones_4 : decode cX2_ones 4 = .ok (.lload_n 3, 1) := dk_33 (dk_at dksX2_ones_0 4 rfl rfl)
theorem dX2_ones_5 : decode cX2_ones 5 = .ok (.lconst 0, 1) := dk_9 (dk_at dksX2_ones_0 5 rfl rfl)
theorem dX2_ones_6 : decode cX2_ones 6 = .ok (.lcmp, 1) := dk_148 (dk_at dksX2_ones_0 6 rfl rfl)
theorem dX2_ones_7 : decode cX2_ones 7 = .ok (.ifCond .eq 15, 3) := dk_153 0 15 (dk_at dksX2_ones_0 7 rfl rfl)
theorem dX2_ones_10 : decode cX2_ones 10 = .ok (.iinc 2 1, 3) := dk_132 2 1 (dk_at dksX2_ones_0 10 rfl rfl)
theorem dX2_ones_13 : decode cX2_ones 13 = .ok (.lload_n 3, 1) := dk_33 (dk_at dksX2_ones_0 13 rfl rfl)
theorem dX2_ones_14 : decode cX2_ones 14 = .ok (.lload_n 3, 1) := dk_33 (dk_at dksX2_ones_0 14 rfl rfl)
theorem dX2_ones_15 : decode cX2_ones 15 = .ok (.lconst 1, 1) := dk_10 (dk_at dksX2_ones_0 15 rfl rfl)
theorem dX2_ones_16 : decode cX2_ones 16 = .ok (.lsub, 1) := dk_101 (dk_at dksX2_ones_0 16 rfl rfl)
theorem dX2_ones_17 : decode cX2_ones 17 = .ok (.land, 1) := dk_127 (dk_at dksX2_ones_0 17 rfl rfl)
theorem dX2_ones_18 : decode cX2_ones 18 = .ok (.lstore_n 3, 1) := dk_66 (dk_at dksX2_ones_0 18 rfl rfl)
theorem dX2_ones_19 : decode cX2_ones 19 = .ok (.goto (-15), 3) := dk_167 255 241 (dk_at dksX2_ones_0 19 rfl rfl)
theorem dX2_ones_22 : decode cX2_ones 22 = .ok (.iload_n 2, 1) := dk_28 (dk_at dksX2_ones_0 22 rfl rfl)
theorem dX2_ones_23 : decode cX2_ones 23 = .ok (.ireturn, 1) := dk_172 (dk_at dksX2_ones_0 23 rfl rfl)
abbrev cX2_pairsBeaten : ByteArray := prog_8_method_21_code
def yX2_pairsBeaten : MethodName := ⟨RX2, "pairsBeaten", "()I"⟩
def dkwX2_pairsBeaten_1 : List UInt8 := [182, 0, 49, 192, 0, 53, 182, 0, 143, 96, 60, 132, 2, 1, 167, 255, 224, 27, 172]
abbrev dktX2_pairsBeaten_1 : List UInt8 := dkwX2_pairsBeaten_1 ++ []
def dkwX2_pairsBeaten_0 : List UInt8 := [3, 60, 3, 61, 28, 42, 180, 0, 12, 182, 0, 41, 162, 0, 27, 27, 42, 42, 180, 0, 12, 28]
abbrev dktX2_pairsBeaten_0 : List UInt8 := dkwX2_pairsBeaten_0 ++ dktX2_pairsBeaten_1
theorem dksX2_pairsBeaten_0 : cX2_pairsBeaten.data.toList.drop 0 = dktX2_pairsBeaten_0 := by decide +kernel
theorem dksX2_pairsBeaten_1 : cX2_pairsBeaten.data.toList.drop 22 = dktX2_pairsBeaten_1 := dk_seg dksX2_pairsBeaten_0 22 rfl rfl
theorem dX2_pairsBeaten_0 : decode cX2_pairsBeaten 0 = .ok (.iconst 0, 1) := dk_3 (dk_at dksX2_pairsBeaten_0 0 rfl rfl)
theorem dX2_pairsBeaten_1 : decode cX2_pairsBeaten 1 = .ok (.istore_n 1, 1) := dk_60 (dk_at dksX2_pairsBeaten_0 1 rfl rfl)
theorem dX2_pairsBeaten_2 : decode cX2_pairsBeaten 2 = .ok (.iconst 0, 1) := dk_3 (dk_at dksX2_pairsBeaten_0 2 rfl rfl)
theorem dX2_pairsBeaten_3 : decode cX2_pairsBeaten 3 = .ok (.istore_n 2, 1) := dk_61 (dk_at dksX2_pairsBeaten_0 3 rfl rfl)
theorem dX2_pairsBeaten_4 : decode cX2_pairsBeaten 4 = .ok (.iload_n 2, 1) := dk_28 (dk_at dksX2_pairsBeaten_0 4 rfl rfl)
theorem dX2_pairsBeaten_5 : decode cX2_pairsBeaten 5 = .ok (.aload_n 0, 1) := dk_42 (dk_at dksX2_pairsBeaten_0 5 rfl rfl)
theorem dX2_pairsBeaten_6 : decode cX2_pairsBeaten 6 = .ok (.getfield 12, 3) := dk_180 0 12 (dk_at dksX2_pairsBeaten_0 6 rfl rfl)
theorem dX2_pairsBeaten_9 : decode cX2_pairsBeaten 9 = .ok (.invokevirtual 41, 3) := dk_182 0 41 (dk_at dksX2_pairsBeaten_0 9 rfl rfl)
theorem dX2_pairsBeaten_12 : decode cX2_pairsBeaten 12 = .ok (.if_icmp .ge 27, 3) := dk_162 0 27 (dk_at dksX2_pairsBeaten_0 12 rfl rfl)
theorem dX2_pairsBeaten_15 : decode cX2_pairsBeaten 15 = .ok (.iload_n 1, 1) := dk_27 (dk_at dksX2_pairsBeaten_0 15 rfl rfl)
theorem dX2_pairsBeaten_16 : decode cX2_pairsBeaten 16 = .ok (.aload_n 0, 1) := dk_42 (dk_at dksX2_pairsBeaten_0 16 rfl rfl)
theorem dX2_pairsBeaten_17 : decode cX2_pairsBeaten 17 = .ok (.aload_n 0, 1) := dk_42 (dk_at dksX2_pairsBeaten_0 17 rfl rfl)
theorem dX2_pairsBeaten_18 : decode cX2_pairsBeaten 18 = .ok (.getfield 12, 3) := dk_180 0 12 (dk_at dksX2_pairsBeaten_0 18 rfl rfl)
theorem dX2_pairsBeaten_21 : decode cX2_pairsBeaten 21 = .ok (.iload_n 2, 1) := dk_28 (dk_at dksX2_pairsBeaten_0 21 rfl rfl)
theorem dX2_pairsBeaten_22 : decode cX2_pairsBeaten 22 = .ok (.invokevirtual 49, 3) := dk_182 0 49 (dk_at dksX2_pairsBeaten_1 0 rfl rfl)
theorem dX2_pairsBeaten_25 : decode cX2_pairsBeaten 25 = .ok (.checkcast 53, 3) := dk_192 0 53 (dk_at dksX2_pairsBeaten_1 3 rfl rfl)
theorem dX2_pairsBeaten_28 : decode cX2_pairsBeaten 28 = .ok (.invokevirtual 143, 3) := dk_182 0 143 (dk_at dksX2_pairsBeaten_1 6 rfl rfl)
theorem dX2_pairsBeaten_31 : decode cX2_pairsBeaten 31 = .ok (.iadd, 1) := dk_96 (dk_at dksX2_pairsBeaten_1 9 rfl rfl)
theorem dX2_pairsBeaten_32 : decode cX2_pairsBeaten 32 = .ok (.istore_n 1, 1) := dk_60 (dk_at dksX2_pairsBeaten_1 10 rfl rfl)
theorem dX2_pairsBeaten_33 : decode cX2_pairsBeaten 33 = .ok (.iinc 2 1, 3) := dk_132 2 1 (dk_at dksX2_pairsBeaten_1 11 rfl rfl)
theorem dX2_pairsBeaten_36 : decode cX2_pairsBeaten 36 = .ok (.goto (-32), 3) := dk_167 255 224 (dk_at dksX2_pairsBeaten_1 14 rfl rfl)
theorem dX2_pairsBeaten_39 : decode cX2_pairsBeaten 39 = .ok (.iload_n 1, 1) := dk_27 (dk_at dksX2_pairsBeaten_1 17 rfl rfl)
theorem dX2_pairsBeaten_40 : decode cX2_pairsBeaten 40 = .ok (.ireturn, 1) := dk_172 (dk_at dksX2_pairsBeaten_1 18 rfl rfl)
abbrev cX2_beaten : ByteArray := prog_8_method_17_code
def yX2_beaten : MethodName := ⟨RX2, "beaten", "(LOfferSky$Offer;)I"⟩
def dkwX2_beaten_1 : List UInt8 := [182, 0, 123, 172]
abbrev dktX2_beaten_1 : List UInt8 := dkwX2_beaten_1 ++ []
def dkwX2_beaten_0 : List UInt8 := [42, 180, 0, 21, 43, 182, 0, 116, 154, 0, 5, 3, 172, 42, 180, 0, 12, 42, 43, 186, 0, 125, 0, 0]
abbrev dktX2_beaten_0 : List UInt8 := dkwX2_beaten_0 ++ dktX2_beaten_1
theorem dksX2_beaten_0 : cX2_beaten.data.toList.drop 0 = dktX2_beaten_0 := by decide +kernel
theorem dksX2_beaten_1 : cX2_beaten.data.toList.drop 24 = dktX2_beaten_1 := dk_seg dksX2_beaten_0 24 rfl rfl
theorem dX2_beaten_0 : decode cX2_beaten 0 = .ok (.aload_n 0, 1) := dk_42 (dk_at dksX2_beaten_0 0 rfl rfl)
theorem dX2_beaten_1 : decode cX2_beaten 1 = .ok (.getfield 21, 3) := dk_180 0 21 (dk_at dksX2_beaten_0 1 rfl rfl)
theorem dX2_beaten_4 : decode cX2_beaten 4 = .ok (.aload_n 1, 1) := dk_43 (dk_at dksX2_beaten_0 4 rfl rfl)
theorem dX2_beaten_5 : decode cX2_beaten 5 = .ok (.invokevirtual 116, 3) := dk_182 0 116 (dk_at dksX2_beaten_0 5 rfl rfl)
theorem dX2_beaten_8 : decode cX2_beaten 8 = .ok (.ifCond .ne 5, 3) := dk_154 0 5 (dk_at dksX2_beaten_0 8 rfl rfl)
theorem dX2_beaten_11 : decode cX2_beaten 11 = .ok (.iconst 0, 1) := dk_3 (dk_at dksX2_beaten_0 11 rfl rfl)
theorem dX2_beaten_12 : decode cX2_beaten 12 = .ok (.ireturn, 1) := dk_172 (dk_at dksX2_beaten_0 12 rfl rfl)
theorem dX2_beaten_13 : decode cX2_beaten 13 = .ok (.aload_n 0, 1) := dk_42 (dk_at dksX2_beaten_0 13 rfl rfl)
theorem dX2_beaten_14 : decode cX2_beaten 14 = .ok (.getfield 12, 3) := dk_180 0 12 (dk_at dksX2_beaten_0 14 rfl rfl)
theorem dX2_beaten_17 : decode cX2_beaten 17 = .ok (.aload_n 0, 1) := dk_42 (dk_at dksX2_beaten_0 17 rfl rfl)
theorem dX2_beaten_18 : decode cX2_beaten 18 = .ok (.aload_n 1, 1) := dk_43 (dk_at dksX2_beaten_0 18 rfl rfl)
theorem dX2_beaten_19 : decode cX2_beaten 19 = .ok (.invokedynamic 125, 5) := by decide +kernel
theorem dX2_beaten_24 : decode cX2_beaten 24 = .ok (.invokevirtual 123, 3) := dk_182 0 123 (dk_at dksX2_beaten_1 0 rfl rfl)
theorem dX2_beaten_27 : decode cX2_beaten 27 = .ok (.ireturn, 1) := dk_172 (dk_at dksX2_beaten_1 3 rfl rfl)
abbrev cX2_lambda_beaten_5 : ByteArray := prog_8_method_62_code
def yX2_lambda_beaten_5 : MethodName := ⟨RX2, "lambda$beaten$5", "(LOfferSky$Offer;LOfferSky$Offer;)Z"⟩
def dkwX2_lambda_beaten_5_1 : List UInt8 := [153, 0, 7, 4, 167, 0, 4, 3, 172]
abbrev dktX2_lambda_beaten_5_1 : List UInt8 := dkwX2_lambda_beaten_5_1 ++ []
def dkwX2_lambda_beaten_5_0 : List UInt8 := [42, 180, 0, 21, 44, 182, 0, 116, 153, 0, 21, 42, 180, 0, 21, 43, 44, 16, 15, 182, 0, 111]
abbrev dktX2_lambda_beaten_5_0 : List UInt8 := dkwX2_lambda_beaten_5_0 ++ dktX2_lambda_beaten_5_1
theorem dksX2_lambda_beaten_5_0 : cX2_lambda_beaten_5.data.toList.drop 0 = dktX2_lambda_beaten_5_0 := by decide +kernel
theorem dksX2_lambda_beaten_5_1 : cX2_lambda_beaten_5.data.toList.drop 22 = dktX2_lambda_beaten_5_1 := dk_seg dksX2_lambda_beaten_5_0 22 rfl rfl
theorem dX2_lambda_beaten_5_0 : decode cX2_lambda_beaten_5 0 = .ok (.aload_n 0, 1) := dk_42 (dk_at dksX2_lambda_beaten_5_0 0 rfl rfl)
theorem dX2_lambda_beaten_5_1 : decode cX2_lambda_beaten_5 1 = .ok (.getfield 21, 3) := dk_180 0 21 (dk_at dksX2_lambda_beaten_5_0 1 rfl rfl)
theorem dX2_lambda_beaten_5_4 : decode cX2_lambda_beaten_5 4 = .ok (.aload_n 2, 1) := dk_44 (dk_at dksX2_lambda_beaten_5_0 4 rfl rfl)
theorem dX2_lambda_beaten_5_5 : decode cX2_lambda_beaten_5 5 = .ok (.invokevirtual 116, 3) := dk_182 0 116 (dk_at dksX2_lambda_beaten_5_0 5 rfl rfl)
theorem dX2_lambda_beaten_5_8 : decode cX2_lambda_beaten_5 8 = .ok (.ifCond .eq 21, 3) := dk_153 0 21 (dk_at dksX2_lambda_beaten_5_0 8 rfl rfl)
theorem dX2_lambda_beaten_5_11 : decode cX2_lambda_beaten_5 11 = .ok (.aload_n 0, 1) := dk_42 (dk_at dksX2_lambda_beaten_5_0 11 rfl rfl)
theorem dX2_lambda_beaten_5_12 : decode cX2_lambda_beaten_5 12 = .ok (.getfield 21, 3) := dk_180 0 21 (dk_at dksX2_lambda_beaten_5_0 12 rfl rfl)
theorem dX2_lambda_beaten_5_15 : decode cX2_lambda_beaten_5 15 = .ok (.aload_n 1, 1) := dk_43 (dk_at dksX2_lambda_beaten_5_0 15 rfl rfl)
theorem dX2_lambda_beaten_5_16 : decode cX2_lambda_beaten_5 16 = .ok (.aload_n 2, 1) := dk_44 (dk_at dksX2_lambda_beaten_5_0 16 rfl rfl)
theorem dX2_lambda_beaten_5_17 : decode cX2_lambda_beaten_5 17 = .ok (.bipush 15, 2) := dk_16 15 (dk_at dksX2_lambda_beaten_5_0 17 rfl rfl)
theorem dX2_lambda_beaten_5_19 : decode cX2_lambda_beaten_5 19 = .ok (.invokevirtual 111, 3) := dk_182 0 111 (dk_at dksX2_lambda_beaten_5_0 19 rfl rfl)
theorem dX2_lambda_beaten_5_22 : decode cX2_lambda_beaten_5 22 = .ok (.ifCond .eq 7, 3) := dk_153 0 7 (dk_at dksX2_lambda_beaten_5_1 0 rfl rfl)
theorem dX2_lambda_beaten_5_25 : decode cX2_lambda_beaten_5 25 = .ok (.iconst 1, 1) := dk_4 (dk_at dksX2_lambda_beaten_5_1 3 rfl rfl)
theorem dX2_lambda_beaten_5_26 : decode cX2_lambda_beaten_5 26 = .ok (.goto 4, 3) := dk_167 0 4 (dk_at dksX2_lambda_beaten_5_1 4 rfl rfl)
theorem dX2_lambda_beaten_5_29 : decode cX2_lambda_beaten_5 29 = .ok (.iconst 0, 1) := dk_3 (dk_at dksX2_lambda_beaten_5_1 7 rfl rfl)
theorem dX2_lambda_beaten_5_30 : decode cX2_lambda_beaten_5 30 = .ok (.ireturn, 1) := dk_172 (dk_at dksX2_lambda_beaten_5_1 8 rfl rfl)
abbrev cX2_share : ByteArray := prog_8_method_51_code
def yX2_share : MethodName := ⟨RX2, "share", "()D"⟩
def dkwX2_share_1 : List UInt8 := [182, 0, 41, 135, 27, 135, 111, 175]
abbrev dktX2_share_1 : List UInt8 := dkwX2_share_1 ++ []
def dkwX2_share_0 : List UInt8 := [42, 182, 0, 80, 182, 0, 41, 60, 27, 154, 0, 7, 14, 167, 0, 18, 42, 42, 182, 0, 80, 182, 0, 83]
abbrev dktX2_share_0 : List UInt8 := dkwX2_share_0 ++ dktX2_share_1
theorem dksX2_share_0 : cX2_share.data.toList.drop 0 = dktX2_share_0 := by decide +kernel
theorem dksX2_share_1 : cX2_share.data.toList.drop 24 = dktX2_share_1 := dk_seg dksX2_share_0 24 rfl rfl
theorem dX2_share_0 : decode cX2_share 0 = .ok (.aload_n 0, 1) := dk_42 (dk_at dksX2_share_0 0 rfl rfl)
theorem dX2_share_1 : decode cX2_share 1 = .ok (.invokevirtual 80, 3) := dk_182 0 80 (dk_at dksX2_share_0 1 rfl rfl)
theorem dX2_share_4 : decode cX2_share 4 = .ok (.invokevirtual 41, 3) := dk_182 0 41 (dk_at dksX2_share_0 4 rfl rfl)
theorem dX2_share_7 : decode cX2_share 7 = .ok (.istore_n 1, 1) := dk_60 (dk_at dksX2_share_0 7 rfl rfl)
theorem dX2_share_8 : decode cX2_share 8 = .ok (.iload_n 1, 1) := dk_27 (dk_at dksX2_share_0 8 rfl rfl)
theorem dX2_share_9 : decode cX2_share 9 = .ok (.ifCond .ne 7, 3) := dk_154 0 7 (dk_at dksX2_share_0 9 rfl rfl)
theorem dX2_share_12 : decode cX2_share 12 = .ok (.dconst 0, 1) := dk_14 (dk_at dksX2_share_0 12 rfl rfl)
theorem dX2_share_13 : decode cX2_share 13 = .ok (.goto 18, 3) := dk_167 0 18 (dk_at dksX2_share_0 13 rfl rfl)
theorem dX2_share_16 : decode cX2_share 16 = .ok (.aload_n 0, 1) := dk_42 (dk_at dksX2_share_0 16 rfl rfl)
theorem dX2_share_17 : decode cX2_share 17 = .ok (.aload_n 0, 1) := dk_42 (dk_at dksX2_share_0 17 rfl rfl)
theorem dX2_share_18 : decode cX2_share 18 = .ok (.invokevirtual 80, 3) := dk_182 0 80 (dk_at dksX2_share_0 18 rfl rfl)
theorem dX2_share_21 : decode cX2_share 21 = .ok (.invokevirtual 83, 3) := dk_182 0 83 (dk_at dksX2_share_0 21 rfl rfl)
theorem dX2_share_24 : decode cX2_share 24 = .ok (.invokevirtual 41, 3) := dk_182 0 41 (dk_at dksX2_share_1 0 rfl rfl)
theorem dX2_share_27 : decode cX2_share 27 = .ok (.i2d, 1) := dk_135 (dk_at dksX2_share_1 3 rfl rfl)
theorem dX2_share_28 : decode cX2_share 28 = .ok (.iload_n 1, 1) := dk_27 (dk_at dksX2_share_1 4 rfl rfl)
theorem dX2_share_29 : decode cX2_share 29 = .ok (.i2d, 1) := dk_135 (dk_at dksX2_share_1 5 rfl rfl)
theorem dX2_share_30 : decode cX2_share 30 = .ok (.ddiv, 1) := dk_111 (dk_at dksX2_share_1 6 rfl rfl)
theorem dX2_share_31 : decode cX2_share 31 = .ok (.dreturn, 1) := dk_175 (dk_at dksX2_share_1 7 rfl rfl)
abbrev cX2_window : ByteArray := prog_8_method_19_code
def yX2_window : MethodName := ⟨RX2, "window", "()LOfferSky$Bag;"⟩
def dkwX2_window_3 : List UInt8 := [182, 0, 55, 132, 2, 1, 167, 255, 190, 43, 176]
abbrev dktX2_window_3 : List UInt8 := dkwX2_window_3 ++ []
def dkwX2_window_2 : List UInt8 := [43, 16, 15, 182, 0, 130, 154, 0, 21, 43, 42, 45, 186, 0, 134, 0, 0, 182, 0, 91, 54, 4, 43, 45]
abbrev dktX2_window_2 : List UInt8 := dkwX2_window_2 ++ dktX2_window_3
def dkwX2_window_1 : List UInt8 := [180, 0, 12, 28, 182, 0, 49, 192, 0, 53, 78, 42, 180, 0, 21, 45, 182, 0, 116, 153, 0, 32, 42, 45]
abbrev dktX2_window_1 : List UInt8 := dkwX2_window_1 ++ dktX2_window_2
def dkwX2_window_0 : List UInt8 := [187, 0, 9, 89, 183, 0, 11, 76, 3, 61, 28, 42, 180, 0, 12, 182, 0, 41, 162, 0, 61, 42]
abbrev dktX2_window_0 : List UInt8 := dkwX2_window_0 ++ dktX2_window_1
theorem dksX2_window_0 : cX2_window.data.toList.drop 0 = dktX2_window_0 := by decide +kernel
theorem dksX2_window_1 : cX2_window.data.toList.drop 22 = dktX2_window_1 := dk_seg dksX2_window_0 22 rfl rfl
theorem dksX2_window_2 : cX2_window.data.toList.drop 46 = dktX2_window_2 := dk_seg dksX2_window_1 24 rfl rfl
theorem dksX2_window_3 : cX2_window.data.toList.drop 70 = dktX2_window_3 := dk_seg dksX2_window_2 24 rfl rfl
theorem dX2_window_0 : decode cX2_window 0 = .ok (.new 9, 3) := dk_187 0 9 (dk_at dksX2_window_0 0 rfl rfl)
theorem dX2_window_3 : decode cX2_window 3 = .ok (.dup, 1) := dk_89 (dk_at dksX2_window_0 3 rfl rfl)
theorem dX2_window_4 : decode cX2_window 4 = .ok (.invokespecial 11, 3) := dk_183 0 11 (dk_at dksX2_window_0 4 rfl rfl)
theorem dX2_window_7 : decode cX2_window 7 = .ok (.astore_n 1, 1) := dk_76 (dk_at dksX2_window_0 7 rfl rfl)
theorem dX2_window_8 : decode cX2_window 8 = .ok (.iconst 0, 1) := dk_3 (dk_at dksX2_window_0 8 rfl rfl)
theorem dX2_window_9 : decode cX2_window 9 = .ok (.istore_n 2, 1) := dk_61 (dk_at dksX2_window_0 9 rfl rfl)
theorem dX2_window_10 : decode cX2_window 10 = .ok (.iload_n 2, 1) := dk_28 (dk_at dksX2_window_0 10 rfl rfl)
theorem dX2_window_11 : decode cX2_window 11 = .ok (.aload_n 0, 1) := dk_42 (dk_at dksX2_window_0 11 rfl rfl)
theorem dX2_window_12 : decode cX2_window 12 = .ok (.getfield 12, 3) := dk_180 0 12 (dk_at dksX2_window_0 12 rfl rfl)
theorem dX2_window_15 : decode cX2_window 15 = .ok (.invokevirtual 41, 3) := dk_182 0 41 (dk_at dksX2_window_0 15 rfl rfl)
theorem dX2_window_18 : decode cX2_window 18 = .ok (.if_icmp .ge 61, 3) := dk_162 0 61 (dk_at dksX2_window_0 18 rfl rfl)
theorem dX2_window_21 : decode cX2_window 21 = .ok (.aload_n 0, 1) := dk_42 (dk_at dksX2_window_0 21 rfl rfl)
theorem dX2_window_22 : decode cX2_window 22 = .ok (.getfield 12, 3) := dk_180 0 12 (dk_at dksX2_window_1 0 rfl rfl)
theorem dX2_window_25 : decode cX2_window 25 = .ok (.iload_n 2, 1) := dk_28 (dk_at dksX2_window_1 3 rfl rfl)
theorem dX2_window_26 : decode cX2_window 26 = .ok (.invokevirtual 49, 3) := dk_182 0 49 (dk_at dksX2_window_1 4 rfl rfl)
theorem dX2_window_29 : decode cX2_window 29 = .ok (.checkcast 53, 3) := dk_192 0 53 (dk_at dksX2_window_1 7 rfl rfl)
theorem dX2_window_32 : decode cX2_window 32 = .ok (.astore_n 3, 1) := dk_78 (dk_at dksX2_window_1 10 rfl rfl)
theorem dX2_window_33 : decode cX2_window 33 = .ok (.aload_n 0, 1) := dk_42 (dk_at dksX2_window_1 11 rfl rfl)
theorem dX2_window_34 : decode cX2_window 34 = .ok (.getfield 21, 3) := dk_180 0 21 (dk_at dksX2_window_1 12 rfl rfl)
theorem dX2_window_37 : decode cX2_window 37 = .ok (.aload_n 3, 1) := dk_45 (dk_at dksX2_window_1 15 rfl rfl)
theorem dX2_window_38 : decode cX2_window 38 = .ok (.invokevirtual 116, 3) := dk_182 0 116 (dk_at dksX2_window_1 16 rfl rfl)
theorem dX2_window_41 : decode cX2_window 41 = .ok (.ifCond .eq 32, 3) := dk_153 0 32 (dk_at dksX2_window_1 19 rfl rfl)
theorem dX2_window_44 : decode cX2_window 44 = .ok (.aload_n 0, 1) := dk_42 (dk_at dksX2_window_1 22 rfl rfl)
theorem dX2_window_45 : decode cX2_window 45 = .ok (.aload_n 3, 1) := dk_45 (dk_at dksX2_window_1 23 rfl rfl)
theorem dX2_window_46 : decode cX2_window 46 = .ok (.aload_n 1, 1) := dk_43 (dk_at dksX2_window_2 0 rfl rfl)
theorem dX2_window_47 : decode cX2_window 47 = .ok (.bipush 15, 2) := dk_16 15 (dk_at dksX2_window_2 1 rfl rfl)
theorem dX2_window_49 : decode cX2_window 49 = .ok (.invokevirtual 130, 3) := dk_182 0 130 (dk_at dksX2_window_2 3 rfl rfl)
theorem dX2_window_52 : decode cX2_window 52 = .ok (.ifCond .ne 21, 3) := dk_154 0 21 (dk_at dksX2_window_2 6 rfl rfl)
theorem dX2_window_55 : decode cX2_window 55 = .ok (.aload_n 1, 1) := dk_43 (dk_at dksX2_window_2 9 rfl rfl)
theorem dX2_window_56 : decode cX2_window 56 = .ok (.aload_n 0, 1) := dk_42 (dk_at dksX2_window_2 10 rfl rfl)
theorem dX2_window_57 : decode cX2_window 57 = .ok (.aload_n 3, 1) := dk_45 (dk_at dksX2_window_2 11 rfl rfl)
theorem dX2_window_58 : decode cX2_window 58 = .ok (.invokedynamic 134, 5) := by decide +kernel
theorem dX2_window_63 : decode cX2_window 63 = .ok (.invokevirtual 91, 3) := dk_182 0 91 (dk_at dksX2_window_2 17 rfl rfl)
theorem dX2_window_66 : decode cX2_window 66 = .ok (.istore 4, 2) := dk_54 4 (dk_at dksX2_window_2 20 rfl rfl)
theorem dX2_window_68 : decode cX2_window 68 = .ok (.aload_n 1, 1) := dk_43 (dk_at dksX2_window_2 22 rfl rfl)
theorem dX2_window_69 : decode cX2_window 69 = .ok (.aload_n 3, 1) := dk_45 (dk_at dksX2_window_2 23 rfl rfl)
theorem dX2_window_70 : decode cX2_window 70 = .ok (.invokevirtual 55, 3) := dk_182 0 55 (dk_at dksX2_window_3 0 rfl rfl)
theorem dX2_window_73 : decode cX2_window 73 = .ok (.iinc 2 1, 3) := dk_132 2 1 (dk_at dksX2_window_3 3 rfl rfl)
theorem dX2_window_76 : decode cX2_window 76 = .ok (.goto (-66), 3) := dk_167 255 190 (dk_at dksX2_window_3 6 rfl rfl)
theorem dX2_window_79 : decode cX2_window 79 = .ok (.aload_n 1, 1) := dk_43 (dk_at dksX2_window_3 9 rfl rfl)
theorem dX2_window_80 : decode cX2_window 80 = .ok (.areturn, 1) := dk_176 (dk_at dksX2_window_3 10 rfl rfl)
abbrev cX2_lambda_window_6 : ByteArray := prog_8_method_61_code
def yX2_lambda_window_6 : MethodName := ⟨RX2, "lambda$window$6", "(LOfferSky$Offer;LOfferSky$Offer;)Z"⟩
def dkwX2_lambda_window_6_0 : List UInt8 := [42, 180, 0, 21, 43, 44, 16, 15, 182, 0, 111, 172]
abbrev dktX2_lambda_window_6_0 : List UInt8 := dkwX2_lambda_window_6_0 ++ []
theorem dksX2_lambda_window_6_0 : cX2_lambda_window_6.data.toList.drop 0 = dktX2_lambda_window_6_0 := by decide +kernel
theorem dX2_lambda_window_6_0 : decode cX2_lambda_window_6 0 = .ok (.aload_n 0, 1) := dk_42 (dk_at dksX2_lambda_window_6_0 0 rfl rfl)
theorem dX2_lambda_window_6_1 : decode cX2_lambda_window_6 1 = .ok (.getfield 21, 3) := dk_180 0 21 (dk_at dksX2_lambda_window_6_0 1 rfl rfl)
theorem dX2_lambda_window_6_4 : decode cX2_lambda_window_6 4 = .ok (.aload_n 1, 1) := dk_43 (dk_at dksX2_lambda_window_6_0 4 rfl rfl)
theorem dX2_lambda_window_6_5 : decode cX2_lambda_window_6 5 = .ok (.aload_n 2, 1) := dk_44 (dk_at dksX2_lambda_window_6_0 5 rfl rfl)
theorem dX2_lambda_window_6_6 : decode cX2_lambda_window_6 6 = .ok (.bipush 15, 2) := dk_16 15 (dk_at dksX2_lambda_window_6_0 6 rfl rfl)
theorem dX2_lambda_window_6_8 : decode cX2_lambda_window_6 8 = .ok (.invokevirtual 111, 3) := dk_182 0 111 (dk_at dksX2_lambda_window_6_0 8 rfl rfl)
theorem dX2_lambda_window_6_11 : decode cX2_lambda_window_6 11 = .ok (.ireturn, 1) := dk_172 (dk_at dksX2_lambda_window_6_0 11 rfl rfl)
abbrev cX2_rowsByBeating : ByteArray := prog_8_method_24_code
def yX2_rowsByBeating : MethodName := ⟨RX2, "rowsByBeating", "()[I"⟩
def dkwX2_rowsByBeating_3 : List UInt8 := [167, 0, 4, 3, 128, 61, 43, 29, 21, 4, 79, 132, 3, 1, 167, 255, 194, 167, 255, 183, 43, 176]
abbrev dktX2_rowsByBeating_3 : List UInt8 := dkwX2_rowsByBeating_3 ++ []
def dkwX2_rowsByBeating_2 : List UInt8 := [42, 29, 43, 182, 0, 161, 167, 0, 4, 3, 54, 4, 28, 21, 4, 43, 29, 46, 159, 0, 7, 4]
abbrev dktX2_rowsByBeating_2 : List UInt8 := dkwX2_rowsByBeating_2 ++ dktX2_rowsByBeating_3
def dkwX2_rowsByBeating_1 : List UInt8 := [180, 0, 12, 182, 0, 41, 162, 0, 57, 42, 180, 0, 21, 42, 29, 182, 0, 152, 182, 0, 116, 153, 0, 12]
abbrev dktX2_rowsByBeating_1 : List UInt8 := dkwX2_rowsByBeating_1 ++ dktX2_rowsByBeating_2
def dkwX2_rowsByBeating_0 : List UInt8 := [42, 180, 0, 12, 182, 0, 41, 188, 10, 76, 4, 61, 28, 153, 0, 75, 3, 61, 3, 62, 29, 42]
abbrev dktX2_rowsByBeating_0 : List UInt8 := dkwX2_rowsByBeating_0 ++ dktX2_rowsByBeating_1
theorem dksX2_rowsByBeating_0 : cX2_rowsByBeating.data.toList.drop 0 = dktX2_rowsByBeating_0 := by decide +kernel
theorem dksX2_rowsByBeating_1 : cX2_rowsByBeating.data.toList.drop 22 = dktX2_rowsByBeating_1 := dk_seg dksX2_rowsByBeating_0 22 rfl rfl
theorem dksX2_rowsByBeating_2 : cX2_rowsByBeating.data.toList.drop 46 = dktX2_rowsByBeating_2 := dk_seg dksX2_rowsByBeating_1 24 rfl rfl
theorem dksX2_rowsByBeating_3 : cX2_rowsByBeating.data.toList.drop 68 = dktX2_rowsByBeating_3 := dk_seg dksX2_rowsByBeating_2 22 rfl rfl
theorem dX2_rowsByBeating_0 : decode cX2_rowsByBeating 0 = .ok (.aload_n 0, 1) := dk_42 (dk_at dksX2_rowsByBeating_0 0 rfl rfl)
theorem dX2_rowsByBeating_1 : decode cX2_rowsByBeating 1 = .ok (.getfield 12, 3) := dk_180 0 12 (dk_at dksX2_rowsByBeating_0 1 rfl rfl)
theorem dX2_rowsByBeating_4 : decode cX2_rowsByBeating 4 = .ok (.invokevirtual 41, 3) := dk_182 0 41 (dk_at dksX2_rowsByBeating_0 4 rfl rfl)
theorem dX2_rowsByBeating_7 : decode cX2_rowsByBeating 7 = .ok (.newarray .int, 2) := dk_188_10 (dk_at dksX2_rowsByBeating_0 7 rfl rfl)
theorem dX2_rowsByBeating_9 : decode cX2_rowsByBeating 9 = .ok (.astore_n 1, 1) := dk_76 (dk_at dksX2_rowsByBeating_0 9 rfl rfl)
theorem dX2_rowsByBeating_10 : decode cX2_rowsByBeating 10 = .ok (.iconst 1, 1) := dk_4 (dk_at dksX2_rowsByBeating_0 10 rfl rfl)
theorem dX2_rowsByBeating_11 : decode cX2_rowsByBeating 11 = .ok (.istore_n 2, 1) := dk_61 (dk_at dksX2_rowsByBeating_0 11 rfl rfl)
theorem dX2_rowsByBeating_12 : decode cX2_rowsByBeating 12 = .ok (.iload_n 2, 1) := dk_28 (dk_at dksX2_rowsByBeating_0 12 rfl rfl)
theorem dX2_rowsByBeating_13 : decode cX2_rowsByBeating 13 = .ok (.ifCond .eq 75, 3) := dk_153 0 75 (dk_at dksX2_rowsByBeating_0 13 rfl rfl)
theorem dX2_rowsByBeating_16 : decode cX2_rowsByBeating 16 = .ok (.iconst 0, 1) := dk_3 (dk_at dksX2_rowsByBeating_0 16 rfl rfl)
theorem dX2_rowsByBeating_17 : decode cX2_rowsByBeating 17 = .ok (.istore_n 2, 1) := dk_61 (dk_at dksX2_rowsByBeating_0 17 rfl rfl)
theorem dX2_rowsByBeating_18 : decode cX2_rowsByBeating 18 = .ok (.iconst 0, 1) := dk_3 (dk_at dksX2_rowsByBeating_0 18 rfl rfl)
theorem dX2_rowsByBeating_19 : decode cX2_rowsByBeating 19 = .ok (.istore_n 3, 1) := dk_62 (dk_at dksX2_rowsByBeating_0 19 rfl rfl)
theorem dX2_rowsByBeating_20 : decode cX2_rowsByBeating 20 = .ok (.iload_n 3, 1) := dk_29 (dk_at dksX2_rowsByBeating_0 20 rfl rfl)
theorem dX2_rowsByBeating_21 : decode cX2_rowsByBeating 21 = .ok (.aload_n 0, 1) := dk_42 (dk_at dksX2_rowsByBeating_0 21 rfl rfl)
theorem dX2_rowsByBeating_22 : decode cX2_rowsByBeating 22 = .ok (.getfield 12, 3) := dk_180 0 12 (dk_at dksX2_rowsByBeating_1 0 rfl rfl)
theorem dX2_rowsByBeating_25 : decode cX2_rowsByBeating 25 = .ok (.invokevirtual 41, 3) := dk_182 0 41 (dk_at dksX2_rowsByBeating_1 3 rfl rfl)
theorem dX2_rowsByBeating_28 : decode cX2_rowsByBeating 28 = .ok (.if_icmp .ge 57, 3) := dk_162 0 57 (dk_at dksX2_rowsByBeating_1 6 rfl rfl)
theorem dX2_rowsByBeating_31 : decode cX2_rowsByBeating 31 = .ok (.aload_n 0, 1) := dk_42 (dk_at dksX2_rowsByBeating_1 9 rfl rfl)
theorem dX2_rowsByBeating_32 : decode cX2_rowsByBeating 32 = .ok (.getfield 21, 3) := dk_180 0 21 (dk_at dksX2_rowsByBeating_1 10 rfl rfl)
theorem dX2_rowsByBeating_35 : decode cX2_rowsByBeating 35 = .ok (.aload_n 0, 1) := dk_42 (dk_at dksX2_rowsByBeating_1 13 rfl rfl)
theorem dX2_rowsByBeating_36 : decode cX2_rowsByBeating 36 = .ok (.iload_n 3, 1) := dk_29 (dk_at dksX2_rowsByBeating_1 14 rfl rfl)
theorem dX2_rowsByBeating_37 : decode cX2_rowsByBeating 37 = .ok (.invokevirtual 152, 3) := dk_182 0 152 (dk_at dksX2_rowsByBeating_1 15 rfl rfl)
theorem dX2_rowsByBeating_40 : decode cX2_rowsByBeating 40 = .ok (.invokevirtual 116, 3) := dk_182 0 116 (dk_at dksX2_rowsByBeating_1 18 rfl rfl)
theorem dX2_rowsByBeating_43 : decode cX2_rowsByBeating 43 = .ok (.ifCond .eq 12, 3) := dk_153 0 12 (dk_at dksX2_rowsByBeating_1 21 rfl rfl)
theorem dX2_rowsByBeating_46 : decode cX2_rowsByBeating 46 = .ok (.aload_n 0, 1) := dk_42 (dk_at dksX2_rowsByBeating_2 0 rfl rfl)
theorem dX2_rowsByBeating_47 : decode cX2_rowsByBeating 47 = .ok (.iload_n 3, 1) := dk_29 (dk_at dksX2_rowsByBeating_2 1 rfl rfl)
theorem dX2_rowsByBeating_48 : decode cX2_rowsByBeating 48 = .ok (.aload_n 1, 1) := dk_43 (dk_at dksX2_rowsByBeating_2 2 rfl rfl)
theorem dX2_rowsByBeating_49 : decode cX2_rowsByBeating 49 = .ok (.invokevirtual 161, 3) := dk_182 0 161 (dk_at dksX2_rowsByBeating_2 3 rfl rfl)
theorem dX2_rowsByBeating_52 : decode cX2_rowsByBeating 52 = .ok (.goto 4, 3) := dk_167 0 4 (dk_at dksX2_rowsByBeating_2 6 rfl rfl)
theorem dX2_rowsByBeating_55 : decode cX2_rowsByBeating 55 = .ok (.iconst 0, 1) := dk_3 (dk_at dksX2_rowsByBeating_2 9 rfl rfl)
theorem dX2_rowsByBeating_56 : decode cX2_rowsByBeating 56 = .ok (.istore 4, 2) := dk_54 4 (dk_at dksX2_rowsByBeating_2 10 rfl rfl)
theorem dX2_rowsByBeating_58 : decode cX2_rowsByBeating 58 = .ok (.iload_n 2, 1) := dk_28 (dk_at dksX2_rowsByBeating_2 12 rfl rfl)
theorem dX2_rowsByBeating_59 : decode cX2_rowsByBeating 59 = .ok (.iload 4, 2) := dk_21 4 (dk_at dksX2_rowsByBeating_2 13 rfl rfl)
theorem dX2_rowsByBeating_61 : decode cX2_rowsByBeating 61 = .ok (.aload_n 1, 1) := dk_43 (dk_at dksX2_rowsByBeating_2 15 rfl rfl)
theorem dX2_rowsByBeating_62 : decode cX2_rowsByBeating 62 = .ok (.iload_n 3, 1) := dk_29 (dk_at dksX2_rowsByBeating_2 16 rfl rfl)
theorem dX2_rowsByBeating_63 : decode cX2_rowsByBeating 63 = .ok (.iaload, 1) := dk_46 (dk_at dksX2_rowsByBeating_2 17 rfl rfl)
theorem dX2_rowsByBeating_64 : decode cX2_rowsByBeating 64 = .ok (.if_icmp .eq 7, 3) := dk_159 0 7 (dk_at dksX2_rowsByBeating_2 18 rfl rfl)
theorem dX2_rowsByBeating_67 : decode cX2_rowsByBeating 67 = .ok (.iconst 1, 1) := dk_4 (dk_at dksX2_rowsByBeating_2 21 rfl rfl)
theorem dX2_rowsByBeating_68 : decode cX2_rowsByBeating 68 = .ok (.goto 4, 3) := dk_167 0 4 (dk_at dksX2_rowsByBeating_3 0 rfl rfl)
theorem dX2_rowsByBeating_71 : decode cX2_rowsByBeating 71 = .ok (.iconst 0, 1) := dk_3 (dk_at dksX2_rowsByBeating_3 3 rfl rfl)
theorem dX2_rowsByBeating_72 : decode cX2_rowsByBeating 72 = .ok (.ior, 1) := dk_128 (dk_at dksX2_rowsByBeating_3 4 rfl rfl)
theorem dX2_rowsByBeating_73 : decode cX2_rowsByBeating 73 = .ok (.istore_n 2, 1) := dk_61 (dk_at dksX2_rowsByBeating_3 5 rfl rfl)
theorem dX2_rowsByBeating_74 : decode cX2_rowsByBeating 74 = .ok (.aload_n 1, 1) := dk_43 (dk_at dksX2_rowsByBeating_3 6 rfl rfl)
theorem dX2_rowsByBeating_75 : decode cX2_rowsByBeating 75 = .ok (.iload_n 3, 1) := dk_29 (dk_at dksX2_rowsByBeating_3 7 rfl rfl)
theorem dX2_rowsByBeating_76 : decode cX2_rowsByBeating 76 = .ok (.iload 4, 2) := dk_21 4 (dk_at dksX2_rowsByBeating_3 8 rfl rfl)
theorem dX2_rowsByBeating_78 : decode cX2_rowsByBeating 78 = .ok (.iastore, 1) := dk_79 (dk_at dksX2_rowsByBeating_3 10 rfl rfl)
theorem dX2_rowsByBeating_79 : decode cX2_rowsByBeating 79 = .ok (.iinc 3 1, 3) := dk_132 3 1 (dk_at dksX2_rowsByBeating_3 11 rfl rfl)
theorem dX2_rowsByBeating_82 : decode cX2_rowsByBeating 82 = .ok (.goto (-62), 3) := dk_167 255 194 (dk_at dksX2_rowsByBeating_3 14 rfl rfl)
theorem dX2_rowsByBeating_85 : decode cX2_rowsByBeating 85 = .ok (.goto (-73), 3) := dk_167 255 183 (dk_at dksX2_rowsByBeating_3 17 rfl rfl)
theorem dX2_rowsByBeating_88 : decode cX2_rowsByBeating 88 = .ok (.aload_n 1, 1) := dk_43 (dk_at dksX2_rowsByBeating_3 20 rfl rfl)
theorem dX2_rowsByBeating_89 : decode cX2_rowsByBeating 89 = .ok (.areturn, 1) := dk_176 (dk_at dksX2_rowsByBeating_3 21 rfl rfl)
abbrev cX2_get : ByteArray := prog_8_method_4_code
def yX2_get : MethodName := ⟨RX2, "get", "(I)LOfferSky$Offer;"⟩
def dkwX2_get_0 : List UInt8 := [42, 180, 0, 12, 27, 182, 0, 49, 192, 0, 53, 176]
abbrev dktX2_get_0 : List UInt8 := dkwX2_get_0 ++ []
theorem dksX2_get_0 : cX2_get.data.toList.drop 0 = dktX2_get_0 := by decide +kernel
theorem dX2_get_0 : decode cX2_get 0 = .ok (.aload_n 0, 1) := dk_42 (dk_at dksX2_get_0 0 rfl rfl)
theorem dX2_get_1 : decode cX2_get 1 = .ok (.getfield 12, 3) := dk_180 0 12 (dk_at dksX2_get_0 1 rfl rfl)
theorem dX2_get_4 : decode cX2_get 4 = .ok (.iload_n 1, 1) := dk_27 (dk_at dksX2_get_0 4 rfl rfl)
theorem dX2_get_5 : decode cX2_get 5 = .ok (.invokevirtual 49, 3) := dk_182 0 49 (dk_at dksX2_get_0 5 rfl rfl)
theorem dX2_get_8 : decode cX2_get 8 = .ok (.checkcast 53, 3) := dk_192 0 53 (dk_at dksX2_get_0 8 rfl rfl)
theorem dX2_get_11 : decode cX2_get 11 = .ok (.areturn, 1) := dk_176 (dk_at dksX2_get_0 11 rfl rfl)
abbrev cX2_rowTo : ByteArray := prog_8_method_23_code
def yX2_rowTo : MethodName := ⟨RX2, "rowTo", "(I[I)I"⟩
def dkwX2_rowTo_3 : List UInt8 := [46, 184, 0, 155, 167, 0, 4, 29, 62, 132, 4, 1, 167, 255, 177, 29, 4, 96, 172]
abbrev dktX2_rowTo_3 : List UInt8 := dkwX2_rowTo_3 ++ []
def dkwX2_rowTo_2 : List UInt8 := [16, 15, 182, 0, 111, 153, 0, 7, 4, 167, 0, 4, 3, 54, 5, 21, 5, 153, 0, 14, 29, 44, 21, 4]
abbrev dktX2_rowTo_2 : List UInt8 := dkwX2_rowTo_2 ++ dktX2_rowTo_3
def dkwX2_rowTo_1 : List UInt8 := [182, 0, 152, 182, 0, 116, 153, 0, 30, 42, 180, 0, 21, 42, 21, 4, 182, 0, 152, 42, 27, 182, 0, 152]
abbrev dktX2_rowTo_1 : List UInt8 := dkwX2_rowTo_1 ++ dktX2_rowTo_2
def dkwX2_rowTo_0 : List UInt8 := [3, 62, 3, 54, 4, 21, 4, 42, 180, 0, 12, 182, 0, 41, 162, 0, 73, 42, 180, 0, 21, 42, 21, 4]
abbrev dktX2_rowTo_0 : List UInt8 := dkwX2_rowTo_0 ++ dktX2_rowTo_1
theorem dksX2_rowTo_0 : cX2_rowTo.data.toList.drop 0 = dktX2_rowTo_0 := by decide +kernel
theorem dksX2_rowTo_1 : cX2_rowTo.data.toList.drop 24 = dktX2_rowTo_1 := dk_seg dksX2_rowTo_0 24 rfl rfl
theorem dksX2_rowTo_2 : cX2_rowTo.data.toList.drop 48 = dktX2_rowTo_2 := dk_seg dksX2_rowTo_1 24 rfl rfl
theorem dksX2_rowTo_3 : cX2_rowTo.data.toList.drop 72 = dktX2_rowTo_3 := dk_seg dksX2_rowTo_2 24 rfl rfl
theorem dX2_rowTo_0 : decode cX2_rowTo 0 = .ok (.iconst 0, 1) := dk_3 (dk_at dksX2_rowTo_0 0 rfl rfl)
theorem dX2_rowTo_1 : decode cX2_rowTo 1 = .ok (.istore_n 3, 1) := dk_62 (dk_at dksX2_rowTo_0 1 rfl rfl)
theorem dX2_rowTo_2 : decode cX2_rowTo 2 = .ok (.iconst 0, 1) := dk_3 (dk_at dksX2_rowTo_0 2 rfl rfl)
theorem dX2_rowTo_3 : decode cX2_rowTo 3 = .ok (.istore 4, 2) := dk_54 4 (dk_at dksX2_rowTo_0 3 rfl rfl)
theorem dX2_rowTo_5 : decode cX2_rowTo 5 = .ok (.iload 4, 2) := dk_21 4 (dk_at dksX2_rowTo_0 5 rfl rfl)
theorem dX2_rowTo_7 : decode cX2_rowTo 7 = .ok (.aload_n 0, 1) := dk_42 (dk_at dksX2_rowTo_0 7 rfl rfl)
theorem dX2_rowTo_8 : decode cX2_rowTo 8 = .ok (.getfield 12, 3) := dk_180 0 12 (dk_at dksX2_rowTo_0 8 rfl rfl)
theorem dX2_rowTo_11 : decode cX2_rowTo 11 = .ok (.invokevirtual 41, 3) := dk_182 0 41 (dk_at dksX2_rowTo_0 11 rfl rfl)
theorem dX2_rowTo_14 : decode cX2_rowTo 14 = .ok (.if_icmp .ge 73, 3) := dk_162 0 73 (dk_at dksX2_rowTo_0 14 rfl rfl)
theorem dX2_rowTo_17 : decode cX2_rowTo 17 = .ok (.aload_n 0, 1) := dk_42 (dk_at dksX2_rowTo_0 17 rfl rfl)
theorem dX2_rowTo_18 : decode cX2_rowTo 18 = .ok (.getfield 21, 3) := dk_180 0 21 (dk_at dksX2_rowTo_0 18 rfl rfl)
theorem dX2_rowTo_21 : decode cX2_rowTo 21 = .ok (.aload_n 0, 1) := dk_42 (dk_at dksX2_rowTo_0 21 rfl rfl)
theorem dX2_rowTo_22 : decode cX2_rowTo 22 = .ok (.iload 4, 2) := dk_21 4 (dk_at dksX2_rowTo_0 22 rfl rfl)
theorem dX2_rowTo_24 : decode cX2_rowTo 24 = .ok (.invokevirtual 152, 3) := dk_182 0 152 (dk_at dksX2_rowTo_1 0 rfl rfl)
theorem dX2_rowTo_27 : decode cX2_rowTo 27 = .ok (.invokevirtual 116, 3) := dk_182 0 116 (dk_at dksX2_rowTo_1 3 rfl rfl)
theorem dX2_rowTo_30 : decode cX2_rowTo 30 = .ok (.ifCond .eq 30, 3) := dk_153 0 30 (dk_at dksX2_rowTo_1 6 rfl rfl)
theorem dX2_rowTo_33 : decode cX2_rowTo 33 = .ok (.aload_n 0, 1) := dk_42 (dk_at dksX2_rowTo_1 9 rfl rfl)
theorem dX2_rowTo_34 : decode cX2_rowTo 34 = .ok (.getfield 21, 3) := dk_180 0 21 (dk_at dksX2_rowTo_1 10 rfl rfl)
theorem dX2_rowTo_37 : decode cX2_rowTo 37 = .ok (.aload_n 0, 1) := dk_42 (dk_at dksX2_rowTo_1 13 rfl rfl)
theorem dX2_rowTo_38 : decode cX2_rowTo 38 = .ok (.iload 4, 2) := dk_21 4 (dk_at dksX2_rowTo_1 14 rfl rfl)
theorem dX2_rowTo_40 : decode cX2_rowTo 40 = .ok (.invokevirtual 152, 3) := dk_182 0 152 (dk_at dksX2_rowTo_1 16 rfl rfl)
theorem dX2_rowTo_43 : decode cX2_rowTo 43 = .ok (.aload_n 0, 1) := dk_42 (dk_at dksX2_rowTo_1 19 rfl rfl)
theorem dX2_rowTo_44 : decode cX2_rowTo 44 = .ok (.iload_n 1, 1) := dk_27 (dk_at dksX2_rowTo_1 20 rfl rfl)
theorem dX2_rowTo_45 : decode cX2_rowTo 45 = .ok (.invokevirtual 152, 3) := dk_182 0 152 (dk_at dksX2_rowTo_1 21 rfl rfl)
theorem dX2_rowTo_48 : decode cX2_rowTo 48 = .ok (.bipush 15, 2) := dk_16 15 (dk_at dksX2_rowTo_2 0 rfl rfl)
theorem dX2_rowTo_50 : decode cX2_rowTo 50 = .ok (.invokevirtual 111, 3) := dk_182 0 111 (dk_at dksX2_rowTo_2 2 rfl rfl)
theorem dX2_rowTo_53 : decode cX2_rowTo 53 = .ok (.ifCond .eq 7, 3) := dk_153 0 7 (dk_at dksX2_rowTo_2 5 rfl rfl)
theorem dX2_rowTo_56 : decode cX2_rowTo 56 = .ok (.iconst 1, 1) := dk_4 (dk_at dksX2_rowTo_2 8 rfl rfl)
theorem dX2_rowTo_57 : decode cX2_rowTo 57 = .ok (.goto 4, 3) := dk_167 0 4 (dk_at dksX2_rowTo_2 9 rfl rfl)
theorem dX2_rowTo_60 : decode cX2_rowTo 60 = .ok (.iconst 0, 1) := dk_3 (dk_at dksX2_rowTo_2 12 rfl rfl)
theorem dX2_rowTo_61 : decode cX2_rowTo 61 = .ok (.istore 5, 2) := dk_54 5 (dk_at dksX2_rowTo_2 13 rfl rfl)
theorem dX2_rowTo_63 : decode cX2_rowTo 63 = .ok (.iload 5, 2) := dk_21 5 (dk_at dksX2_rowTo_2 15 rfl rfl)
theorem dX2_rowTo_65 : decode cX2_rowTo 65 = .ok (.ifCond .eq 14, 3) := dk_153 0 14 (dk_at dksX2_rowTo_2 17 rfl rfl)
theorem dX2_rowTo_68 : decode cX2_rowTo 68 = .ok (.iload_n 3, 1) := dk_29 (dk_at dksX2_rowTo_2 20 rfl rfl)
theorem dX2_rowTo_69 : decode cX2_rowTo 69 = .ok (.aload_n 2, 1) := dk_44 (dk_at dksX2_rowTo_2 21 rfl rfl)
theorem dX2_rowTo_70 : decode cX2_rowTo 70 = .ok (.iload 4, 2) := dk_21 4 (dk_at dksX2_rowTo_2 22 rfl rfl)
theorem dX2_rowTo_72 : decode cX2_rowTo 72 = .ok (.iaload, 1) := dk_46 (dk_at dksX2_rowTo_3 0 rfl rfl)
theorem dX2_rowTo_73 : decode cX2_rowTo 73 = .ok (.invokestatic 155, 3) := dk_184 0 155 (dk_at dksX2_rowTo_3 1 rfl rfl)
theorem dX2_rowTo_76 : decode cX2_rowTo 76 = .ok (.goto 4, 3) := dk_167 0 4 (dk_at dksX2_rowTo_3 4 rfl rfl)
theorem dX2_rowTo_79 : decode cX2_rowTo 79 = .ok (.iload_n 3, 1) := dk_29 (dk_at dksX2_rowTo_3 7 rfl rfl)
theorem dX2_rowTo_80 : decode cX2_rowTo 80 = .ok (.istore_n 3, 1) := dk_62 (dk_at dksX2_rowTo_3 8 rfl rfl)
theorem dX2_rowTo_81 : decode cX2_rowTo 81 = .ok (.iinc 4 1, 3) := dk_132 4 1 (dk_at dksX2_rowTo_3 9 rfl rfl)
theorem dX2_rowTo_84 : decode cX2_rowTo 84 = .ok (.goto (-79), 3) := dk_167 255 177 (dk_at dksX2_rowTo_3 12 rfl rfl)
theorem dX2_rowTo_87 : decode cX2_rowTo 87 = .ok (.iload_n 3, 1) := dk_29 (dk_at dksX2_rowTo_3 15 rfl rfl)
theorem dX2_rowTo_88 : decode cX2_rowTo 88 = .ok (.iconst 1, 1) := dk_4 (dk_at dksX2_rowTo_3 16 rfl rfl)
theorem dX2_rowTo_89 : decode cX2_rowTo 89 = .ok (.iadd, 1) := dk_96 (dk_at dksX2_rowTo_3 17 rfl rfl)
theorem dX2_rowTo_90 : decode cX2_rowTo 90 = .ok (.ireturn, 1) := dk_172 (dk_at dksX2_rowTo_3 18 rfl rfl)
abbrev cX2_beaters : ByteArray := prog_8_method_16_code
def yX2_beaters : MethodName := ⟨RX2, "beaters", "(LOfferSky$Offer;)I"⟩
def dkwX2_beaters_1 : List UInt8 := [182, 0, 123, 172]
abbrev dktX2_beaters_1 : List UInt8 := dkwX2_beaters_1 ++ []
def dkwX2_beaters_0 : List UInt8 := [42, 180, 0, 21, 43, 182, 0, 116, 154, 0, 5, 3, 172, 42, 180, 0, 12, 42, 43, 186, 0, 120, 0, 0]
abbrev dktX2_beaters_0 : List UInt8 := dkwX2_beaters_0 ++ dktX2_beaters_1
theorem dksX2_beaters_0 : cX2_beaters.data.toList.drop 0 = dktX2_beaters_0 := by decide +kernel
theorem dksX2_beaters_1 : cX2_beaters.data.toList.drop 24 = dktX2_beaters_1 := dk_seg dksX2_beaters_0 24 rfl rfl
theorem dX2_beaters_0 : decode cX2_beaters 0 = .ok (.aload_n 0, 1) := dk_42 (dk_at dksX2_beaters_0 0 rfl rfl)
theorem dX2_beaters_1 : decode cX2_beaters 1 = .ok (.getfield 21, 3) := dk_180 0 21 (dk_at dksX2_beaters_0 1 rfl rfl)
theorem dX2_beaters_4 : decode cX2_beaters 4 = .ok (.aload_n 1, 1) := dk_43 (dk_at dksX2_beaters_0 4 rfl rfl)
theorem dX2_beaters_5 : decode cX2_beaters 5 = .ok (.invokevirtual 116, 3) := dk_182 0 116 (dk_at dksX2_beaters_0 5 rfl rfl)
theorem dX2_beaters_8 : decode cX2_beaters 8 = .ok (.ifCond .ne 5, 3) := dk_154 0 5 (dk_at dksX2_beaters_0 8 rfl rfl)
theorem dX2_beaters_11 : decode cX2_beaters 11 = .ok (.iconst 0, 1) := dk_3 (dk_at dksX2_beaters_0 11 rfl rfl)
theorem dX2_beaters_12 : decode cX2_beaters 12 = .ok (.ireturn, 1) := dk_172 (dk_at dksX2_beaters_0 12 rfl rfl)
theorem dX2_beaters_13 : decode cX2_beaters 13 = .ok (.aload_n 0, 1) := dk_42 (dk_at dksX2_beaters_0 13 rfl rfl)
theorem dX2_beaters_14 : decode cX2_beaters 14 = .ok (.getfield 12, 3) := dk_180 0 12 (dk_at dksX2_beaters_0 14 rfl rfl)
theorem dX2_beaters_17 : decode cX2_beaters 17 = .ok (.aload_n 0, 1) := dk_42 (dk_at dksX2_beaters_0 17 rfl rfl)
theorem dX2_beaters_18 : decode cX2_beaters 18 = .ok (.aload_n 1, 1) := dk_43 (dk_at dksX2_beaters_0 18 rfl rfl)
theorem dX2_beaters_19 : decode cX2_beaters 19 = .ok (.invokedynamic 120, 5) := by decide +kernel
theorem dX2_beaters_24 : decode cX2_beaters 24 = .ok (.invokevirtual 123, 3) := dk_182 0 123 (dk_at dksX2_beaters_1 0 rfl rfl)
theorem dX2_beaters_27 : decode cX2_beaters 27 = .ok (.ireturn, 1) := dk_172 (dk_at dksX2_beaters_1 3 rfl rfl)
abbrev cX2_lambda_beaters_4 : ByteArray := prog_8_method_63_code
def yX2_lambda_beaters_4 : MethodName := ⟨RX2, "lambda$beaters$4", "(LOfferSky$Offer;LOfferSky$Offer;)Z"⟩
def dkwX2_lambda_beaters_4_1 : List UInt8 := [153, 0, 7, 4, 167, 0, 4, 3, 172]
abbrev dktX2_lambda_beaters_4_1 : List UInt8 := dkwX2_lambda_beaters_4_1 ++ []
def dkwX2_lambda_beaters_4_0 : List UInt8 := [42, 180, 0, 21, 44, 182, 0, 116, 153, 0, 21, 42, 180, 0, 21, 44, 43, 16, 15, 182, 0, 111]
abbrev dktX2_lambda_beaters_4_0 : List UInt8 := dkwX2_lambda_beaters_4_0 ++ dktX2_lambda_beaters_4_1
theorem dksX2_lambda_beaters_4_0 : cX2_lambda_beaters_4.data.toList.drop 0 = dktX2_lambda_beaters_4_0 := by decide +kernel
theorem dksX2_lambda_beaters_4_1 : cX2_lambda_beaters_4.data.toList.drop 22 = dktX2_lambda_beaters_4_1 := dk_seg dksX2_lambda_beaters_4_0 22 rfl rfl
theorem dX2_lambda_beaters_4_0 : decode cX2_lambda_beaters_4 0 = .ok (.aload_n 0, 1) := dk_42 (dk_at dksX2_lambda_beaters_4_0 0 rfl rfl)
theorem dX2_lambda_beaters_4_1 : decode cX2_lambda_beaters_4 1 = .ok (.getfield 21, 3) := dk_180 0 21 (dk_at dksX2_lambda_beaters_4_0 1 rfl rfl)
theorem dX2_lambda_beaters_4_4 : decode cX2_lambda_beaters_4 4 = .ok (.aload_n 2, 1) := dk_44 (dk_at dksX2_lambda_beaters_4_0 4 rfl rfl)
theorem dX2_lambda_beaters_4_5 : decode cX2_lambda_beaters_4 5 = .ok (.invokevirtual 116, 3) := dk_182 0 116 (dk_at dksX2_lambda_beaters_4_0 5 rfl rfl)
theorem dX2_lambda_beaters_4_8 : decode cX2_lambda_beaters_4 8 = .ok (.ifCond .eq 21, 3) := dk_153 0 21 (dk_at dksX2_lambda_beaters_4_0 8 rfl rfl)
theorem dX2_lambda_beaters_4_11 : decode cX2_lambda_beaters_4 11 = .ok (.aload_n 0, 1) := dk_42 (dk_at dksX2_lambda_beaters_4_0 11 rfl rfl)
theorem dX2_lambda_beaters_4_12 : decode cX2_lambda_beaters_4 12 = .ok (.getfield 21, 3) := dk_180 0 21 (dk_at dksX2_lambda_beaters_4_0 12 rfl rfl)
theorem dX2_lambda_beaters_4_15 : decode cX2_lambda_beaters_4 15 = .ok (.aload_n 2, 1) := dk_44 (dk_at dksX2_lambda_beaters_4_0 15 rfl rfl)
theorem dX2_lambda_beaters_4_16 : decode cX2_lambda_beaters_4 16 = .ok (.aload_n 1, 1) := dk_43 (dk_at dksX2_lambda_beaters_4_0 16 rfl rfl)
theorem dX2_lambda_beaters_4_17 : decode cX2_lambda_beaters_4 17 = .ok (.bipush 15, 2) := dk_16 15 (dk_at dksX2_lambda_beaters_4_0 17 rfl rfl)
theorem dX2_lambda_beaters_4_19 : decode cX2_lambda_beaters_4 19 = .ok (.invokevirtual 111, 3) := dk_182 0 111 (dk_at dksX2_lambda_beaters_4_0 19 rfl rfl)
theorem dX2_lambda_beaters_4_22 : decode cX2_lambda_beaters_4 22 = .ok (.ifCond .eq 7, 3) := dk_153 0 7 (dk_at dksX2_lambda_beaters_4_1 0 rfl rfl)
theorem dX2_lambda_beaters_4_25 : decode cX2_lambda_beaters_4 25 = .ok (.iconst 1, 1) := dk_4 (dk_at dksX2_lambda_beaters_4_1 3 rfl rfl)
theorem dX2_lambda_beaters_4_26 : decode cX2_lambda_beaters_4 26 = .ok (.goto 4, 3) := dk_167 0 4 (dk_at dksX2_lambda_beaters_4_1 4 rfl rfl)
theorem dX2_lambda_beaters_4_29 : decode cX2_lambda_beaters_4 29 = .ok (.iconst 0, 1) := dk_3 (dk_at dksX2_lambda_beaters_4_1 7 rfl rfl)
theorem dX2_lambda_beaters_4_30 : decode cX2_lambda_beaters_4 30 = .ok (.ireturn, 1) := dk_172 (dk_at dksX2_lambda_beaters_4_1 8 rfl rfl)
abbrev cX2_isTold : ByteArray := prog_8_method_18_code
def yX2_isTold : MethodName := ⟨RX2, "isTold", "(LOfferSky$Offer;)Z"⟩
def dkwX2_isTold_1 : List UInt8 := [172]
abbrev dktX2_isTold_1 : List UInt8 := dkwX2_isTold_1 ++ []
def dkwX2_isTold_0 : List UInt8 := [42, 180, 0, 21, 43, 182, 0, 116, 153, 0, 15, 42, 43, 182, 0, 126, 154, 0, 7, 4, 167, 0, 4, 3]
abbrev dktX2_isTold_0 : List UInt8 := dkwX2_isTold_0 ++ dktX2_isTold_1
theorem dksX2_isTold_0 : cX2_isTold.data.toList.drop 0 = dktX2_isTold_0 := by decide +kernel
theorem dksX2_isTold_1 : cX2_isTold.data.toList.drop 24 = dktX2_isTold_1 := dk_seg dksX2_isTold_0 24 rfl rfl
theorem dX2_isTold_0 : decode cX2_isTold 0 = .ok (.aload_n 0, 1) := dk_42 (dk_at dksX2_isTold_0 0 rfl rfl)
theorem dX2_isTold_1 : decode cX2_isTold 1 = .ok (.getfield 21, 3) := dk_180 0 21 (dk_at dksX2_isTold_0 1 rfl rfl)
theorem dX2_isTold_4 : decode cX2_isTold 4 = .ok (.aload_n 1, 1) := dk_43 (dk_at dksX2_isTold_0 4 rfl rfl)
theorem dX2_isTold_5 : decode cX2_isTold 5 = .ok (.invokevirtual 116, 3) := dk_182 0 116 (dk_at dksX2_isTold_0 5 rfl rfl)
theorem dX2_isTold_8 : decode cX2_isTold 8 = .ok (.ifCond .eq 15, 3) := dk_153 0 15 (dk_at dksX2_isTold_0 8 rfl rfl)
theorem dX2_isTold_11 : decode cX2_isTold 11 = .ok (.aload_n 0, 1) := dk_42 (dk_at dksX2_isTold_0 11 rfl rfl)
theorem dX2_isTold_12 : decode cX2_isTold 12 = .ok (.aload_n 1, 1) := dk_43 (dk_at dksX2_isTold_0 12 rfl rfl)
theorem dX2_isTold_13 : decode cX2_isTold 13 = .ok (.invokevirtual 126, 3) := dk_182 0 126 (dk_at dksX2_isTold_0 13 rfl rfl)
theorem dX2_isTold_16 : decode cX2_isTold 16 = .ok (.ifCond .ne 7, 3) := dk_154 0 7 (dk_at dksX2_isTold_0 16 rfl rfl)
theorem dX2_isTold_19 : decode cX2_isTold 19 = .ok (.iconst 1, 1) := dk_4 (dk_at dksX2_isTold_0 19 rfl rfl)
theorem dX2_isTold_20 : decode cX2_isTold 20 = .ok (.goto 4, 3) := dk_167 0 4 (dk_at dksX2_isTold_0 20 rfl rfl)
theorem dX2_isTold_23 : decode cX2_isTold 23 = .ok (.iconst 0, 1) := dk_3 (dk_at dksX2_isTold_0 23 rfl rfl)
theorem dX2_isTold_24 : decode cX2_isTold 24 = .ok (.ireturn, 1) := dk_172 (dk_at dksX2_isTold_1 0 rfl rfl)
abbrev cX2_toldBy : ByteArray := prog_8_method_27_code
def yX2_toldBy : MethodName := ⟨RX2, "toldBy", "(I)I"⟩
def dkwX2_toldBy_0 : List UInt8 := [42, 182, 0, 80, 77, 44, 42, 44, 27, 186, 0, 165, 0, 0, 182, 0, 123, 172]
abbrev dktX2_toldBy_0 : List UInt8 := dkwX2_toldBy_0 ++ []
theorem dksX2_toldBy_0 : cX2_toldBy.data.toList.drop 0 = dktX2_toldBy_0 := by decide +kernel
theorem dX2_toldBy_0 : decode cX2_toldBy 0 = .ok (.aload_n 0, 1) := dk_42 (dk_at dksX2_toldBy_0 0 rfl rfl)
theorem dX2_toldBy_1 : decode cX2_toldBy 1 = .ok (.invokevirtual 80, 3) := dk_182 0 80 (dk_at dksX2_toldBy_0 1 rfl rfl)
theorem dX2_toldBy_4 : decode cX2_toldBy 4 = .ok (.astore_n 2, 1) := dk_77 (dk_at dksX2_toldBy_0 4 rfl rfl)
theorem dX2_toldBy_5 : decode cX2_toldBy 5 = .ok (.aload_n 2, 1) := dk_44 (dk_at dksX2_toldBy_0 5 rfl rfl)
theorem dX2_toldBy_6 : decode cX2_toldBy 6 = .ok (.aload_n 0, 1) := dk_42 (dk_at dksX2_toldBy_0 6 rfl rfl)
theorem dX2_toldBy_7 : decode cX2_toldBy 7 = .ok (.aload_n 2, 1) := dk_44 (dk_at dksX2_toldBy_0 7 rfl rfl)
theorem dX2_toldBy_8 : decode cX2_toldBy 8 = .ok (.iload_n 1, 1) := dk_27 (dk_at dksX2_toldBy_0 8 rfl rfl)
theorem dX2_toldBy_9 : decode cX2_toldBy 9 = .ok (.invokedynamic 165, 5) := by decide +kernel
theorem dX2_toldBy_14 : decode cX2_toldBy 14 = .ok (.invokevirtual 123, 3) := dk_182 0 123 (dk_at dksX2_toldBy_0 14 rfl rfl)
theorem dX2_toldBy_17 : decode cX2_toldBy 17 = .ok (.ireturn, 1) := dk_172 (dk_at dksX2_toldBy_0 17 rfl rfl)
abbrev cX2_lambda_toldBy_10 : ByteArray := prog_8_method_57_code
def yX2_lambda_toldBy_10 : MethodName := ⟨RX2, "lambda$toldBy$10", "(LOfferSky$Bag;ILOfferSky$Offer;)Z"⟩
def dkwX2_lambda_toldBy_10_0 : List UInt8 := [42, 45, 43, 28, 182, 0, 168, 172]
abbrev dktX2_lambda_toldBy_10_0 : List UInt8 := dkwX2_lambda_toldBy_10_0 ++ []
theorem dksX2_lambda_toldBy_10_0 : cX2_lambda_toldBy_10.data.toList.drop 0 = dktX2_lambda_toldBy_10_0 := by decide +kernel
theorem dX2_lambda_toldBy_10_0 : decode cX2_lambda_toldBy_10 0 = .ok (.aload_n 0, 1) := dk_42 (dk_at dksX2_lambda_toldBy_10_0 0 rfl rfl)
theorem dX2_lambda_toldBy_10_1 : decode cX2_lambda_toldBy_10 1 = .ok (.aload_n 3, 1) := dk_45 (dk_at dksX2_lambda_toldBy_10_0 1 rfl rfl)
theorem dX2_lambda_toldBy_10_2 : decode cX2_lambda_toldBy_10 2 = .ok (.aload_n 1, 1) := dk_43 (dk_at dksX2_lambda_toldBy_10_0 2 rfl rfl)
theorem dX2_lambda_toldBy_10_3 : decode cX2_lambda_toldBy_10 3 = .ok (.iload_n 2, 1) := dk_28 (dk_at dksX2_lambda_toldBy_10_0 3 rfl rfl)
theorem dX2_lambda_toldBy_10_4 : decode cX2_lambda_toldBy_10 4 = .ok (.invokevirtual 168, 3) := dk_182 0 168 (dk_at dksX2_lambda_toldBy_10_0 4 rfl rfl)
theorem dX2_lambda_toldBy_10_7 : decode cX2_lambda_toldBy_10 7 = .ok (.ireturn, 1) := dk_172 (dk_at dksX2_lambda_toldBy_10_0 7 rfl rfl)
abbrev cX2_isToldOn : ByteArray := prog_8_method_26_code
def yX2_isToldOn : MethodName := ⟨RX2, "isToldOn", "(LOfferSky$Offer;LOfferSky$Bag;I)Z"⟩
def dkwX2_isToldOn_0 : List UInt8 := [42, 43, 44, 29, 182, 0, 130, 154, 0, 7, 4, 167, 0, 4, 3, 172]
abbrev dktX2_isToldOn_0 : List UInt8 := dkwX2_isToldOn_0 ++ []
theorem dksX2_isToldOn_0 : cX2_isToldOn.data.toList.drop 0 = dktX2_isToldOn_0 := by decide +kernel
theorem dX2_isToldOn_0 : decode cX2_isToldOn 0 = .ok (.aload_n 0, 1) := dk_42 (dk_at dksX2_isToldOn_0 0 rfl rfl)
theorem dX2_isToldOn_1 : decode cX2_isToldOn 1 = .ok (.aload_n 1, 1) := dk_43 (dk_at dksX2_isToldOn_0 1 rfl rfl)
theorem dX2_isToldOn_2 : decode cX2_isToldOn 2 = .ok (.aload_n 2, 1) := dk_44 (dk_at dksX2_isToldOn_0 2 rfl rfl)
theorem dX2_isToldOn_3 : decode cX2_isToldOn 3 = .ok (.iload_n 3, 1) := dk_29 (dk_at dksX2_isToldOn_0 3 rfl rfl)
theorem dX2_isToldOn_4 : decode cX2_isToldOn 4 = .ok (.invokevirtual 130, 3) := dk_182 0 130 (dk_at dksX2_isToldOn_0 4 rfl rfl)
theorem dX2_isToldOn_7 : decode cX2_isToldOn 7 = .ok (.ifCond .ne 7, 3) := dk_154 0 7 (dk_at dksX2_isToldOn_0 7 rfl rfl)
theorem dX2_isToldOn_10 : decode cX2_isToldOn 10 = .ok (.iconst 1, 1) := dk_4 (dk_at dksX2_isToldOn_0 10 rfl rfl)
theorem dX2_isToldOn_11 : decode cX2_isToldOn 11 = .ok (.goto 4, 3) := dk_167 0 4 (dk_at dksX2_isToldOn_0 11 rfl rfl)
theorem dX2_isToldOn_14 : decode cX2_isToldOn 14 = .ok (.iconst 0, 1) := dk_3 (dk_at dksX2_isToldOn_0 14 rfl rfl)
theorem dX2_isToldOn_15 : decode cX2_isToldOn 15 = .ok (.ireturn, 1) := dk_172 (dk_at dksX2_isToldOn_0 15 rfl rfl)
abbrev cX2_weakly : ByteArray := prog_8_method_29_code
def yX2_weakly : MethodName := ⟨RX2, "weakly", "(I)I"⟩
def dkwX2_weakly_0 : List UInt8 := [42, 182, 0, 80, 77, 44, 42, 44, 27, 186, 0, 175, 0, 0, 182, 0, 123, 172]
abbrev dktX2_weakly_0 : List UInt8 := dkwX2_weakly_0 ++ []
theorem dksX2_weakly_0 : cX2_weakly.data.toList.drop 0 = dktX2_weakly_0 := by decide +kernel
theorem dX2_weakly_0 : decode cX2_weakly 0 = .ok (.aload_n 0, 1) := dk_42 (dk_at dksX2_weakly_0 0 rfl rfl)
theorem dX2_weakly_1 : decode cX2_weakly 1 = .ok (.invokevirtual 80, 3) := dk_182 0 80 (dk_at dksX2_weakly_0 1 rfl rfl)
theorem dX2_weakly_4 : decode cX2_weakly 4 = .ok (.astore_n 2, 1) := dk_77 (dk_at dksX2_weakly_0 4 rfl rfl)
theorem dX2_weakly_5 : decode cX2_weakly 5 = .ok (.aload_n 2, 1) := dk_44 (dk_at dksX2_weakly_0 5 rfl rfl)
theorem dX2_weakly_6 : decode cX2_weakly 6 = .ok (.aload_n 0, 1) := dk_42 (dk_at dksX2_weakly_0 6 rfl rfl)
theorem dX2_weakly_7 : decode cX2_weakly 7 = .ok (.aload_n 2, 1) := dk_44 (dk_at dksX2_weakly_0 7 rfl rfl)
theorem dX2_weakly_8 : decode cX2_weakly 8 = .ok (.iload_n 1, 1) := dk_27 (dk_at dksX2_weakly_0 8 rfl rfl)
theorem dX2_weakly_9 : decode cX2_weakly 9 = .ok (.invokedynamic 175, 5) := by decide +kernel
theorem dX2_weakly_14 : decode cX2_weakly 14 = .ok (.invokevirtual 123, 3) := dk_182 0 123 (dk_at dksX2_weakly_0 14 rfl rfl)
theorem dX2_weakly_17 : decode cX2_weakly 17 = .ok (.ireturn, 1) := dk_172 (dk_at dksX2_weakly_0 17 rfl rfl)
abbrev cX2_lambda_weakly_12 : ByteArray := prog_8_method_55_code
def yX2_lambda_weakly_12 : MethodName := ⟨RX2, "lambda$weakly$12", "(LOfferSky$Bag;ILOfferSky$Offer;)Z"⟩
def dkwX2_lambda_weakly_12_0 : List UInt8 := [43, 42, 45, 28, 186, 0, 244, 0, 0, 182, 0, 247, 154, 0, 7, 4, 167, 0, 4, 3, 172]
abbrev dktX2_lambda_weakly_12_0 : List UInt8 := dkwX2_lambda_weakly_12_0 ++ []
theorem dksX2_lambda_weakly_12_0 : cX2_lambda_weakly_12.data.toList.drop 0 = dktX2_lambda_weakly_12_0 := by decide +kernel
theorem dX2_lambda_weakly_12_0 : decode cX2_lambda_weakly_12 0 = .ok (.aload_n 1, 1) := dk_43 (dk_at dksX2_lambda_weakly_12_0 0 rfl rfl)
theorem dX2_lambda_weakly_12_1 : decode cX2_lambda_weakly_12 1 = .ok (.aload_n 0, 1) := dk_42 (dk_at dksX2_lambda_weakly_12_0 1 rfl rfl)
theorem dX2_lambda_weakly_12_2 : decode cX2_lambda_weakly_12 2 = .ok (.aload_n 3, 1) := dk_45 (dk_at dksX2_lambda_weakly_12_0 2 rfl rfl)
theorem dX2_lambda_weakly_12_3 : decode cX2_lambda_weakly_12 3 = .ok (.iload_n 2, 1) := dk_28 (dk_at dksX2_lambda_weakly_12_0 3 rfl rfl)
theorem dX2_lambda_weakly_12_4 : decode cX2_lambda_weakly_12 4 = .ok (.invokedynamic 244, 5) := by decide +kernel
theorem dX2_lambda_weakly_12_9 : decode cX2_lambda_weakly_12 9 = .ok (.invokevirtual 247, 3) := dk_182 0 247 (dk_at dksX2_lambda_weakly_12_0 9 rfl rfl)
theorem dX2_lambda_weakly_12_12 : decode cX2_lambda_weakly_12 12 = .ok (.ifCond .ne 7, 3) := dk_154 0 7 (dk_at dksX2_lambda_weakly_12_0 12 rfl rfl)
theorem dX2_lambda_weakly_12_15 : decode cX2_lambda_weakly_12 15 = .ok (.iconst 1, 1) := dk_4 (dk_at dksX2_lambda_weakly_12_0 15 rfl rfl)
theorem dX2_lambda_weakly_12_16 : decode cX2_lambda_weakly_12 16 = .ok (.goto 4, 3) := dk_167 0 4 (dk_at dksX2_lambda_weakly_12_0 16 rfl rfl)
theorem dX2_lambda_weakly_12_19 : decode cX2_lambda_weakly_12 19 = .ok (.iconst 0, 1) := dk_3 (dk_at dksX2_lambda_weakly_12_0 19 rfl rfl)
theorem dX2_lambda_weakly_12_20 : decode cX2_lambda_weakly_12 20 = .ok (.ireturn, 1) := dk_172 (dk_at dksX2_lambda_weakly_12_0 20 rfl rfl)
abbrev cX2_lambda_weakly_11 : ByteArray := prog_8_method_56_code
def yX2_lambda_weakly_11 : MethodName := ⟨RX2, "lambda$weakly$11", "(LOfferSky$Offer;ILOfferSky$Offer;)Z"⟩
def dkwX2_lambda_weakly_11_0 : List UInt8 := [42, 180, 0, 21, 45, 43, 28, 182, 0, 251, 172]
abbrev dktX2_lambda_weakly_11_0 : List UInt8 := dkwX2_lambda_weakly_11_0 ++ []
theorem dksX2_lambda_weakly_11_0 : cX2_lambda_weakly_11.data.toList.drop 0 = dktX2_lambda_weakly_11_0 := by decide +kernel
theorem dX2_lambda_weakly_11_0 : decode cX2_lambda_weakly_11 0 = .ok (.aload_n 0, 1) := dk_42 (dk_at dksX2_lambda_weakly_11_0 0 rfl rfl)
theorem dX2_lambda_weakly_11_1 : decode cX2_lambda_weakly_11 1 = .ok (.getfield 21, 3) := dk_180 0 21 (dk_at dksX2_lambda_weakly_11_0 1 rfl rfl)
theorem dX2_lambda_weakly_11_4 : decode cX2_lambda_weakly_11 4 = .ok (.aload_n 3, 1) := dk_45 (dk_at dksX2_lambda_weakly_11_0 4 rfl rfl)
theorem dX2_lambda_weakly_11_5 : decode cX2_lambda_weakly_11 5 = .ok (.aload_n 1, 1) := dk_43 (dk_at dksX2_lambda_weakly_11_0 5 rfl rfl)
theorem dX2_lambda_weakly_11_6 : decode cX2_lambda_weakly_11 6 = .ok (.iload_n 2, 1) := dk_28 (dk_at dksX2_lambda_weakly_11_0 6 rfl rfl)
theorem dX2_lambda_weakly_11_7 : decode cX2_lambda_weakly_11 7 = .ok (.invokevirtual 251, 3) := dk_182 0 251 (dk_at dksX2_lambda_weakly_11_0 7 rfl rfl)
theorem dX2_lambda_weakly_11_10 : decode cX2_lambda_weakly_11 10 = .ok (.ireturn, 1) := dk_172 (dk_at dksX2_lambda_weakly_11_0 10 rfl rfl)
abbrev cX2_coveredBy : ByteArray := prog_8_method_42_code
def yX2_coveredBy : MethodName := ⟨RX2, "coveredBy", "(I)I"⟩
def dkwX2_coveredBy_2 : List UInt8 := [46, 54, 9, 22, 4, 45, 21, 9, 47, 129, 55, 4, 132, 8, 1, 167, 255, 230, 22, 4, 184, 0, 213, 172]
abbrev dktX2_coveredBy_2 : List UInt8 := dkwX2_coveredBy_2 ++ []
def dkwX2_coveredBy_1 : List UInt8 := [182, 0, 228, 58, 6, 25, 6, 190, 54, 7, 3, 54, 8, 21, 8, 21, 7, 162, 0, 25, 25, 6, 21, 8]
abbrev dktX2_coveredBy_1 : List UInt8 := dkwX2_coveredBy_1 ++ dktX2_coveredBy_2
def dkwX2_coveredBy_0 : List UInt8 := [42, 182, 0, 80, 77, 42, 42, 44, 182, 0, 83, 44, 182, 0, 224, 78, 9, 55, 4, 42, 45, 27]
abbrev dktX2_coveredBy_0 : List UInt8 := dkwX2_coveredBy_0 ++ dktX2_coveredBy_1
theorem dksX2_coveredBy_0 : cX2_coveredBy.data.toList.drop 0 = dktX2_coveredBy_0 := by decide +kernel
theorem dksX2_coveredBy_1 : cX2_coveredBy.data.toList.drop 22 = dktX2_coveredBy_1 := dk_seg dksX2_coveredBy_0 22 rfl rfl
theorem dksX2_coveredBy_2 : cX2_coveredBy.data.toList.drop 46 = dktX2_coveredBy_2 := dk_seg dksX2_coveredBy_1 24 rfl rfl
theorem dX2_coveredBy_0 : decode cX2_coveredBy 0 = .ok (.aload_n 0, 1) := dk_42 (dk_at dksX2_coveredBy_0 0 rfl rfl)
theorem dX2_coveredBy_1 : decode cX2_coveredBy 1 = .ok (.invokevirtual 80, 3) := dk_182 0 80 (dk_at dksX2_coveredBy_0 1 rfl rfl)
theorem dX2_coveredBy_4 : decode cX2_coveredBy 4 = .ok (.astore_n 2, 1) := dk_77 (dk_at dksX2_coveredBy_0 4 rfl rfl)
theorem dX2_coveredBy_5 : decode cX2_coveredBy 5 = .ok (.aload_n 0, 1) := dk_42 (dk_at dksX2_coveredBy_0 5 rfl rfl)
theorem dX2_coveredBy_6 : decode cX2_coveredBy 6 = .ok (.aload_n 0, 1) := dk_42 (dk_at dksX2_coveredBy_0 6 rfl rfl)
theorem dX2_coveredBy_7 : decode cX2_coveredBy 7 = .ok (.aload_n 2, 1) := dk_44 (dk_at dksX2_coveredBy_0 7 rfl rfl)
theorem dX2_coveredBy_8 : decode cX2_coveredBy 8 = .ok (.invokevirtual 83, 3) := dk_182 0 83 (dk_at dksX2_coveredBy_0 8 rfl rfl)
theorem dX2_coveredBy_11 : decode cX2_coveredBy 11 = .ok (.aload_n 2, 1) := dk_44 (dk_at dksX2_coveredBy_0 11 rfl rfl)
theorem dX2_coveredBy_12 : decode cX2_coveredBy 12 = .ok (.invokevirtual 224, 3) := dk_182 0 224 (dk_at dksX2_coveredBy_0 12 rfl rfl)
theorem dX2_coveredBy_15 : decode cX2_coveredBy 15 = .ok (.astore_n 3, 1) := dk_78 (dk_at dksX2_coveredBy_0 15 rfl rfl)
theorem dX2_coveredBy_16 : decode cX2_coveredBy 16 = .ok (.lconst 0, 1) := dk_9 (dk_at dksX2_coveredBy_0 16 rfl rfl)
theorem dX2_coveredBy_17 : decode cX2_coveredBy 17 = .ok (.lstore 4, 2) := dk_55 4 (dk_at dksX2_coveredBy_0 17 rfl rfl)
theorem dX2_coveredBy_19 : decode cX2_coveredBy 19 = .ok (.aload_n 0, 1) := dk_42 (dk_at dksX2_coveredBy_0 19 rfl rfl)
theorem dX2_coveredBy_20 : decode cX2_coveredBy 20 = .ok (.aload_n 3, 1) := dk_45 (dk_at dksX2_coveredBy_0 20 rfl rfl)
theorem dX2_coveredBy_21 : decode cX2_coveredBy 21 = .ok (.iload_n 1, 1) := dk_27 (dk_at dksX2_coveredBy_0 21 rfl rfl)
theorem dX2_coveredBy_22 : decode cX2_coveredBy 22 = .ok (.invokevirtual 228, 3) := dk_182 0 228 (dk_at dksX2_coveredBy_1 0 rfl rfl)
theorem dX2_coveredBy_25 : decode cX2_coveredBy 25 = .ok (.astore 6, 2) := dk_58 6 (dk_at dksX2_coveredBy_1 3 rfl rfl)
theorem dX2_coveredBy_27 : decode cX2_coveredBy 27 = .ok (.aload 6, 2) := dk_25 6 (dk_at dksX2_coveredBy_1 5 rfl rfl)
theorem dX2_coveredBy_29 : decode cX2_coveredBy 29 = .ok (.arraylength, 1) := dk_190 (dk_at dksX2_coveredBy_1 7 rfl rfl)
theorem dX2_coveredBy_30 : decode cX2_coveredBy 30 = .ok (.istore 7, 2) := dk_54 7 (dk_at dksX2_coveredBy_1 8 rfl rfl)
theorem dX2_coveredBy_32 : decode cX2_coveredBy 32 = .ok (.iconst 0, 1) := dk_3 (dk_at dksX2_coveredBy_1 10 rfl rfl)
theorem dX2_coveredBy_33 : decode cX2_coveredBy 33 = .ok (.istore 8, 2) := dk_54 8 (dk_at dksX2_coveredBy_1 11 rfl rfl)
theorem dX2_coveredBy_35 : decode cX2_coveredBy 35 = .ok (.iload 8, 2) := dk_21 8 (dk_at dksX2_coveredBy_1 13 rfl rfl)
theorem dX2_coveredBy_37 : decode cX2_coveredBy 37 = .ok (.iload 7, 2) := dk_21 7 (dk_at dksX2_coveredBy_1 15 rfl rfl)
theorem dX2_coveredBy_39 : decode cX2_coveredBy 39 = .ok (.if_icmp .ge 25, 3) := dk_162 0 25 (dk_at dksX2_coveredBy_1 17 rfl rfl)
theorem dX2_coveredBy_42 : decode cX2_coveredBy 42 = .ok (.aload 6, 2) := dk_25 6 (dk_at dksX2_coveredBy_1 20 rfl rfl)
theorem dX2_coveredBy_44 : decode cX2_coveredBy 44 = .ok (.iload 8, 2) := dk_21 8 (dk_at dksX2_coveredBy_1 22 rfl rfl)
theorem dX2_coveredBy_46 : decode cX2_coveredBy 46 = .ok (.iaload, 1) := dk_46 (dk_at dksX2_coveredBy_2 0 rfl rfl)
theorem dX2_coveredBy_47 : decode cX2_coveredBy 47 = .ok (.istore 9, 2) := dk_54 9 (dk_at dksX2_coveredBy_2 1 rfl rfl)
theorem dX2_coveredBy_49 : decode cX2_coveredBy 49 = .ok (.lload 4, 2) := dk_22 4 (dk_at dksX2_coveredBy_2 3 rfl rfl)
theorem dX2_coveredBy_51 : decode cX2_coveredBy 51 = .ok (.aload_n 3, 1) := dk_45 (dk_at dksX2_coveredBy_2 5 rfl rfl)
theorem dX2_coveredBy_52 : decode cX2_coveredBy 52 = .ok (.iload 9, 2) := dk_21 9 (dk_at dksX2_coveredBy_2 6 rfl rfl)
theorem dX2_coveredBy_54 : decode cX2_coveredBy 54 = .ok (.laload, 1) := dk_47 (dk_at dksX2_coveredBy_2 8 rfl rfl)
theorem dX2_coveredBy_55 : decode cX2_coveredBy 55 = .ok (.lor, 1) := dk_129 (dk_at dksX2_coveredBy_2 9 rfl rfl)
theorem dX2_coveredBy_56 : decode cX2_coveredBy 56 = .ok (.lstore 4, 2) := dk_55 4 (dk_at dksX2_coveredBy_2 10 rfl rfl)
theorem dX2_coveredBy_58 : decode cX2_coveredBy 58 = .ok (.iinc 8 1, 3) := dk_132 8 1 (dk_at dksX2_coveredBy_2 12 rfl rfl)
theorem dX2_coveredBy_61 : decode cX2_coveredBy 61 = .ok (.goto (-26), 3) := dk_167 255 230 (dk_at dksX2_coveredBy_2 15 rfl rfl)
theorem dX2_coveredBy_64 : decode cX2_coveredBy 64 = .ok (.lload 4, 2) := dk_22 4 (dk_at dksX2_coveredBy_2 18 rfl rfl)
theorem dX2_coveredBy_66 : decode cX2_coveredBy 66 = .ok (.invokestatic 213, 3) := dk_184 0 213 (dk_at dksX2_coveredBy_2 20 rfl rfl)
theorem dX2_coveredBy_69 : decode cX2_coveredBy 69 = .ok (.ireturn, 1) := dk_172 (dk_at dksX2_coveredBy_2 23 rfl rfl)
abbrev cX2_greedy : ByteArray := prog_8_method_41_code
def yX2_greedy : MethodName := ⟨RX2, "greedy", "([JI)[I"⟩
def dkwX2_greedy_2 : List UInt8 := [22, 5, 43, 45, 21, 7, 46, 47, 129, 55, 5, 132, 7, 1, 167, 255, 215, 45, 176]
abbrev dktX2_greedy_2 : List UInt8 := dkwX2_greedy_2 ++ []
def dkwX2_greedy_1 : List UInt8 := [190, 162, 0, 40, 45, 21, 7, 43, 25, 4, 22, 5, 184, 0, 220, 79, 25, 4, 45, 21, 7, 46, 4, 84]
abbrev dktX2_greedy_1 : List UInt8 := dkwX2_greedy_1 ++ dktX2_greedy_2
def dkwX2_greedy_0 : List UInt8 := [28, 43, 190, 184, 0, 217, 188, 10, 78, 43, 190, 188, 4, 58, 4, 9, 55, 5, 3, 54, 7, 21, 7, 45]
abbrev dktX2_greedy_0 : List UInt8 := dkwX2_greedy_0 ++ dktX2_greedy_1
theorem dksX2_greedy_0 : cX2_greedy.data.toList.drop 0 = dktX2_greedy_0 := by decide +kernel
theorem dksX2_greedy_1 : cX2_greedy.data.toList.drop 24 = dktX2_greedy_1 := dk_seg dksX2_greedy_0 24 rfl rfl
theorem dksX2_greedy_2 : cX2_greedy.data.toList.drop 48 = dktX2_greedy_2 := dk_seg dksX2_greedy_1 24 rfl rfl
theorem dX2_greedy_0 : decode cX2_greedy 0 = .ok (.iload_n 2, 1) := dk_28 (dk_at dksX2_greedy_0 0 rfl rfl)
theorem dX2_greedy_1 : decode cX2_greedy 1 = .ok (.aload_n 1, 1) := dk_43 (dk_at dksX2_greedy_0 1 rfl rfl)
theorem dX2_greedy_2 : decode cX2_greedy 2 = .ok (.arraylength, 1) := dk_190 (dk_at dksX2_greedy_0 2 rfl rfl)
theorem dX2_greedy_3 : decode cX2_greedy 3 = .ok (.invokestatic 217, 3) := dk_184 0 217 (dk_at dksX2_greedy_0 3 rfl rfl)
theorem dX2_greedy_6 : decode cX2_greedy 6 = .ok (.newarray .int, 2) := dk_188_10 (dk_at dksX2_greedy_0 6 rfl rfl)
theorem dX2_greedy_8 : decode cX2_greedy 8 = .ok (.astore_n 3, 1) := dk_78 (dk_at dksX2_greedy_0 8 rfl rfl)
theorem dX2_greedy_9 : decode cX2_greedy 9 = .ok (.aload_n 1, 1) := dk_43 (dk_at dksX2_greedy_0 9 rfl rfl)
theorem dX2_greedy_10 : decode cX2_greedy 10 = .ok (.arraylength, 1) := dk_190 (dk_at dksX2_greedy_0 10 rfl rfl)
theorem dX2_greedy_11 : decode cX2_greedy 11 = .ok (.newarray .boolean, 2) := dk_188_4 (dk_at dksX2_greedy_0 11 rfl rfl)
theorem dX2_greedy_13 : decode cX2_greedy 13 = .ok (.astore 4, 2) := dk_58 4 (dk_at dksX2_greedy_0 13 rfl rfl)
theorem dX2_greedy_15 : decode cX2_greedy 15 = .ok (.lconst 0, 1) := dk_9 (dk_at dksX2_greedy_0 15 rfl rfl)
theorem dX2_greedy_16 : decode cX2_greedy 16 = .ok (.lstore 5, 2) := dk_55 5 (dk_at dksX2_greedy_0 16 rfl rfl)
theorem dX2_greedy_18 : decode cX2_greedy 18 = .ok (.iconst 0, 1) := dk_3 (dk_at dksX2_greedy_0 18 rfl rfl)
theorem dX2_greedy_19 : decode cX2_greedy 19 = .ok (.istore 7, 2) := dk_54 7 (dk_at dksX2_greedy_0 19 rfl rfl)
theorem dX2_greedy_21 : decode cX2_greedy 21 = .ok (.iload 7, 2) := dk_21 7 (dk_at dksX2_greedy_0 21 rfl rfl)
theorem dX2_greedy_23 : decode cX2_greedy 23 = .ok (.aload_n 3, 1) := dk_45 (dk_at dksX2_greedy_0 23 rfl rfl)
theorem dX2_greedy_24 : decode cX2_greedy 24 = .ok (.arraylength, 1) := dk_190 (dk_at dksX2_greedy_1 0 rfl rfl)
theorem dX2_greedy_25 : decode cX2_greedy 25 = .ok (.if_icmp .ge 40, 3) := dk_162 0 40 (dk_at dksX2_greedy_1 1 rfl rfl)
theorem dX2_greedy_28 : decode cX2_greedy 28 = .ok (.aload_n 3, 1) := dk_45 (dk_at dksX2_greedy_1 4 rfl rfl)
theorem dX2_greedy_29 : decode cX2_greedy 29 = .ok (.iload 7, 2) := dk_21 7 (dk_at dksX2_greedy_1 5 rfl rfl)
theorem dX2_greedy_31 : decode cX2_greedy 31 = .ok (.aload_n 1, 1) := dk_43 (dk_at dksX2_greedy_1 7 rfl rfl)
theorem dX2_greedy_32 : decode cX2_greedy 32 = .ok (.aload 4, 2) := dk_25 4 (dk_at dksX2_greedy_1 8 rfl rfl)
theorem dX2_greedy_34 : decode cX2_greedy 34 = .ok (.lload 5, 2) := dk_22 5 (dk_at dksX2_greedy_1 10 rfl rfl)
theorem dX2_greedy_36 : decode cX2_greedy 36 = .ok (.invokestatic 220, 3) := dk_184 0 220 (dk_at dksX2_greedy_1 12 rfl rfl)
theorem dX2_greedy_39 : decode cX2_greedy 39 = .ok (.iastore, 1) := dk_79 (dk_at dksX2_greedy_1 15 rfl rfl)
theorem dX2_greedy_40 : decode cX2_greedy 40 = .ok (.aload 4, 2) := dk_25 4 (dk_at dksX2_greedy_1 16 rfl rfl)
theorem dX2_greedy_42 : decode cX2_greedy 42 = .ok (.aload_n 3, 1) := dk_45 (dk_at dksX2_greedy_1 18 rfl rfl)
theorem dX2_greedy_43 : decode cX2_greedy 43 = .ok (.iload 7, 2) := dk_21 7 (dk_at dksX2_greedy_1 19 rfl rfl)
theorem dX2_greedy_45 : decode cX2_greedy 45 = .ok (.iaload, 1) := dk_46 (dk_at dksX2_greedy_1 21 rfl rfl)
theorem dX2_greedy_46 : decode cX2_greedy 46 = .ok (.iconst 1, 1) := dk_4 (dk_at dksX2_greedy_1 22 rfl rfl)
theorem dX2_greedy_47 : decode cX2_greedy 47 = .ok (.bastore, 1) := dk_84 (dk_at dksX2_greedy_1 23 rfl rfl)
theorem dX2_greedy_48 : decode cX2_greedy 48 = .ok (.lload 5, 2) := dk_22 5 (dk_at dksX2_greedy_2 0 rfl rfl)
theorem dX2_greedy_50 : decode cX2_greedy 50 = .ok (.aload_n 1, 1) := dk_43 (dk_at dksX2_greedy_2 2 rfl rfl)
theorem dX2_greedy_51 : decode cX2_greedy 51 = .ok (.aload_n 3, 1) := dk_45 (dk_at dksX2_greedy_2 3 rfl rfl)
theorem dX2_greedy_52 : decode cX2_greedy 52 = .ok (.iload 7, 2) := dk_21 7 (dk_at dksX2_greedy_2 4 rfl rfl)
theorem dX2_greedy_54 : decode cX2_greedy 54 = .ok (.iaload, 1) := dk_46 (dk_at dksX2_greedy_2 6 rfl rfl)
theorem dX2_greedy_55 : decode cX2_greedy 55 = .ok (.laload, 1) := dk_47 (dk_at dksX2_greedy_2 7 rfl rfl)
theorem dX2_greedy_56 : decode cX2_greedy 56 = .ok (.lor, 1) := dk_129 (dk_at dksX2_greedy_2 8 rfl rfl)
theorem dX2_greedy_57 : decode cX2_greedy 57 = .ok (.lstore 5, 2) := dk_55 5 (dk_at dksX2_greedy_2 9 rfl rfl)
theorem dX2_greedy_59 : decode cX2_greedy 59 = .ok (.iinc 7 1, 3) := dk_132 7 1 (dk_at dksX2_greedy_2 11 rfl rfl)
theorem dX2_greedy_62 : decode cX2_greedy 62 = .ok (.goto (-41), 3) := dk_167 255 215 (dk_at dksX2_greedy_2 14 rfl rfl)
theorem dX2_greedy_65 : decode cX2_greedy 65 = .ok (.aload_n 3, 1) := dk_45 (dk_at dksX2_greedy_2 17 rfl rfl)
theorem dX2_greedy_66 : decode cX2_greedy 66 = .ok (.areturn, 1) := dk_176 (dk_at dksX2_greedy_2 18 rfl rfl)
abbrev cX2_bestNext : ByteArray := prog_8_method_40_code
def yX2_bestNext : MethodName := ⟨RX2, "bestNext", "([J[ZJ)I"⟩
def dkwX2_bestNext_3 : List UInt8 := [167, 255, 195, 21, 4, 172]
abbrev dktX2_bestNext_3 : List UInt8 := dkwX2_bestNext_3 ++ []
def dkwX2_bestNext_2 : List UInt8 := [164, 0, 8, 21, 6, 167, 0, 5, 21, 4, 54, 4, 21, 5, 21, 7, 184, 0, 155, 54, 5, 132, 6, 1]
abbrev dktX2_bestNext_2 : List UInt8 := dkwX2_bestNext_2 ++ dktX2_bestNext_3
def dkwX2_bestNext_1 : List UInt8 := [167, 0, 16, 42, 21, 6, 47, 32, 20, 0, 211, 131, 127, 184, 0, 213, 54, 7, 21, 7, 21, 5]
abbrev dktX2_bestNext_1 : List UInt8 := dkwX2_bestNext_1 ++ dktX2_bestNext_2
def dkwX2_bestNext_0 : List UInt8 := [2, 54, 4, 2, 54, 5, 3, 54, 6, 21, 6, 42, 190, 162, 0, 60, 43, 21, 6, 51, 153, 0, 7, 2]
abbrev dktX2_bestNext_0 : List UInt8 := dkwX2_bestNext_0 ++ dktX2_bestNext_1
theorem dksX2_bestNext_0 : cX2_bestNext.data.toList.drop 0 = dktX2_bestNext_0 := by decide +kernel
theorem dksX2_bestNext_1 : cX2_bestNext.data.toList.drop 24 = dktX2_bestNext_1 := dk_seg dksX2_bestNext_0 24 rfl rfl
theorem dksX2_bestNext_2 : cX2_bestNext.data.toList.drop 46 = dktX2_bestNext_2 := dk_seg dksX2_bestNext_1 22 rfl rfl
theorem dksX2_bestNext_3 : cX2_bestNext.data.toList.drop 70 = dktX2_bestNext_3 := dk_seg dksX2_bestNext_2 24 rfl rfl
theorem dX2_bestNext_0 : decode cX2_bestNext 0 = .ok (.iconst (-1), 1) := dk_2 (dk_at dksX2_bestNext_0 0 rfl rfl)
theorem dX2_bestNext_1 : decode cX2_bestNext 1 = .ok (.istore 4, 2) := dk_54 4 (dk_at dksX2_bestNext_0 1 rfl rfl)
theorem dX2_bestNext_3 : decode cX2_bestNext 3 = .ok (.iconst (-1), 1) := dk_2 (dk_at dksX2_bestNext_0 3 rfl rfl)
theorem dX2_bestNext_4 : decode cX2_bestNext 4 = .ok (.istore 5, 2) := dk_54 5 (dk_at dksX2_bestNext_0 4 rfl rfl)
theorem dX2_bestNext_6 : decode cX2_bestNext 6 = .ok (.iconst 0, 1) := dk_3 (dk_at dksX2_bestNext_0 6 rfl rfl)
theorem dX2_bestNext_7 : decode cX2_bestNext 7 = .ok (.istore 6, 2) := dk_54 6 (dk_at dksX2_bestNext_0 7 rfl rfl)
theorem dX2_bestNext_9 : decode cX2_bestNext 9 = .ok (.iload 6, 2) := dk_21 6 (dk_at dksX2_bestNext_0 9 rfl rfl)
theorem dX2_bestNext_11 : decode cX2_bestNext 11 = .ok (.aload_n 0, 1) := dk_42 (dk_at dksX2_bestNext_0 11 rfl rfl)
theorem dX2_bestNext_12 : decode cX2_bestNext 12 = .ok (.arraylength, 1) := dk_190 (dk_at dksX2_bestNext_0 12 rfl rfl)
theorem dX2_bestNext_13 : decode cX2_bestNext 13 = .ok (.if_icmp .ge 60, 3) := dk_162 0 60 (dk_at dksX2_bestNext_0 13 rfl rfl)
theorem dX2_bestNext_16 : decode cX2_bestNext 16 = .ok (.aload_n 1, 1) := dk_43 (dk_at dksX2_bestNext_0 16 rfl rfl)
theorem dX2_bestNext_17 : decode cX2_bestNext 17 = .ok (.iload 6, 2) := dk_21 6 (dk_at dksX2_bestNext_0 17 rfl rfl)
theorem dX2_bestNext_19 : decode cX2_bestNext 19 = .ok (.baload, 1) := dk_51 (dk_at dksX2_bestNext_0 19 rfl rfl)
theorem dX2_bestNext_20 : decode cX2_bestNext 20 = .ok (.ifCond .eq 7, 3) := dk_153 0 7 (dk_at dksX2_bestNext_0 20 rfl rfl)
theorem dX2_bestNext_23 : decode cX2_bestNext 23 = .ok (.iconst (-1), 1) := dk_2 (dk_at dksX2_bestNext_0 23 rfl rfl)
theorem dX2_bestNext_24 : decode cX2_bestNext 24 = .ok (.goto 16, 3) := dk_167 0 16 (dk_at dksX2_bestNext_1 0 rfl rfl)
theorem dX2_bestNext_27 : decode cX2_bestNext 27 = .ok (.aload_n 0, 1) := dk_42 (dk_at dksX2_bestNext_1 3 rfl rfl)
theorem dX2_bestNext_28 : decode cX2_bestNext 28 = .ok (.iload 6, 2) := dk_21 6 (dk_at dksX2_bestNext_1 4 rfl rfl)
theorem dX2_bestNext_30 : decode cX2_bestNext 30 = .ok (.laload, 1) := dk_47 (dk_at dksX2_bestNext_1 6 rfl rfl)
theorem dX2_bestNext_31 : decode cX2_bestNext 31 = .ok (.lload_n 2, 1) := dk_32 (dk_at dksX2_bestNext_1 7 rfl rfl)
theorem dX2_bestNext_32 : decode cX2_bestNext 32 = .ok (.ldc2_w 211, 3) := dk_20 0 211 (dk_at dksX2_bestNext_1 8 rfl rfl)
theorem dX2_bestNext_35 : decode cX2_bestNext 35 = .ok (.lxor, 1) := dk_131 (dk_at dksX2_bestNext_1 11 rfl rfl)
theorem dX2_bestNext_36 : decode cX2_bestNext 36 = .ok (.land, 1) := dk_127 (dk_at dksX2_bestNext_1 12 rfl rfl)
theorem dX2_bestNext_37 : decode cX2_bestNext 37 = .ok (.invokestatic 213, 3) := dk_184 0 213 (dk_at dksX2_bestNext_1 13 rfl rfl)
theorem dX2_bestNext_40 : decode cX2_bestNext 40 = .ok (.istore 7, 2) := dk_54 7 (dk_at dksX2_bestNext_1 16 rfl rfl)
theorem dX2_bestNext_42 : decode cX2_bestNext 42 = .ok (.iload 7, 2) := dk_21 7 (dk_at dksX2_bestNext_1 18 rfl rfl)
theorem dX2_bestNext_44 : decode cX2_bestNext 44 = .ok (.iload 5, 2) := dk_21 5 (dk_at dksX2_bestNext_1 20 rfl rfl)
theorem dX2_bestNext_46 : decode cX2_bestNext 46 = .ok (.if_icmp .le 8, 3) := dk_164 0 8 (dk_at dksX2_bestNext_2 0 rfl rfl)
theorem dX2_bestNext_49 : decode cX2_bestNext 49 = .ok (.iload 6, 2) := dk_21 6 (dk_at dksX2_bestNext_2 3 rfl rfl)
theorem dX2_bestNext_51 : decode cX2_bestNext 51 = .ok (.goto 5, 3) := dk_167 0 5 (dk_at dksX2_bestNext_2 5 rfl rfl)
theorem dX2_bestNext_54 : decode cX2_bestNext 54 = .ok (.iload 4, 2) := dk_21 4 (dk_at dksX2_bestNext_2 8 rfl rfl)
theorem dX2_bestNext_56 : decode cX2_bestNext 56 = .ok (.istore 4, 2) := dk_54 4 (dk_at dksX2_bestNext_2 10 rfl rfl)
theorem dX2_bestNext_58 : decode cX2_bestNext 58 = .ok (.iload 5, 2) := dk_21 5 (dk_at dksX2_bestNext_2 12 rfl rfl)
theorem dX2_bestNext_60 : decode cX2_bestNext 60 = .ok (.iload 7, 2) := dk_21 7 (dk_at dksX2_bestNext_2 14 rfl rfl)
theorem dX2_bestNext_62 : decode cX2_bestNext 62 = .ok (.invokestatic 155, 3) := dk_184 0 155 (dk_at dksX2_bestNext_2 16 rfl rfl)
theorem dX2_bestNext_65 : decode cX2_bestNext 65 = .ok (.istore 5, 2) := dk_54 5 (dk_at dksX2_bestNext_2 19 rfl rfl)
theorem dX2_bestNext_67 : decode cX2_bestNext 67 = .ok (.iinc 6 1, 3) := dk_132 6 1 (dk_at dksX2_bestNext_2 21 rfl rfl)
theorem dX2_bestNext_70 : decode cX2_bestNext 70 = .ok (.goto (-61), 3) := dk_167 255 195 (dk_at dksX2_bestNext_3 0 rfl rfl)
theorem dX2_bestNext_73 : decode cX2_bestNext 73 = .ok (.iload 4, 2) := dk_21 4 (dk_at dksX2_bestNext_3 3 rfl rfl)
theorem dX2_bestNext_75 : decode cX2_bestNext 75 = .ok (.ireturn, 1) := dk_172 (dk_at dksX2_bestNext_3 5 rfl rfl)
abbrev cX2_takenInOrder : ByteArray := prog_8_method_43_code
def yX2_takenInOrder : MethodName := ⟨RX2, "takenInOrder", "()LOfferSky$Bag;"⟩
def dkwX2_takenInOrder_3 : List UInt8 := [132, 6, 1, 167, 255, 226, 45, 176]
abbrev dktX2_takenInOrder_3 : List UInt8 := dkwX2_takenInOrder_3 ++ []
def dkwX2_takenInOrder_2 : List UInt8 := [162, 0, 29, 25, 4, 21, 6, 46, 54, 7, 45, 44, 21, 7, 182, 0, 49, 192, 0, 53, 182, 0, 55]
abbrev dktX2_takenInOrder_2 : List UInt8 := dkwX2_takenInOrder_2 ++ dktX2_takenInOrder_3
def dkwX2_takenInOrder_1 : List UInt8 := [182, 0, 224, 16, 40, 182, 0, 228, 58, 4, 25, 4, 190, 54, 5, 3, 54, 6, 21, 6, 21, 5]
abbrev dktX2_takenInOrder_1 : List UInt8 := dkwX2_takenInOrder_1 ++ dktX2_takenInOrder_2
def dkwX2_takenInOrder_0 : List UInt8 := [42, 182, 0, 80, 76, 42, 43, 182, 0, 83, 77, 187, 0, 9, 89, 183, 0, 11, 78, 42, 42, 44, 43]
abbrev dktX2_takenInOrder_0 : List UInt8 := dkwX2_takenInOrder_0 ++ dktX2_takenInOrder_1
theorem dksX2_takenInOrder_0 : cX2_takenInOrder.data.toList.drop 0 = dktX2_takenInOrder_0 := by decide +kernel
theorem dksX2_takenInOrder_1 : cX2_takenInOrder.data.toList.drop 23 = dktX2_takenInOrder_1 := dk_seg dksX2_takenInOrder_0 23 rfl rfl
theorem dksX2_takenInOrder_2 : cX2_takenInOrder.data.toList.drop 45 = dktX2_takenInOrder_2 := dk_seg dksX2_takenInOrder_1 22 rfl rfl
theorem dksX2_takenInOrder_3 : cX2_takenInOrder.data.toList.drop 68 = dktX2_takenInOrder_3 := dk_seg dksX2_takenInOrder_2 23 rfl rfl
theorem dX2_takenInOrder_0 : decode cX2_takenInOrder 0 = .ok (.aload_n 0, 1) := dk_42 (dk_at dksX2_takenInOrder_0 0 rfl rfl)
theorem dX2_takenInOrder_1 : decode cX2_takenInOrder 1 = .ok (.invokevirtual 80, 3) := dk_182 0 80 (dk_at dksX2_takenInOrder_0 1 rfl rfl)
theorem dX2_takenInOrder_4 : decode cX2_takenInOrder 4 = .ok (.astore_n 1, 1) := dk_76 (dk_at dksX2_takenInOrder_0 4 rfl rfl)
theorem dX2_takenInOrder_5 : decode cX2_takenInOrder 5 = .ok (.aload_n 0, 1) := dk_42 (dk_at dksX2_takenInOrder_0 5 rfl rfl)
theorem dX2_takenInOrder_6 : decode cX2_takenInOrder 6 = .ok (.aload_n 1, 1) := dk_43 (dk_at dksX2_takenInOrder_0 6 rfl rfl)
theorem dX2_takenInOrder_7 : decode cX2_takenInOrder 7 = .ok (.invokevirtual 83, 3) := dk_182 0 83 (dk_at dksX2_takenInOrder_0 7 rfl rfl)
theorem dX2_takenInOrder_10 : decode cX2_takenInOrder 10 = .ok (.astore_n 2, 1) := dk_77 (dk_at dksX2_takenInOrder_0 10 rfl rfl)
theorem dX2_takenInOrder_11 : decode cX2_takenInOrder 11 = .ok (.new 9, 3) := dk_187 0 9 (dk_at dksX2_takenInOrder_0 11 rfl rfl)
theorem dX2_takenInOrder_14 : decode cX2_takenInOrder 14 = .ok (.dup, 1) := dk_89 (dk_at dksX2_takenInOrder_0 14 rfl rfl)
theorem dX2_takenInOrder_15 : decode cX2_takenInOrder 15 = .ok (.invokespecial 11, 3) := dk_183 0 11 (dk_at dksX2_takenInOrder_0 15 rfl rfl)
theorem dX2_takenInOrder_18 : decode cX2_takenInOrder 18 = .ok (.astore_n 3, 1) := dk_78 (dk_at dksX2_takenInOrder_0 18 rfl rfl)
theorem dX2_takenInOrder_19 : decode cX2_takenInOrder 19 = .ok (.aload_n 0, 1) := dk_42 (dk_at dksX2_takenInOrder_0 19 rfl rfl)
theorem dX2_takenInOrder_20 : decode cX2_takenInOrder 20 = .ok (.aload_n 0, 1) := dk_42 (dk_at dksX2_takenInOrder_0 20 rfl rfl)
theorem dX2_takenInOrder_21 : decode cX2_takenInOrder 21 = .ok (.aload_n 2, 1) := dk_44 (dk_at dksX2_takenInOrder_0 21 rfl rfl)
theorem dX2_takenInOrder_22 : decode cX2_takenInOrder 22 = .ok (.aload_n 1, 1) := dk_43 (dk_at dksX2_takenInOrder_0 22 rfl rfl)
theorem dX2_takenInOrder_23 : decode cX2_takenInOrder 23 = .ok (.invokevirtual 224, 3) := dk_182 0 224 (dk_at dksX2_takenInOrder_1 0 rfl rfl)
theorem dX2_takenInOrder_26 : decode cX2_takenInOrder 26 = .ok (.bipush 40, 2) := dk_16 40 (dk_at dksX2_takenInOrder_1 3 rfl rfl)
theorem dX2_takenInOrder_28 : decode cX2_takenInOrder 28 = .ok (.invokevirtual 228, 3) := dk_182 0 228 (dk_at dksX2_takenInOrder_1 5 rfl rfl)
theorem dX2_takenInOrder_31 : decode cX2_takenInOrder 31 = .ok (.astore 4, 2) := dk_58 4 (dk_at dksX2_takenInOrder_1 8 rfl rfl)
theorem dX2_takenInOrder_33 : decode cX2_takenInOrder 33 = .ok (.aload 4, 2) := dk_25 4 (dk_at dksX2_takenInOrder_1 10 rfl rfl)
theorem dX2_takenInOrder_35 : decode cX2_takenInOrder 35 = .ok (.arraylength, 1) := dk_190 (dk_at dksX2_takenInOrder_1 12 rfl rfl)
theorem dX2_takenInOrder_36 : decode cX2_takenInOrder 36 = .ok (.istore 5, 2) := dk_54 5 (dk_at dksX2_takenInOrder_1 13 rfl rfl)
theorem dX2_takenInOrder_38 : decode cX2_takenInOrder 38 = .ok (.iconst 0, 1) := dk_3 (dk_at dksX2_takenInOrder_1 15 rfl rfl)
theorem dX2_takenInOrder_39 : decode cX2_takenInOrder 39 = .ok (.istore 6, 2) := dk_54 6 (dk_at dksX2_takenInOrder_1 16 rfl rfl)
theorem dX2_takenInOrder_41 : decode cX2_takenInOrder 41 = .ok (.iload 6, 2) := dk_21 6 (dk_at dksX2_takenInOrder_1 18 rfl rfl)
theorem dX2_takenInOrder_43 : decode cX2_takenInOrder 43 = .ok (.iload 5, 2) := dk_21 5 (dk_at dksX2_takenInOrder_1 20 rfl rfl)
theorem dX2_takenInOrder_45 : decode cX2_takenInOrder 45 = .ok (.if_icmp .ge 29, 3) := dk_162 0 29 (dk_at dksX2_takenInOrder_2 0 rfl rfl)
theorem dX2_takenInOrder_48 : decode cX2_takenInOrder 48 = .ok (.aload 4, 2) := dk_25 4 (dk_at dksX2_takenInOrder_2 3 rfl rfl)
theorem dX2_takenInOrder_50 : decode cX2_takenInOrder 50 = .ok (.iload 6, 2) := dk_21 6 (dk_at dksX2_takenInOrder_2 5 rfl rfl)
theorem dX2_takenInOrder_52 : decode cX2_takenInOrder 52 = .ok (.iaload, 1) := dk_46 (dk_at dksX2_takenInOrder_2 7 rfl rfl)
theorem dX2_takenInOrder_53 : decode cX2_takenInOrder 53 = .ok (.istore 7, 2) := dk_54 7 (dk_at dksX2_takenInOrder_2 8 rfl rfl)
theorem dX2_takenInOrder_55 : decode cX2_takenInOrder 55 = .ok (.aload_n 3, 1) := dk_45 (dk_at dksX2_takenInOrder_2 10 rfl rfl)
theorem dX2_takenInOrder_56 : decode cX2_takenInOrder 56 = .ok (.aload_n 2, 1) := dk_44 (dk_at dksX2_takenInOrder_2 11 rfl rfl)
theorem dX2_takenInOrder_57 : decode cX2_takenInOrder 57 = .ok (.iload 7, 2) := dk_21 7 (dk_at dksX2_takenInOrder_2 12 rfl rfl)
theorem dX2_takenInOrder_59 : decode cX2_takenInOrder 59 = .ok (.invokevirtual 49, 3) := dk_182 0 49 (dk_at dksX2_takenInOrder_2 14 rfl rfl)
theorem dX2_takenInOrder_62 : decode cX2_takenInOrder 62 = .ok (.checkcast 53, 3) := dk_192 0 53 (dk_at dksX2_takenInOrder_2 17 rfl rfl)
theorem dX2_takenInOrder_65 : decode cX2_takenInOrder 65 = .ok (.invokevirtual 55, 3) := dk_182 0 55 (dk_at dksX2_takenInOrder_2 20 rfl rfl)
theorem dX2_takenInOrder_68 : decode cX2_takenInOrder 68 = .ok (.iinc 6 1, 3) := dk_132 6 1 (dk_at dksX2_takenInOrder_3 0 rfl rfl)
theorem dX2_takenInOrder_71 : decode cX2_takenInOrder 71 = .ok (.goto (-30), 3) := dk_167 255 226 (dk_at dksX2_takenInOrder_3 3 rfl rfl)
theorem dX2_takenInOrder_74 : decode cX2_takenInOrder 74 = .ok (.aload_n 3, 1) := dk_45 (dk_at dksX2_takenInOrder_3 6 rfl rfl)
theorem dX2_takenInOrder_75 : decode cX2_takenInOrder 75 = .ok (.areturn, 1) := dk_176 (dk_at dksX2_takenInOrder_3 7 rfl rfl)
abbrev cX2_scored : ByteArray := prog_8_method_45_code
def yX2_scored : MethodName := ⟨RX2, "scored", "()LOfferSky$Bag;"⟩
def dkwX2_scored_0 : List UInt8 := [42, 182, 0, 80, 42, 186, 0, 232, 0, 0, 182, 0, 139, 176]
abbrev dktX2_scored_0 : List UInt8 := dkwX2_scored_0 ++ []
theorem dksX2_scored_0 : cX2_scored.data.toList.drop 0 = dktX2_scored_0 := by decide +kernel
theorem dX2_scored_0 : decode cX2_scored 0 = .ok (.aload_n 0, 1) := dk_42 (dk_at dksX2_scored_0 0 rfl rfl)
theorem dX2_scored_1 : decode cX2_scored 1 = .ok (.invokevirtual 80, 3) := dk_182 0 80 (dk_at dksX2_scored_0 1 rfl rfl)
theorem dX2_scored_4 : decode cX2_scored 4 = .ok (.aload_n 0, 1) := dk_42 (dk_at dksX2_scored_0 4 rfl rfl)
theorem dX2_scored_5 : decode cX2_scored 5 = .ok (.invokedynamic 232, 5) := by decide +kernel
theorem dX2_scored_10 : decode cX2_scored 10 = .ok (.invokevirtual 139, 3) := dk_182 0 139 (dk_at dksX2_scored_0 10 rfl rfl)
theorem dX2_scored_13 : decode cX2_scored 13 = .ok (.areturn, 1) := dk_176 (dk_at dksX2_scored_0 13 rfl rfl)
abbrev cX2_lambda_scored_15 : ByteArray := prog_8_method_52_code
def yX2_lambda_scored_15 : MethodName := ⟨RX2, "lambda$scored$15", "(LOfferSky$Offer;LOfferSky$Offer;)Z"⟩
def dkwX2_lambda_scored_15_1 : List UInt8 := [172]
abbrev dktX2_lambda_scored_15_1 : List UInt8 := dkwX2_lambda_scored_15_1 ++ []
def dkwX2_lambda_scored_15_0 : List UInt8 := [42, 180, 0, 21, 43, 182, 0, 241, 42, 180, 0, 21, 44, 182, 0, 241, 164, 0, 7, 4, 167, 0, 4, 3]
abbrev dktX2_lambda_scored_15_0 : List UInt8 := dkwX2_lambda_scored_15_0 ++ dktX2_lambda_scored_15_1
theorem dksX2_lambda_scored_15_0 : cX2_lambda_scored_15.data.toList.drop 0 = dktX2_lambda_scored_15_0 := by decide +kernel
theorem dksX2_lambda_scored_15_1 : cX2_lambda_scored_15.data.toList.drop 24 = dktX2_lambda_scored_15_1 := dk_seg dksX2_lambda_scored_15_0 24 rfl rfl
theorem dX2_lambda_scored_15_0 : decode cX2_lambda_scored_15 0 = .ok (.aload_n 0, 1) := dk_42 (dk_at dksX2_lambda_scored_15_0 0 rfl rfl)
theorem dX2_lambda_scored_15_1 : decode cX2_lambda_scored_15 1 = .ok (.getfield 21, 3) := dk_180 0 21 (dk_at dksX2_lambda_scored_15_0 1 rfl rfl)
theorem dX2_lambda_scored_15_4 : decode cX2_lambda_scored_15 4 = .ok (.aload_n 1, 1) := dk_43 (dk_at dksX2_lambda_scored_15_0 4 rfl rfl)
theorem dX2_lambda_scored_15_5 : decode cX2_lambda_scored_15 5 = .ok (.invokevirtual 241, 3) := dk_182 0 241 (dk_at dksX2_lambda_scored_15_0 5 rfl rfl)
theorem dX2_lambda_scored_15_8 : decode cX2_lambda_scored_15 8 = .ok (.aload_n 0, 1) := dk_42 (dk_at dksX2_lambda_scored_15_0 8 rfl rfl)
theorem dX2_lambda_scored_15_9 : decode cX2_lambda_scored_15 9 = .ok (.getfield 21, 3) := dk_180 0 21 (dk_at dksX2_lambda_scored_15_0 9 rfl rfl)
theorem dX2_lambda_scored_15_12 : decode cX2_lambda_scored_15 12 = .ok (.aload_n 2, 1) := dk_44 (dk_at dksX2_lambda_scored_15_0 12 rfl rfl)
theorem dX2_lambda_scored_15_13 : decode cX2_lambda_scored_15 13 = .ok (.invokevirtual 241, 3) := dk_182 0 241 (dk_at dksX2_lambda_scored_15_0 13 rfl rfl)
theorem dX2_lambda_scored_15_16 : decode cX2_lambda_scored_15 16 = .ok (.if_icmp .le 7, 3) := dk_164 0 7 (dk_at dksX2_lambda_scored_15_0 16 rfl rfl)
theorem dX2_lambda_scored_15_19 : decode cX2_lambda_scored_15 19 = .ok (.iconst 1, 1) := dk_4 (dk_at dksX2_lambda_scored_15_0 19 rfl rfl)
theorem dX2_lambda_scored_15_20 : decode cX2_lambda_scored_15 20 = .ok (.goto 4, 3) := dk_167 0 4 (dk_at dksX2_lambda_scored_15_0 20 rfl rfl)
theorem dX2_lambda_scored_15_23 : decode cX2_lambda_scored_15 23 = .ok (.iconst 0, 1) := dk_3 (dk_at dksX2_lambda_scored_15_0 23 rfl rfl)
theorem dX2_lambda_scored_15_24 : decode cX2_lambda_scored_15 24 = .ok (.ireturn, 1) := dk_172 (dk_at dksX2_lambda_scored_15_1 0 rfl rfl)
abbrev cX2_canReach : ByteArray := prog_8_method_46_code
def yX2_canReach : MethodName := ⟨RX2, "canReach", "(II)Z"⟩
def dkwX2_canReach_1 : List UInt8 := [153, 0, 7, 4, 167, 0, 4, 3, 172]
abbrev dktX2_canReach_1 : List UInt8 := dkwX2_canReach_1 ++ []
def dkwX2_canReach_0 : List UInt8 := [27, 28, 159, 0, 29, 42, 180, 0, 21, 27, 182, 0, 184, 153, 0, 18, 42, 180, 0, 21, 28, 182, 0, 184]
abbrev dktX2_canReach_0 : List UInt8 := dkwX2_canReach_0 ++ dktX2_canReach_1
theorem dksX2_canReach_0 : cX2_canReach.data.toList.drop 0 = dktX2_canReach_0 := by decide +kernel
theorem dksX2_canReach_1 : cX2_canReach.data.toList.drop 24 = dktX2_canReach_1 := dk_seg dksX2_canReach_0 24 rfl rfl
theorem dX2_canReach_0 : decode cX2_canReach 0 = .ok (.iload_n 1, 1) := dk_27 (dk_at dksX2_canReach_0 0 rfl rfl)
theorem dX2_canReach_1 : decode cX2_canReach 1 = .ok (.iload_n 2, 1) := dk_28 (dk_at dksX2_canReach_0 1 rfl rfl)
theorem dX2_canReach_2 : decode cX2_canReach 2 = .ok (.if_icmp .eq 29, 3) := dk_159 0 29 (dk_at dksX2_canReach_0 2 rfl rfl)
theorem dX2_canReach_5 : decode cX2_canReach 5 = .ok (.aload_n 0, 1) := dk_42 (dk_at dksX2_canReach_0 5 rfl rfl)
theorem dX2_canReach_6 : decode cX2_canReach 6 = .ok (.getfield 21, 3) := dk_180 0 21 (dk_at dksX2_canReach_0 6 rfl rfl)
theorem dX2_canReach_9 : decode cX2_canReach 9 = .ok (.iload_n 1, 1) := dk_27 (dk_at dksX2_canReach_0 9 rfl rfl)
theorem dX2_canReach_10 : decode cX2_canReach 10 = .ok (.invokevirtual 184, 3) := dk_182 0 184 (dk_at dksX2_canReach_0 10 rfl rfl)
theorem dX2_canReach_13 : decode cX2_canReach 13 = .ok (.ifCond .eq 18, 3) := dk_153 0 18 (dk_at dksX2_canReach_0 13 rfl rfl)
theorem dX2_canReach_16 : decode cX2_canReach 16 = .ok (.aload_n 0, 1) := dk_42 (dk_at dksX2_canReach_0 16 rfl rfl)
theorem dX2_canReach_17 : decode cX2_canReach 17 = .ok (.getfield 21, 3) := dk_180 0 21 (dk_at dksX2_canReach_0 17 rfl rfl)
theorem dX2_canReach_20 : decode cX2_canReach 20 = .ok (.iload_n 2, 1) := dk_28 (dk_at dksX2_canReach_0 20 rfl rfl)
theorem dX2_canReach_21 : decode cX2_canReach 21 = .ok (.invokevirtual 184, 3) := dk_182 0 184 (dk_at dksX2_canReach_0 21 rfl rfl)
theorem dX2_canReach_24 : decode cX2_canReach 24 = .ok (.ifCond .eq 7, 3) := dk_153 0 7 (dk_at dksX2_canReach_1 0 rfl rfl)
theorem dX2_canReach_27 : decode cX2_canReach 27 = .ok (.iconst 1, 1) := dk_4 (dk_at dksX2_canReach_1 3 rfl rfl)
theorem dX2_canReach_28 : decode cX2_canReach 28 = .ok (.goto 4, 3) := dk_167 0 4 (dk_at dksX2_canReach_1 4 rfl rfl)
theorem dX2_canReach_31 : decode cX2_canReach 31 = .ok (.iconst 0, 1) := dk_3 (dk_at dksX2_canReach_1 7 rfl rfl)
theorem dX2_canReach_32 : decode cX2_canReach 32 = .ok (.ireturn, 1) := dk_172 (dk_at dksX2_canReach_1 8 rfl rfl)
abbrev cX2_byAllPairs : ByteArray := prog_8_method_48_code
def yX2_byAllPairs : MethodName := ⟨RX2, "byAllPairs", "(II)I"⟩
def dkwX2_byAllPairs_2 : List UInt8 := [167, 255, 220, 21, 4, 172]
abbrev dktX2_byAllPairs_2 : List UInt8 := dkwX2_byAllPairs_2 ++ []
def dkwX2_byAllPairs_1 : List UInt8 := [21, 5, 16, 100, 108, 28, 21, 5, 16, 100, 112, 182, 0, 233, 184, 0, 171, 96, 54, 4, 132, 5, 1]
abbrev dktX2_byAllPairs_1 : List UInt8 := dkwX2_byAllPairs_1 ++ dktX2_byAllPairs_2
def dkwX2_byAllPairs_0 : List UInt8 := [42, 182, 0, 80, 78, 3, 54, 4, 3, 54, 5, 21, 5, 17, 39, 16, 162, 0, 34, 21, 4, 42, 45, 27]
abbrev dktX2_byAllPairs_0 : List UInt8 := dkwX2_byAllPairs_0 ++ dktX2_byAllPairs_1
theorem dksX2_byAllPairs_0 : cX2_byAllPairs.data.toList.drop 0 = dktX2_byAllPairs_0 := by decide +kernel
theorem dksX2_byAllPairs_1 : cX2_byAllPairs.data.toList.drop 24 = dktX2_byAllPairs_1 := dk_seg dksX2_byAllPairs_0 24 rfl rfl
theorem dksX2_byAllPairs_2 : cX2_byAllPairs.data.toList.drop 47 = dktX2_byAllPairs_2 := dk_seg dksX2_byAllPairs_1 23 rfl rfl
theorem dX2_byAllPairs_0 : decode cX2_byAllPairs 0 = .ok (.aload_n 0, 1) := dk_42 (dk_at dksX2_byAllPairs_0 0 rfl rfl)
theorem dX2_byAllPairs_1 : decode cX2_byAllPairs 1 = .ok (.invokevirtual 80, 3) := dk_182 0 80 (dk_at dksX2_byAllPairs_0 1 rfl rfl)
theorem dX2_byAllPairs_4 : decode cX2_byAllPairs 4 = .ok (.astore_n 3, 1) := dk_78 (dk_at dksX2_byAllPairs_0 4 rfl rfl)
theorem dX2_byAllPairs_5 : decode cX2_byAllPairs 5 = .ok (.iconst 0, 1) := dk_3 (dk_at dksX2_byAllPairs_0 5 rfl rfl)
theorem dX2_byAllPairs_6 : decode cX2_byAllPairs 6 = .ok (.istore 4, 2) := dk_54 4 (dk_at dksX2_byAllPairs_0 6 rfl rfl)
theorem dX2_byAllPairs_8 : decode cX2_byAllPairs 8 = .ok (.iconst 0, 1) := dk_3 (dk_at dksX2_byAllPairs_0 8 rfl rfl)
theorem dX2_byAllPairs_9 : decode cX2_byAllPairs 9 = .ok (.istore 5, 2) := dk_54 5 (dk_at dksX2_byAllPairs_0 9 rfl rfl)
theorem dX2_byAllPairs_11 : decode cX2_byAllPairs 11 = .ok (.iload 5, 2) := dk_21 5 (dk_at dksX2_byAllPairs_0 11 rfl rfl)
theorem dX2_byAllPairs_13 : decode cX2_byAllPairs 13 = .ok (.sipush 10000, 3) := dk_17 39 16 (dk_at dksX2_byAllPairs_0 13 rfl rfl)
theorem dX2_byAllPairs_16 : decode cX2_byAllPairs 16 = .ok (.if_icmp .ge 34, 3) := dk_162 0 34 (dk_at dksX2_byAllPairs_0 16 rfl rfl)
theorem dX2_byAllPairs_19 : decode cX2_byAllPairs 19 = .ok (.iload 4, 2) := dk_21 4 (dk_at dksX2_byAllPairs_0 19 rfl rfl)
theorem dX2_byAllPairs_21 : decode cX2_byAllPairs 21 = .ok (.aload_n 0, 1) := dk_42 (dk_at dksX2_byAllPairs_0 21 rfl rfl)
theorem dX2_byAllPairs_22 : decode cX2_byAllPairs 22 = .ok (.aload_n 3, 1) := dk_45 (dk_at dksX2_byAllPairs_0 22 rfl rfl)
theorem dX2_byAllPairs_23 : decode cX2_byAllPairs 23 = .ok (.iload_n 1, 1) := dk_27 (dk_at dksX2_byAllPairs_0 23 rfl rfl)
theorem dX2_byAllPairs_24 : decode cX2_byAllPairs 24 = .ok (.iload 5, 2) := dk_21 5 (dk_at dksX2_byAllPairs_1 0 rfl rfl)
theorem dX2_byAllPairs_26 : decode cX2_byAllPairs 26 = .ok (.bipush 100, 2) := dk_16 100 (dk_at dksX2_byAllPairs_1 2 rfl rfl)
theorem dX2_byAllPairs_28 : decode cX2_byAllPairs 28 = .ok (.idiv, 1) := dk_108 (dk_at dksX2_byAllPairs_1 4 rfl rfl)
theorem dX2_byAllPairs_29 : decode cX2_byAllPairs 29 = .ok (.iload_n 2, 1) := dk_28 (dk_at dksX2_byAllPairs_1 5 rfl rfl)
theorem dX2_byAllPairs_30 : decode cX2_byAllPairs 30 = .ok (.iload 5, 2) := dk_21 5 (dk_at dksX2_byAllPairs_1 6 rfl rfl)
theorem dX2_byAllPairs_32 : decode cX2_byAllPairs 32 = .ok (.bipush 100, 2) := dk_16 100 (dk_at dksX2_byAllPairs_1 8 rfl rfl)
theorem dX2_byAllPairs_34 : decode cX2_byAllPairs 34 = .ok (.irem, 1) := dk_112 (dk_at dksX2_byAllPairs_1 10 rfl rfl)
theorem dX2_byAllPairs_35 : decode cX2_byAllPairs 35 = .ok (.invokevirtual 233, 3) := dk_182 0 233 (dk_at dksX2_byAllPairs_1 11 rfl rfl)
theorem dX2_byAllPairs_38 : decode cX2_byAllPairs 38 = .ok (.invokestatic 171, 3) := dk_184 0 171 (dk_at dksX2_byAllPairs_1 14 rfl rfl)
theorem dX2_byAllPairs_41 : decode cX2_byAllPairs 41 = .ok (.iadd, 1) := dk_96 (dk_at dksX2_byAllPairs_1 17 rfl rfl)
theorem dX2_byAllPairs_42 : decode cX2_byAllPairs 42 = .ok (.istore 4, 2) := dk_54 4 (dk_at dksX2_byAllPairs_1 18 rfl rfl)
theorem dX2_byAllPairs_44 : decode cX2_byAllPairs 44 = .ok (.iinc 5 1, 3) := dk_132 5 1 (dk_at dksX2_byAllPairs_1 20 rfl rfl)
theorem dX2_byAllPairs_47 : decode cX2_byAllPairs 47 = .ok (.goto (-36), 3) := dk_167 255 220 (dk_at dksX2_byAllPairs_2 0 rfl rfl)
theorem dX2_byAllPairs_50 : decode cX2_byAllPairs 50 = .ok (.iload 4, 2) := dk_21 4 (dk_at dksX2_byAllPairs_2 3 rfl rfl)
theorem dX2_byAllPairs_52 : decode cX2_byAllPairs 52 = .ok (.ireturn, 1) := dk_172 (dk_at dksX2_byAllPairs_2 5 rfl rfl)
abbrev cX2_isReached : ByteArray := prog_8_method_47_code
def yX2_isReached : MethodName := ⟨RX2, "isReached", "(LOfferSky$Bag;IIII)Z"⟩
def dkwX2_isReached_3 : List UInt8 := [132, 7, 1, 167, 255, 191, 21, 6, 172]
abbrev dktX2_isReached_3 : List UInt8 := dkwX2_isReached_3 ++ []
def dkwX2_isReached_2 : List UInt8 := [180, 0, 21, 25, 8, 21, 4, 182, 0, 204, 21, 5, 161, 0, 7, 4, 167, 0, 4, 3, 54, 6]
abbrev dktX2_isReached_2 : List UInt8 := dkwX2_isReached_2 ++ dktX2_isReached_3
def dkwX2_isReached_1 : List UInt8 := [182, 0, 49, 192, 0, 53, 58, 8, 42, 180, 0, 21, 25, 8, 28, 182, 0, 204, 29, 161, 0, 23, 42]
abbrev dktX2_isReached_1 : List UInt8 := dkwX2_isReached_1 ++ dktX2_isReached_2
def dkwX2_isReached_0 : List UInt8 := [3, 54, 6, 3, 54, 7, 21, 7, 43, 182, 0, 41, 162, 0, 62, 21, 6, 154, 0, 57, 43, 21, 7]
abbrev dktX2_isReached_0 : List UInt8 := dkwX2_isReached_0 ++ dktX2_isReached_1
theorem dksX2_isReached_0 : cX2_isReached.data.toList.drop 0 = dktX2_isReached_0 := by decide +kernel
theorem dksX2_isReached_1 : cX2_isReached.data.toList.drop 23 = dktX2_isReached_1 := dk_seg dksX2_isReached_0 23 rfl rfl
theorem dksX2_isReached_2 : cX2_isReached.data.toList.drop 46 = dktX2_isReached_2 := dk_seg dksX2_isReached_1 23 rfl rfl
theorem dksX2_isReached_3 : cX2_isReached.data.toList.drop 68 = dktX2_isReached_3 := dk_seg dksX2_isReached_2 22 rfl rfl
theorem dX2_isReached_0 : decode cX2_isReached 0 = .ok (.iconst 0, 1) := dk_3 (dk_at dksX2_isReached_0 0 rfl rfl)
theorem dX2_isReached_1 : decode cX2_isReached 1 = .ok (.istore 6, 2) := dk_54 6 (dk_at dksX2_isReached_0 1 rfl rfl)
theorem dX2_isReached_3 : decode cX2_isReached 3 = .ok (.iconst 0, 1) := dk_3 (dk_at dksX2_isReached_0 3 rfl rfl)
theorem dX2_isReached_4 : decode cX2_isReached 4 = .ok (.istore 7, 2) := dk_54 7 (dk_at dksX2_isReached_0 4 rfl rfl)
theorem dX2_isReached_6 : decode cX2_isReached 6 = .ok (.iload 7, 2) := dk_21 7 (dk_at dksX2_isReached_0 6 rfl rfl)
theorem dX2_isReached_8 : decode cX2_isReached 8 = .ok (.aload_n 1, 1) := dk_43 (dk_at dksX2_isReached_0 8 rfl rfl)
theorem dX2_isReached_9 : decode cX2_isReached 9 = .ok (.invokevirtual 41, 3) := dk_182 0 41 (dk_at dksX2_isReached_0 9 rfl rfl)
theorem dX2_isReached_12 : decode cX2_isReached 12 = .ok (.if_icmp .ge 62, 3) := dk_162 0 62 (dk_at dksX2_isReached_0 12 rfl rfl)
theorem dX2_isReached_15 : decode cX2_isReached 15 = .ok (.iload 6, 2) := dk_21 6 (dk_at dksX2_isReached_0 15 rfl rfl)
theorem dX2_isReached_17 : decode cX2_isReached 17 = .ok (.ifCond .ne 57, 3) := dk_154 0 57 (dk_at dksX2_isReached_0 17 rfl rfl)
theorem dX2_isReached_20 : decode cX2_isReached 20 = .ok (.aload_n 1, 1) := dk_43 (dk_at dksX2_isReached_0 20 rfl rfl)
theorem dX2_isReached_21 : decode cX2_isReached 21 = .ok (.iload 7, 2) := dk_21 7 (dk_at dksX2_isReached_0 21 rfl rfl)
theorem dX2_isReached_23 : decode cX2_isReached 23 = .ok (.invokevirtual 49, 3) := dk_182 0 49 (dk_at dksX2_isReached_1 0 rfl rfl)
theorem dX2_isReached_26 : decode cX2_isReached 26 = .ok (.checkcast 53, 3) := dk_192 0 53 (dk_at dksX2_isReached_1 3 rfl rfl)
theorem dX2_isReached_29 : decode cX2_isReached 29 = .ok (.astore 8, 2) := dk_58 8 (dk_at dksX2_isReached_1 6 rfl rfl)
theorem dX2_isReached_31 : decode cX2_isReached 31 = .ok (.aload_n 0, 1) := dk_42 (dk_at dksX2_isReached_1 8 rfl rfl)
theorem dX2_isReached_32 : decode cX2_isReached 32 = .ok (.getfield 21, 3) := dk_180 0 21 (dk_at dksX2_isReached_1 9 rfl rfl)
theorem dX2_isReached_35 : decode cX2_isReached 35 = .ok (.aload 8, 2) := dk_25 8 (dk_at dksX2_isReached_1 12 rfl rfl)
theorem dX2_isReached_37 : decode cX2_isReached 37 = .ok (.iload_n 2, 1) := dk_28 (dk_at dksX2_isReached_1 14 rfl rfl)
theorem dX2_isReached_38 : decode cX2_isReached 38 = .ok (.invokevirtual 204, 3) := dk_182 0 204 (dk_at dksX2_isReached_1 15 rfl rfl)
theorem dX2_isReached_41 : decode cX2_isReached 41 = .ok (.iload_n 3, 1) := dk_29 (dk_at dksX2_isReached_1 18 rfl rfl)
theorem dX2_isReached_42 : decode cX2_isReached 42 = .ok (.if_icmp .lt 23, 3) := dk_161 0 23 (dk_at dksX2_isReached_1 19 rfl rfl)
theorem dX2_isReached_45 : decode cX2_isReached 45 = .ok (.aload_n 0, 1) := dk_42 (dk_at dksX2_isReached_1 22 rfl rfl)
theorem dX2_isReached_46 : decode cX2_isReached 46 = .ok (.getfield 21, 3) := dk_180 0 21 (dk_at dksX2_isReached_2 0 rfl rfl)
theorem dX2_isReached_49 : decode cX2_isReached 49 = .ok (.aload 8, 2) := dk_25 8 (dk_at dksX2_isReached_2 3 rfl rfl)
theorem dX2_isReached_51 : decode cX2_isReached 51 = .ok (.iload 4, 2) := dk_21 4 (dk_at dksX2_isReached_2 5 rfl rfl)
theorem dX2_isReached_53 : decode cX2_isReached 53 = .ok (.invokevirtual 204, 3) := dk_182 0 204 (dk_at dksX2_isReached_2 7 rfl rfl)
theorem dX2_isReached_56 : decode cX2_isReached 56 = .ok (.iload 5, 2) := dk_21 5 (dk_at dksX2_isReached_2 10 rfl rfl)
theorem dX2_isReached_58 : decode cX2_isReached 58 = .ok (.if_icmp .lt 7, 3) := dk_161 0 7 (dk_at dksX2_isReached_2 12 rfl rfl)
theorem dX2_isReached_61 : decode cX2_isReached 61 = .ok (.iconst 1, 1) := dk_4 (dk_at dksX2_isReached_2 15 rfl rfl)
theorem dX2_isReached_62 : decode cX2_isReached 62 = .ok (.goto 4, 3) := dk_167 0 4 (dk_at dksX2_isReached_2 16 rfl rfl)
theorem dX2_isReached_65 : decode cX2_isReached 65 = .ok (.iconst 0, 1) := dk_3 (dk_at dksX2_isReached_2 19 rfl rfl)
theorem dX2_isReached_66 : decode cX2_isReached 66 = .ok (.istore 6, 2) := dk_54 6 (dk_at dksX2_isReached_2 20 rfl rfl)
theorem dX2_isReached_68 : decode cX2_isReached 68 = .ok (.iinc 7 1, 3) := dk_132 7 1 (dk_at dksX2_isReached_3 0 rfl rfl)
theorem dX2_isReached_71 : decode cX2_isReached 71 = .ok (.goto (-65), 3) := dk_167 255 191 (dk_at dksX2_isReached_3 3 rfl rfl)
theorem dX2_isReached_74 : decode cX2_isReached 74 = .ok (.iload 6, 2) := dk_21 6 (dk_at dksX2_isReached_3 6 rfl rfl)
theorem dX2_isReached_76 : decode cX2_isReached 76 = .ok (.ireturn, 1) := dk_172 (dk_at dksX2_isReached_3 8 rfl rfl)
abbrev cX2_bySteps : ByteArray := prog_8_method_50_code
def yX2_bySteps : MethodName := ⟨RX2, "bySteps", "(II)I"⟩
def dkwX2_bySteps_1 : List UInt8 := [21, 5, 28, 182, 0, 237, 4, 96, 96, 54, 4, 132, 5, 1, 167, 255, 230, 21, 4, 172]
abbrev dktX2_bySteps_1 : List UInt8 := dkwX2_bySteps_1 ++ []
def dkwX2_bySteps_0 : List UInt8 := [42, 182, 0, 80, 78, 3, 54, 4, 3, 54, 5, 21, 5, 16, 99, 163, 0, 25, 21, 4, 42, 45, 27]
abbrev dktX2_bySteps_0 : List UInt8 := dkwX2_bySteps_0 ++ dktX2_bySteps_1
theorem dksX2_bySteps_0 : cX2_bySteps.data.toList.drop 0 = dktX2_bySteps_0 := by decide +kernel
theorem dksX2_bySteps_1 : cX2_bySteps.data.toList.drop 23 = dktX2_bySteps_1 := dk_seg dksX2_bySteps_0 23 rfl rfl
theorem dX2_bySteps_0 : decode cX2_bySteps 0 = .ok (.aload_n 0, 1) := dk_42 (dk_at dksX2_bySteps_0 0 rfl rfl)
theorem dX2_bySteps_1 : decode cX2_bySteps 1 = .ok (.invokevirtual 80, 3) := dk_182 0 80 (dk_at dksX2_bySteps_0 1 rfl rfl)
theorem dX2_bySteps_4 : decode cX2_bySteps 4 = .ok (.astore_n 3, 1) := dk_78 (dk_at dksX2_bySteps_0 4 rfl rfl)
theorem dX2_bySteps_5 : decode cX2_bySteps 5 = .ok (.iconst 0, 1) := dk_3 (dk_at dksX2_bySteps_0 5 rfl rfl)
theorem dX2_bySteps_6 : decode cX2_bySteps 6 = .ok (.istore 4, 2) := dk_54 4 (dk_at dksX2_bySteps_0 6 rfl rfl)
theorem dX2_bySteps_8 : decode cX2_bySteps 8 = .ok (.iconst 0, 1) := dk_3 (dk_at dksX2_bySteps_0 8 rfl rfl)
theorem dX2_bySteps_9 : decode cX2_bySteps 9 = .ok (.istore 5, 2) := dk_54 5 (dk_at dksX2_bySteps_0 9 rfl rfl)
theorem dX2_bySteps_11 : decode cX2_bySteps 11 = .ok (.iload 5, 2) := dk_21 5 (dk_at dksX2_bySteps_0 11 rfl rfl)
theorem dX2_bySteps_13 : decode cX2_bySteps 13 = .ok (.bipush 99, 2) := dk_16 99 (dk_at dksX2_bySteps_0 13 rfl rfl)
theorem dX2_bySteps_15 : decode cX2_bySteps 15 = .ok (.if_icmp .gt 25, 3) := dk_163 0 25 (dk_at dksX2_bySteps_0 15 rfl rfl)
theorem dX2_bySteps_18 : decode cX2_bySteps 18 = .ok (.iload 4, 2) := dk_21 4 (dk_at dksX2_bySteps_0 18 rfl rfl)
theorem dX2_bySteps_20 : decode cX2_bySteps 20 = .ok (.aload_n 0, 1) := dk_42 (dk_at dksX2_bySteps_0 20 rfl rfl)
theorem dX2_bySteps_21 : decode cX2_bySteps 21 = .ok (.aload_n 3, 1) := dk_45 (dk_at dksX2_bySteps_0 21 rfl rfl)
theorem dX2_bySteps_22 : decode cX2_bySteps 22 = .ok (.iload_n 1, 1) := dk_27 (dk_at dksX2_bySteps_0 22 rfl rfl)
theorem dX2_bySteps_23 : decode cX2_bySteps 23 = .ok (.iload 5, 2) := dk_21 5 (dk_at dksX2_bySteps_1 0 rfl rfl)
theorem dX2_bySteps_25 : decode cX2_bySteps 25 = .ok (.iload_n 2, 1) := dk_28 (dk_at dksX2_bySteps_1 2 rfl rfl)
theorem dX2_bySteps_26 : decode cX2_bySteps 26 = .ok (.invokevirtual 237, 3) := dk_182 0 237 (dk_at dksX2_bySteps_1 3 rfl rfl)
theorem dX2_bySteps_29 : decode cX2_bySteps 29 = .ok (.iconst 1, 1) := dk_4 (dk_at dksX2_bySteps_1 6 rfl rfl)
theorem dX2_bySteps_30 : decode cX2_bySteps 30 = .ok (.iadd, 1) := dk_96 (dk_at dksX2_bySteps_1 7 rfl rfl)
theorem dX2_bySteps_31 : decode cX2_bySteps 31 = .ok (.iadd, 1) := dk_96 (dk_at dksX2_bySteps_1 8 rfl rfl)
theorem dX2_bySteps_32 : decode cX2_bySteps 32 = .ok (.istore 4, 2) := dk_54 4 (dk_at dksX2_bySteps_1 9 rfl rfl)
theorem dX2_bySteps_34 : decode cX2_bySteps 34 = .ok (.iinc 5 1, 3) := dk_132 5 1 (dk_at dksX2_bySteps_1 11 rfl rfl)
theorem dX2_bySteps_37 : decode cX2_bySteps 37 = .ok (.goto (-26), 3) := dk_167 255 230 (dk_at dksX2_bySteps_1 14 rfl rfl)
theorem dX2_bySteps_40 : decode cX2_bySteps 40 = .ok (.iload 4, 2) := dk_21 4 (dk_at dksX2_bySteps_1 17 rfl rfl)
theorem dX2_bySteps_42 : decode cX2_bySteps 42 = .ok (.ireturn, 1) := dk_172 (dk_at dksX2_bySteps_1 19 rfl rfl)
abbrev cX2_bestFrom : ByteArray := prog_8_method_49_code
def yX2_bestFrom : MethodName := ⟨RX2, "bestFrom", "(LOfferSky$Bag;III)I"⟩
def dkwX2_bestFrom_2 : List UInt8 := [21, 4, 182, 0, 204, 184, 0, 155, 167, 0, 5, 21, 5, 54, 5, 132, 6, 1, 167, 255, 196, 21, 5, 172]
abbrev dktX2_bestFrom_2 : List UInt8 := dkwX2_bestFrom_2 ++ []
def dkwX2_bestFrom_1 : List UInt8 := [58, 7, 42, 180, 0, 21, 25, 7, 28, 182, 0, 204, 29, 161, 0, 22, 21, 5, 42, 180, 0, 21, 25, 7]
abbrev dktX2_bestFrom_1 : List UInt8 := dkwX2_bestFrom_1 ++ dktX2_bestFrom_2
def dkwX2_bestFrom_0 : List UInt8 := [2, 54, 5, 3, 54, 6, 21, 6, 43, 182, 0, 41, 162, 0, 57, 43, 21, 6, 182, 0, 49, 192, 0, 53]
abbrev dktX2_bestFrom_0 : List UInt8 := dkwX2_bestFrom_0 ++ dktX2_bestFrom_1
theorem dksX2_bestFrom_0 : cX2_bestFrom.data.toList.drop 0 = dktX2_bestFrom_0 := by decide +kernel
theorem dksX2_bestFrom_1 : cX2_bestFrom.data.toList.drop 24 = dktX2_bestFrom_1 := dk_seg dksX2_bestFrom_0 24 rfl rfl
theorem dksX2_bestFrom_2 : cX2_bestFrom.data.toList.drop 48 = dktX2_bestFrom_2 := dk_seg dksX2_bestFrom_1 24 rfl rfl
theorem dX2_bestFrom_0 : decode cX2_bestFrom 0 = .ok (.iconst (-1), 1) := dk_2 (dk_at dksX2_bestFrom_0 0 rfl rfl)
theorem dX2_bestFrom_1 : decode cX2_bestFrom 1 = .ok (.istore 5, 2) := dk_54 5 (dk_at dksX2_bestFrom_0 1 rfl rfl)
theorem dX2_bestFrom_3 : decode cX2_bestFrom 3 = .ok (.iconst 0, 1) := dk_3 (dk_at dksX2_bestFrom_0 3 rfl rfl)
theorem dX2_bestFrom_4 : decode cX2_bestFrom 4 = .ok (.istore 6, 2) := dk_54 6 (dk_at dksX2_bestFrom_0 4 rfl rfl)
theorem dX2_bestFrom_6 : decode cX2_bestFrom 6 = .ok (.iload 6, 2) := dk_21 6 (dk_at dksX2_bestFrom_0 6 rfl rfl)
theorem dX2_bestFrom_8 : decode cX2_bestFrom 8 = .ok (.aload_n 1, 1) := dk_43 (dk_at dksX2_bestFrom_0 8 rfl rfl)
theorem dX2_bestFrom_9 : decode cX2_bestFrom 9 = .ok (.invokevirtual 41, 3) := dk_182 0 41 (dk_at dksX2_bestFrom_0 9 rfl rfl)
theorem dX2_bestFrom_12 : decode cX2_bestFrom 12 = .ok (.if_icmp .ge 57, 3) := dk_162 0 57 (dk_at dksX2_bestFrom_0 12 rfl rfl)
theorem dX2_bestFrom_15 : decode cX2_bestFrom 15 = .ok (.aload_n 1, 1) := dk_43 (dk_at dksX2_bestFrom_0 15 rfl rfl)
theorem dX2_bestFrom_16 : decode cX2_bestFrom 16 = .ok (.iload 6, 2) := dk_21 6 (dk_at dksX2_bestFrom_0 16 rfl rfl)
theorem dX2_bestFrom_18 : decode cX2_bestFrom 18 = .ok (.invokevirtual 49, 3) := dk_182 0 49 (dk_at dksX2_bestFrom_0 18 rfl rfl)
theorem dX2_bestFrom_21 : decode cX2_bestFrom 21 = .ok (.checkcast 53, 3) := dk_192 0 53 (dk_at dksX2_bestFrom_0 21 rfl rfl)
theorem dX2_bestFrom_24 : decode cX2_bestFrom 24 = .ok (.astore 7, 2) := dk_58 7 (dk_at dksX2_bestFrom_1 0 rfl rfl)
theorem dX2_bestFrom_26 : decode cX2_bestFrom 26 = .ok (.aload_n 0, 1) := dk_42 (dk_at dksX2_bestFrom_1 2 rfl rfl)
theorem dX2_bestFrom_27 : decode cX2_bestFrom 27 = .ok (.getfield 21, 3) := dk_180 0 21 (dk_at dksX2_bestFrom_1 3 rfl rfl)
theorem dX2_bestFrom_30 : decode cX2_bestFrom 30 = .ok (.aload 7, 2) := dk_25 7 (dk_at dksX2_bestFrom_1 6 rfl rfl)
theorem dX2_bestFrom_32 : decode cX2_bestFrom 32 = .ok (.iload_n 2, 1) := dk_28 (dk_at dksX2_bestFrom_1 8 rfl rfl)
theorem dX2_bestFrom_33 : decode cX2_bestFrom 33 = .ok (.invokevirtual 204, 3) := dk_182 0 204 (dk_at dksX2_bestFrom_1 9 rfl rfl)
theorem dX2_bestFrom_36 : decode cX2_bestFrom 36 = .ok (.iload_n 3, 1) := dk_29 (dk_at dksX2_bestFrom_1 12 rfl rfl)
theorem dX2_bestFrom_37 : decode cX2_bestFrom 37 = .ok (.if_icmp .lt 22, 3) := dk_161 0 22 (dk_at dksX2_bestFrom_1 13 rfl rfl)
theorem dX2_bestFrom_40 : decode cX2_bestFrom 40 = .ok (.iload 5, 2) := dk_21 5 (dk_at dksX2_bestFrom_1 16 rfl rfl)
theorem dX2_bestFrom_42 : decode cX2_bestFrom 42 = .ok (.aload_n 0, 1) := dk_42 (dk_at dksX2_bestFrom_1 18 rfl rfl)
theorem dX2_bestFrom_43 : decode cX2_bestFrom 43 = .ok (.getfield 21, 3) := dk_180 0 21 (dk_at dksX2_bestFrom_1 19 rfl rfl)
theorem dX2_bestFrom_46 : decode cX2_bestFrom 46 = .ok (.aload 7, 2) := dk_25 7 (dk_at dksX2_bestFrom_1 22 rfl rfl)
theorem dX2_bestFrom_48 : decode cX2_bestFrom 48 = .ok (.iload 4, 2) := dk_21 4 (dk_at dksX2_bestFrom_2 0 rfl rfl)
theorem dX2_bestFrom_50 : decode cX2_bestFrom 50 = .ok (.invokevirtual 204, 3) := dk_182 0 204 (dk_at dksX2_bestFrom_2 2 rfl rfl)
theorem dX2_bestFrom_53 : decode cX2_bestFrom 53 = .ok (.invokestatic 155, 3) := dk_184 0 155 (dk_at dksX2_bestFrom_2 5 rfl rfl)
theorem dX2_bestFrom_56 : decode cX2_bestFrom 56 = .ok (.goto 5, 3) := dk_167 0 5 (dk_at dksX2_bestFrom_2 8 rfl rfl)
theorem dX2_bestFrom_59 : decode cX2_bestFrom 59 = .ok (.iload 5, 2) := dk_21 5 (dk_at dksX2_bestFrom_2 11 rfl rfl)
theorem dX2_bestFrom_61 : decode cX2_bestFrom 61 = .ok (.istore 5, 2) := dk_54 5 (dk_at dksX2_bestFrom_2 13 rfl rfl)
theorem dX2_bestFrom_63 : decode cX2_bestFrom 63 = .ok (.iinc 6 1, 3) := dk_132 6 1 (dk_at dksX2_bestFrom_2 15 rfl rfl)
theorem dX2_bestFrom_66 : decode cX2_bestFrom 66 = .ok (.goto (-60), 3) := dk_167 255 196 (dk_at dksX2_bestFrom_2 18 rfl rfl)
theorem dX2_bestFrom_69 : decode cX2_bestFrom 69 = .ok (.iload 5, 2) := dk_21 5 (dk_at dksX2_bestFrom_2 21 rfl rfl)
theorem dX2_bestFrom_71 : decode cX2_bestFrom 71 = .ok (.ireturn, 1) := dk_172 (dk_at dksX2_bestFrom_2 23 rfl rfl)
abbrev cX2_hasRoom : ByteArray := prog_8_method_6_code
def yX2_hasRoom : MethodName := ⟨RX2, "hasRoom", "()Z"⟩
def dkwX2_hasRoom_0 : List UInt8 := [42, 180, 0, 12, 182, 0, 41, 16, 40, 162, 0, 7, 4, 167, 0, 4, 3, 172]
abbrev dktX2_hasRoom_0 : List UInt8 := dkwX2_hasRoom_0 ++ []
theorem dksX2_hasRoom_0 : cX2_hasRoom.data.toList.drop 0 = dktX2_hasRoom_0 := by decide +kernel
theorem dX2_hasRoom_0 : decode cX2_hasRoom 0 = .ok (.aload_n 0, 1) := dk_42 (dk_at dksX2_hasRoom_0 0 rfl rfl)
theorem dX2_hasRoom_1 : decode cX2_hasRoom 1 = .ok (.getfield 12, 3) := dk_180 0 12 (dk_at dksX2_hasRoom_0 1 rfl rfl)
theorem dX2_hasRoom_4 : decode cX2_hasRoom 4 = .ok (.invokevirtual 41, 3) := dk_182 0 41 (dk_at dksX2_hasRoom_0 4 rfl rfl)
theorem dX2_hasRoom_7 : decode cX2_hasRoom 7 = .ok (.bipush 40, 2) := dk_16 40 (dk_at dksX2_hasRoom_0 7 rfl rfl)
theorem dX2_hasRoom_9 : decode cX2_hasRoom 9 = .ok (.if_icmp .ge 7, 3) := dk_162 0 7 (dk_at dksX2_hasRoom_0 9 rfl rfl)
theorem dX2_hasRoom_12 : decode cX2_hasRoom 12 = .ok (.iconst 1, 1) := dk_4 (dk_at dksX2_hasRoom_0 12 rfl rfl)
theorem dX2_hasRoom_13 : decode cX2_hasRoom 13 = .ok (.goto 4, 3) := dk_167 0 4 (dk_at dksX2_hasRoom_0 13 rfl rfl)
theorem dX2_hasRoom_16 : decode cX2_hasRoom 16 = .ok (.iconst 0, 1) := dk_3 (dk_at dksX2_hasRoom_0 16 rfl rfl)
theorem dX2_hasRoom_17 : decode cX2_hasRoom 17 = .ok (.ireturn, 1) := dk_172 (dk_at dksX2_hasRoom_0 17 rfl rfl)
abbrev cX2_adds : ByteArray := prog_8_method_7_code
def yX2_adds : MethodName := ⟨RX2, "adds", "(LOfferSky$Offer;)I"⟩
def dkwX2_adds_1 : List UInt8 := [182, 0, 41, 4, 100, 172]
abbrev dktX2_adds_1 : List UInt8 := dkwX2_adds_1 ++ []
def dkwX2_adds_0 : List UInt8 := [42, 180, 0, 12, 43, 182, 0, 55, 42, 89, 180, 0, 34, 4, 96, 181, 0, 34, 42, 180, 0, 12]
abbrev dktX2_adds_0 : List UInt8 := dkwX2_adds_0 ++ dktX2_adds_1
theorem dksX2_adds_0 : cX2_adds.data.toList.drop 0 = dktX2_adds_0 := by decide +kernel
theorem dksX2_adds_1 : cX2_adds.data.toList.drop 22 = dktX2_adds_1 := dk_seg dksX2_adds_0 22 rfl rfl
theorem dX2_adds_0 : decode cX2_adds 0 = .ok (.aload_n 0, 1) := dk_42 (dk_at dksX2_adds_0 0 rfl rfl)
theorem dX2_adds_1 : decode cX2_adds 1 = .ok (.getfield 12, 3) := dk_180 0 12 (dk_at dksX2_adds_0 1 rfl rfl)
theorem dX2_adds_4 : decode cX2_adds 4 = .ok (.aload_n 1, 1) := dk_43 (dk_at dksX2_adds_0 4 rfl rfl)
theorem dX2_adds_5 : decode cX2_adds 5 = .ok (.invokevirtual 55, 3) := dk_182 0 55 (dk_at dksX2_adds_0 5 rfl rfl)
theorem dX2_adds_8 : decode cX2_adds 8 = .ok (.aload_n 0, 1) := dk_42 (dk_at dksX2_adds_0 8 rfl rfl)
theorem dX2_adds_9 : decode cX2_adds 9 = .ok (.dup, 1) := dk_89 (dk_at dksX2_adds_0 9 rfl rfl)
theorem dX2_adds_10 : decode cX2_adds 10 = .ok (.getfield 34, 3) := dk_180 0 34 (dk_at dksX2_adds_0 10 rfl rfl)
theorem dX2_adds_13 : decode cX2_adds 13 = .ok (.iconst 1, 1) := dk_4 (dk_at dksX2_adds_0 13 rfl rfl)
theorem dX2_adds_14 : decode cX2_adds 14 = .ok (.iadd, 1) := dk_96 (dk_at dksX2_adds_0 14 rfl rfl)
theorem dX2_adds_15 : decode cX2_adds 15 = .ok (.putfield 34, 3) := dk_181 0 34 (dk_at dksX2_adds_0 15 rfl rfl)
theorem dX2_adds_18 : decode cX2_adds 18 = .ok (.aload_n 0, 1) := dk_42 (dk_at dksX2_adds_0 18 rfl rfl)
theorem dX2_adds_19 : decode cX2_adds 19 = .ok (.getfield 12, 3) := dk_180 0 12 (dk_at dksX2_adds_0 19 rfl rfl)
theorem dX2_adds_22 : decode cX2_adds 22 = .ok (.invokevirtual 41, 3) := dk_182 0 41 (dk_at dksX2_adds_1 0 rfl rfl)
theorem dX2_adds_25 : decode cX2_adds 25 = .ok (.iconst 1, 1) := dk_4 (dk_at dksX2_adds_1 3 rfl rfl)
theorem dX2_adds_26 : decode cX2_adds 26 = .ok (.isub, 1) := dk_100 (dk_at dksX2_adds_1 4 rfl rfl)
theorem dX2_adds_27 : decode cX2_adds 27 = .ok (.ireturn, 1) := dk_172 (dk_at dksX2_adds_1 5 rfl rfl)
abbrev cX2_isOffer : ByteArray := prog_8_method_3_code
def yX2_isOffer : MethodName := ⟨RX2, "isOffer", "(I)Z"⟩
def dkwX2_isOffer_0 : List UInt8 := [27, 3, 42, 180, 0, 12, 182, 0, 41, 4, 100, 184, 0, 45, 172]
abbrev dktX2_isOffer_0 : List UInt8 := dkwX2_isOffer_0 ++ []
theorem dksX2_isOffer_0 : cX2_isOffer.data.toList.drop 0 = dktX2_isOffer_0 := by decide +kernel
theorem dX2_isOffer_0 : decode cX2_isOffer 0 = .ok (.iload_n 1, 1) := dk_27 (dk_at dksX2_isOffer_0 0 rfl rfl)
theorem dX2_isOffer_1 : decode cX2_isOffer 1 = .ok (.iconst 0, 1) := dk_3 (dk_at dksX2_isOffer_0 1 rfl rfl)
theorem dX2_isOffer_2 : decode cX2_isOffer 2 = .ok (.aload_n 0, 1) := dk_42 (dk_at dksX2_isOffer_0 2 rfl rfl)
theorem dX2_isOffer_3 : decode cX2_isOffer 3 = .ok (.getfield 12, 3) := dk_180 0 12 (dk_at dksX2_isOffer_0 3 rfl rfl)
theorem dX2_isOffer_6 : decode cX2_isOffer 6 = .ok (.invokevirtual 41, 3) := dk_182 0 41 (dk_at dksX2_isOffer_0 6 rfl rfl)
theorem dX2_isOffer_9 : decode cX2_isOffer 9 = .ok (.iconst 1, 1) := dk_4 (dk_at dksX2_isOffer_0 9 rfl rfl)
theorem dX2_isOffer_10 : decode cX2_isOffer 10 = .ok (.isub, 1) := dk_100 (dk_at dksX2_isOffer_0 10 rfl rfl)
theorem dX2_isOffer_11 : decode cX2_isOffer 11 = .ok (.invokestatic 45, 3) := dk_184 0 45 (dk_at dksX2_isOffer_0 11 rfl rfl)
theorem dX2_isOffer_14 : decode cX2_isOffer 14 = .ok (.ireturn, 1) := dk_172 (dk_at dksX2_isOffer_0 14 rfl rfl)
abbrev cX2_removes : ByteArray := prog_8_method_8_code
def yX2_removes : MethodName := ⟨RX2, "removes", "(I)I"⟩
def dkwX2_removes_1 : List UInt8 := [180, 0, 12, 182, 0, 41, 172]
abbrev dktX2_removes_1 : List UInt8 := dkwX2_removes_1 ++ []
def dkwX2_removes_0 : List UInt8 := [42, 180, 0, 12, 27, 182, 0, 59, 192, 0, 53, 77, 42, 89, 180, 0, 38, 4, 96, 181, 0, 38, 42]
abbrev dktX2_removes_0 : List UInt8 := dkwX2_removes_0 ++ dktX2_removes_1
theorem dksX2_removes_0 : cX2_removes.data.toList.drop 0 = dktX2_removes_0 := by decide +kernel
theorem dksX2_removes_1 : cX2_removes.data.toList.drop 23 = dktX2_removes_1 := dk_seg dksX2_removes_0 23 rfl rfl
theorem dX2_removes_0 : decode cX2_removes 0 = .ok (.aload_n 0, 1) := dk_42 (dk_at dksX2_removes_0 0 rfl rfl)
theorem dX2_removes_1 : decode cX2_removes 1 = .ok (.getfield 12, 3) := dk_180 0 12 (dk_at dksX2_removes_0 1 rfl rfl)
theorem dX2_removes_4 : decode cX2_removes 4 = .ok (.iload_n 1, 1) := dk_27 (dk_at dksX2_removes_0 4 rfl rfl)
theorem dX2_removes_5 : decode cX2_removes 5 = .ok (.invokevirtual 59, 3) := dk_182 0 59 (dk_at dksX2_removes_0 5 rfl rfl)
theorem dX2_removes_8 : decode cX2_removes 8 = .ok (.checkcast 53, 3) := dk_192 0 53 (dk_at dksX2_removes_0 8 rfl rfl)
theorem dX2_removes_11 : decode cX2_removes 11 = .ok (.astore_n 2, 1) := dk_77 (dk_at dksX2_removes_0 11 rfl rfl)
theorem dX2_removes_12 : decode cX2_removes 12 = .ok (.aload_n 0, 1) := dk_42 (dk_at dksX2_removes_0 12 rfl rfl)
theorem dX2_removes_13 : decode cX2_removes 13 = .ok (.dup, 1) := dk_89 (dk_at dksX2_removes_0 13 rfl rfl)
theorem dX2_removes_14 : decode cX2_removes 14 = .ok (.getfield 38, 3) := dk_180 0 38 (dk_at dksX2_removes_0 14 rfl rfl)
theorem dX2_removes_17 : decode cX2_removes 17 = .ok (.iconst 1, 1) := dk_4 (dk_at dksX2_removes_0 17 rfl rfl)
theorem dX2_removes_18 : decode cX2_removes 18 = .ok (.iadd, 1) := dk_96 (dk_at dksX2_removes_0 18 rfl rfl)
theorem dX2_removes_19 : decode cX2_removes 19 = .ok (.putfield 38, 3) := dk_181 0 38 (dk_at dksX2_removes_0 19 rfl rfl)
theorem dX2_removes_22 : decode cX2_removes 22 = .ok (.aload_n 0, 1) := dk_42 (dk_at dksX2_removes_0 22 rfl rfl)
theorem dX2_removes_23 : decode cX2_removes 23 = .ok (.getfield 12, 3) := dk_180 0 12 (dk_at dksX2_removes_1 0 rfl rfl)
theorem dX2_removes_26 : decode cX2_removes 26 = .ok (.invokevirtual 41, 3) := dk_182 0 41 (dk_at dksX2_removes_1 3 rfl rfl)
theorem dX2_removes_29 : decode cX2_removes 29 = .ok (.ireturn, 1) := dk_172 (dk_at dksX2_removes_1 6 rfl rfl)
abbrev cX2_changes : ByteArray := prog_8_method_9_code
def yX2_changes : MethodName := ⟨RX2, "changes", "(III)I"⟩
def dkwX2_changes_1 : List UInt8 := [29, 182, 0, 66, 182, 0, 70, 192, 0, 53, 58, 5, 25, 5, 180, 0, 76, 28, 46, 172]
abbrev dktX2_changes_1 : List UInt8 := dkwX2_changes_1 ++ []
def dkwX2_changes_0 : List UInt8 := [42, 180, 0, 12, 27, 182, 0, 49, 192, 0, 53, 58, 4, 42, 180, 0, 12, 180, 0, 62, 27, 25, 4, 28]
abbrev dktX2_changes_0 : List UInt8 := dkwX2_changes_0 ++ dktX2_changes_1
theorem dksX2_changes_0 : cX2_changes.data.toList.drop 0 = dktX2_changes_0 := by decide +kernel
theorem dksX2_changes_1 : cX2_changes.data.toList.drop 24 = dktX2_changes_1 := dk_seg dksX2_changes_0 24 rfl rfl
theorem dX2_changes_0 : decode cX2_changes 0 = .ok (.aload_n 0, 1) := dk_42 (dk_at dksX2_changes_0 0 rfl rfl)
theorem dX2_changes_1 : decode cX2_changes 1 = .ok (.getfield 12, 3) := dk_180 0 12 (dk_at dksX2_changes_0 1 rfl rfl)
theorem dX2_changes_4 : decode cX2_changes 4 = .ok (.iload_n 1, 1) := dk_27 (dk_at dksX2_changes_0 4 rfl rfl)
theorem dX2_changes_5 : decode cX2_changes 5 = .ok (.invokevirtual 49, 3) := dk_182 0 49 (dk_at dksX2_changes_0 5 rfl rfl)
theorem dX2_changes_8 : decode cX2_changes 8 = .ok (.checkcast 53, 3) := dk_192 0 53 (dk_at dksX2_changes_0 8 rfl rfl)
theorem dX2_changes_11 : decode cX2_changes 11 = .ok (.astore 4, 2) := dk_58 4 (dk_at dksX2_changes_0 11 rfl rfl)
theorem dX2_changes_13 : decode cX2_changes 13 = .ok (.aload_n 0, 1) := dk_42 (dk_at dksX2_changes_0 13 rfl rfl)
theorem dX2_changes_14 : decode cX2_changes 14 = .ok (.getfield 12, 3) := dk_180 0 12 (dk_at dksX2_changes_0 14 rfl rfl)
theorem dX2_changes_17 : decode cX2_changes 17 = .ok (.getfield 62, 3) := dk_180 0 62 (dk_at dksX2_changes_0 17 rfl rfl)
theorem dX2_changes_20 : decode cX2_changes 20 = .ok (.iload_n 1, 1) := dk_27 (dk_at dksX2_changes_0 20 rfl rfl)
theorem dX2_changes_21 : decode cX2_changes 21 = .ok (.aload 4, 2) := dk_25 4 (dk_at dksX2_changes_0 21 rfl rfl)
theorem dX2_changes_23 : decode cX2_changes 23 = .ok (.iload_n 2, 1) := dk_28 (dk_at dksX2_changes_0 23 rfl rfl)
theorem dX2_changes_24 : decode cX2_changes 24 = .ok (.iload_n 3, 1) := dk_29 (dk_at dksX2_changes_1 0 rfl rfl)
theorem dX2_changes_25 : decode cX2_changes 25 = .ok (.invokevirtual 66, 3) := dk_182 0 66 (dk_at dksX2_changes_1 1 rfl rfl)
theorem dX2_changes_28 : decode cX2_changes 28 = .ok (.invokevirtual 70, 3) := dk_182 0 70 (dk_at dksX2_changes_1 4 rfl rfl)
theorem dX2_changes_31 : decode cX2_changes 31 = .ok (.checkcast 53, 3) := dk_192 0 53 (dk_at dksX2_changes_1 7 rfl rfl)
theorem dX2_changes_34 : decode cX2_changes 34 = .ok (.astore 5, 2) := dk_58 5 (dk_at dksX2_changes_1 10 rfl rfl)
theorem dX2_changes_36 : decode cX2_changes 36 = .ok (.aload 5, 2) := dk_25 5 (dk_at dksX2_changes_1 12 rfl rfl)
theorem dX2_changes_38 : decode cX2_changes 38 = .ok (.getfield 76, 3) := dk_180 0 76 (dk_at dksX2_changes_1 14 rfl rfl)
theorem dX2_changes_41 : decode cX2_changes 41 = .ok (.iload_n 2, 1) := dk_28 (dk_at dksX2_changes_1 17 rfl rfl)
theorem dX2_changes_42 : decode cX2_changes 42 = .ok (.iaload, 1) := dk_46 (dk_at dksX2_changes_1 18 rfl rfl)
theorem dX2_changes_43 : decode cX2_changes 43 = .ok (.ireturn, 1) := dk_172 (dk_at dksX2_changes_1 19 rfl rfl)
abbrev cX2_wishes : ByteArray := prog_8_method_11_code
def yX2_wishes : MethodName := ⟨RX2, "wishes", "(II)I"⟩
def dkwX2_wishes_0 : List UInt8 := [42, 180, 0, 21, 180, 0, 95, 27, 46, 62, 42, 180, 0, 21, 180, 0, 95, 27, 28, 79, 29, 172]
abbrev dktX2_wishes_0 : List UInt8 := dkwX2_wishes_0 ++ []
theorem dksX2_wishes_0 : cX2_wishes.data.toList.drop 0 = dktX2_wishes_0 := by decide +kernel
theorem dX2_wishes_0 : decode cX2_wishes 0 = .ok (.aload_n 0, 1) := dk_42 (dk_at dksX2_wishes_0 0 rfl rfl)
theorem dX2_wishes_1 : decode cX2_wishes 1 = .ok (.getfield 21, 3) := dk_180 0 21 (dk_at dksX2_wishes_0 1 rfl rfl)
theorem dX2_wishes_4 : decode cX2_wishes 4 = .ok (.getfield 95, 3) := dk_180 0 95 (dk_at dksX2_wishes_0 4 rfl rfl)
theorem dX2_wishes_7 : decode cX2_wishes 7 = .ok (.iload_n 1, 1) := dk_27 (dk_at dksX2_wishes_0 7 rfl rfl)
theorem dX2_wishes_8 : decode cX2_wishes 8 = .ok (.iaload, 1) := dk_46 (dk_at dksX2_wishes_0 8 rfl rfl)
theorem dX2_wishes_9 : decode cX2_wishes 9 = .ok (.istore_n 3, 1) := dk_62 (dk_at dksX2_wishes_0 9 rfl rfl)
theorem dX2_wishes_10 : decode cX2_wishes 10 = .ok (.aload_n 0, 1) := dk_42 (dk_at dksX2_wishes_0 10 rfl rfl)
theorem dX2_wishes_11 : decode cX2_wishes 11 = .ok (.getfield 21, 3) := dk_180 0 21 (dk_at dksX2_wishes_0 11 rfl rfl)
theorem dX2_wishes_14 : decode cX2_wishes 14 = .ok (.getfield 95, 3) := dk_180 0 95 (dk_at dksX2_wishes_0 14 rfl rfl)
theorem dX2_wishes_17 : decode cX2_wishes 17 = .ok (.iload_n 1, 1) := dk_27 (dk_at dksX2_wishes_0 17 rfl rfl)
theorem dX2_wishes_18 : decode cX2_wishes 18 = .ok (.iload_n 2, 1) := dk_28 (dk_at dksX2_wishes_0 18 rfl rfl)
theorem dX2_wishes_19 : decode cX2_wishes 19 = .ok (.iastore, 1) := dk_79 (dk_at dksX2_wishes_0 19 rfl rfl)
theorem dX2_wishes_20 : decode cX2_wishes 20 = .ok (.iload_n 3, 1) := dk_29 (dk_at dksX2_wishes_0 20 rfl rfl)
theorem dX2_wishes_21 : decode cX2_wishes 21 = .ok (.ireturn, 1) := dk_172 (dk_at dksX2_wishes_0 21 rfl rfl)
abbrev cX2_bounds : ByteArray := prog_8_method_12_code
def yX2_bounds : MethodName := ⟨RX2, "bounds", "(III)I"⟩
def dkwX2_bounds_1 : List UInt8 := [182, 0, 41, 172]
abbrev dktX2_bounds_1 : List UInt8 := dkwX2_bounds_1 ++ []
def dkwX2_bounds_0 : List UInt8 := [42, 180, 0, 21, 180, 0, 98, 27, 28, 79, 42, 180, 0, 21, 180, 0, 101, 27, 29, 79, 42, 182, 0, 80]
abbrev dktX2_bounds_0 : List UInt8 := dkwX2_bounds_0 ++ dktX2_bounds_1
theorem dksX2_bounds_0 : cX2_bounds.data.toList.drop 0 = dktX2_bounds_0 := by decide +kernel
theorem dksX2_bounds_1 : cX2_bounds.data.toList.drop 24 = dktX2_bounds_1 := dk_seg dksX2_bounds_0 24 rfl rfl
theorem dX2_bounds_0 : decode cX2_bounds 0 = .ok (.aload_n 0, 1) := dk_42 (dk_at dksX2_bounds_0 0 rfl rfl)
theorem dX2_bounds_1 : decode cX2_bounds 1 = .ok (.getfield 21, 3) := dk_180 0 21 (dk_at dksX2_bounds_0 1 rfl rfl)
theorem dX2_bounds_4 : decode cX2_bounds 4 = .ok (.getfield 98, 3) := dk_180 0 98 (dk_at dksX2_bounds_0 4 rfl rfl)
theorem dX2_bounds_7 : decode cX2_bounds 7 = .ok (.iload_n 1, 1) := dk_27 (dk_at dksX2_bounds_0 7 rfl rfl)
theorem dX2_bounds_8 : decode cX2_bounds 8 = .ok (.iload_n 2, 1) := dk_28 (dk_at dksX2_bounds_0 8 rfl rfl)
theorem dX2_bounds_9 : decode cX2_bounds 9 = .ok (.iastore, 1) := dk_79 (dk_at dksX2_bounds_0 9 rfl rfl)
theorem dX2_bounds_10 : decode cX2_bounds 10 = .ok (.aload_n 0, 1) := dk_42 (dk_at dksX2_bounds_0 10 rfl rfl)
theorem dX2_bounds_11 : decode cX2_bounds 11 = .ok (.getfield 21, 3) := dk_180 0 21 (dk_at dksX2_bounds_0 11 rfl rfl)
theorem dX2_bounds_14 : decode cX2_bounds 14 = .ok (.getfield 101, 3) := dk_180 0 101 (dk_at dksX2_bounds_0 14 rfl rfl)
theorem dX2_bounds_17 : decode cX2_bounds 17 = .ok (.iload_n 1, 1) := dk_27 (dk_at dksX2_bounds_0 17 rfl rfl)
theorem dX2_bounds_18 : decode cX2_bounds 18 = .ok (.iload_n 3, 1) := dk_29 (dk_at dksX2_bounds_0 18 rfl rfl)
theorem dX2_bounds_19 : decode cX2_bounds 19 = .ok (.iastore, 1) := dk_79 (dk_at dksX2_bounds_0 19 rfl rfl)
theorem dX2_bounds_20 : decode cX2_bounds 20 = .ok (.aload_n 0, 1) := dk_42 (dk_at dksX2_bounds_0 20 rfl rfl)
theorem dX2_bounds_21 : decode cX2_bounds 21 = .ok (.invokevirtual 80, 3) := dk_182 0 80 (dk_at dksX2_bounds_0 21 rfl rfl)
theorem dX2_bounds_24 : decode cX2_bounds 24 = .ok (.invokevirtual 41, 3) := dk_182 0 41 (dk_at dksX2_bounds_1 0 rfl rfl)
theorem dX2_bounds_27 : decode cX2_bounds 27 = .ok (.ireturn, 1) := dk_172 (dk_at dksX2_bounds_1 3 rfl rfl)
abbrev cX2_setsOf : ByteArray := prog_8_method_28_code
def yX2_setsOf : MethodName := ⟨RX2, "setsOf", "(LOfferSky$Offer;)I"⟩
def dkwX2_setsOf_2 : List UInt8 := [167, 255, 221, 29, 172]
abbrev dktX2_setsOf_2 : List UInt8 := dkwX2_setsOf_2 ++ []
def dkwX2_setsOf_1 : List UInt8 := [182, 0, 116, 153, 0, 23, 29, 42, 43, 44, 21, 4, 182, 0, 168, 184, 0, 171, 96, 62, 132, 4, 1]
abbrev dktX2_setsOf_1 : List UInt8 := dkwX2_setsOf_1 ++ dktX2_setsOf_2
def dkwX2_setsOf_0 : List UInt8 := [42, 182, 0, 80, 77, 3, 62, 4, 54, 4, 21, 4, 16, 15, 163, 0, 34, 42, 180, 0, 21, 43]
abbrev dktX2_setsOf_0 : List UInt8 := dkwX2_setsOf_0 ++ dktX2_setsOf_1
theorem dksX2_setsOf_0 : cX2_setsOf.data.toList.drop 0 = dktX2_setsOf_0 := by decide +kernel
theorem dksX2_setsOf_1 : cX2_setsOf.data.toList.drop 22 = dktX2_setsOf_1 := dk_seg dksX2_setsOf_0 22 rfl rfl
theorem dksX2_setsOf_2 : cX2_setsOf.data.toList.drop 45 = dktX2_setsOf_2 := dk_seg dksX2_setsOf_1 23 rfl rfl
theorem dX2_setsOf_0 : decode cX2_setsOf 0 = .ok (.aload_n 0, 1) := dk_42 (dk_at dksX2_setsOf_0 0 rfl rfl)
theorem dX2_setsOf_1 : decode cX2_setsOf 1 = .ok (.invokevirtual 80, 3) := dk_182 0 80 (dk_at dksX2_setsOf_0 1 rfl rfl)
theorem dX2_setsOf_4 : decode cX2_setsOf 4 = .ok (.astore_n 2, 1) := dk_77 (dk_at dksX2_setsOf_0 4 rfl rfl)
theorem dX2_setsOf_5 : decode cX2_setsOf 5 = .ok (.iconst 0, 1) := dk_3 (dk_at dksX2_setsOf_0 5 rfl rfl)
theorem dX2_setsOf_6 : decode cX2_setsOf 6 = .ok (.istore_n 3, 1) := dk_62 (dk_at dksX2_setsOf_0 6 rfl rfl)
theorem dX2_setsOf_7 : decode cX2_setsOf 7 = .ok (.iconst 1, 1) := dk_4 (dk_at dksX2_setsOf_0 7 rfl rfl)
theorem dX2_setsOf_8 : decode cX2_setsOf 8 = .ok (.istore 4, 2) := dk_54 4 (dk_at dksX2_setsOf_0 8 rfl rfl)
theorem dX2_setsOf_10 : decode cX2_setsOf 10 = .ok (.iload 4, 2) := dk_21 4 (dk_at dksX2_setsOf_0 10 rfl rfl)
theorem dX2_setsOf_12 : decode cX2_setsOf 12 = .ok (.bipush 15, 2) := dk_16 15 (dk_at dksX2_setsOf_0 12 rfl rfl)
theorem dX2_setsOf_14 : decode cX2_setsOf 14 = .ok (.if_icmp .gt 34, 3) := dk_163 0 34 (dk_at dksX2_setsOf_0 14 rfl rfl)
theorem dX2_setsOf_17 : decode cX2_setsOf 17 = .ok (.aload_n 0, 1) := dk_42 (dk_at dksX2_setsOf_0 17 rfl rfl)
theorem dX2_setsOf_18 : decode cX2_setsOf 18 = .ok (.getfield 21, 3) := dk_180 0 21 (dk_at dksX2_setsOf_0 18 rfl rfl)
theorem dX2_setsOf_21 : decode cX2_setsOf 21 = .ok (.aload_n 1, 1) := dk_43 (dk_at dksX2_setsOf_0 21 rfl rfl)
theorem dX2_setsOf_22 : decode cX2_setsOf 22 = .ok (.invokevirtual 116, 3) := dk_182 0 116 (dk_at dksX2_setsOf_1 0 rfl rfl)
theorem dX2_setsOf_25 : decode cX2_setsOf 25 = .ok (.ifCond .eq 23, 3) := dk_153 0 23 (dk_at dksX2_setsOf_1 3 rfl rfl)
theorem dX2_setsOf_28 : decode cX2_setsOf 28 = .ok (.iload_n 3, 1) := dk_29 (dk_at dksX2_setsOf_1 6 rfl rfl)
theorem dX2_setsOf_29 : decode cX2_setsOf 29 = .ok (.aload_n 0, 1) := dk_42 (dk_at dksX2_setsOf_1 7 rfl rfl)
theorem dX2_setsOf_30 : decode cX2_setsOf 30 = .ok (.aload_n 1, 1) := dk_43 (dk_at dksX2_setsOf_1 8 rfl rfl)
theorem dX2_setsOf_31 : decode cX2_setsOf 31 = .ok (.aload_n 2, 1) := dk_44 (dk_at dksX2_setsOf_1 9 rfl rfl)
theorem dX2_setsOf_32 : decode cX2_setsOf 32 = .ok (.iload 4, 2) := dk_21 4 (dk_at dksX2_setsOf_1 10 rfl rfl)
theorem dX2_setsOf_34 : decode cX2_setsOf 34 = .ok (.invokevirtual 168, 3) := dk_182 0 168 (dk_at dksX2_setsOf_1 12 rfl rfl)
theorem dX2_setsOf_37 : decode cX2_setsOf 37 = .ok (.invokestatic 171, 3) := dk_184 0 171 (dk_at dksX2_setsOf_1 15 rfl rfl)
theorem dX2_setsOf_40 : decode cX2_setsOf 40 = .ok (.iadd, 1) := dk_96 (dk_at dksX2_setsOf_1 18 rfl rfl)
theorem dX2_setsOf_41 : decode cX2_setsOf 41 = .ok (.istore_n 3, 1) := dk_62 (dk_at dksX2_setsOf_1 19 rfl rfl)
theorem dX2_setsOf_42 : decode cX2_setsOf 42 = .ok (.iinc 4 1, 3) := dk_132 4 1 (dk_at dksX2_setsOf_1 20 rfl rfl)
theorem dX2_setsOf_45 : decode cX2_setsOf 45 = .ok (.goto (-35), 3) := dk_167 255 221 (dk_at dksX2_setsOf_2 0 rfl rfl)
theorem dX2_setsOf_48 : decode cX2_setsOf 48 = .ok (.iload_n 3, 1) := dk_29 (dk_at dksX2_setsOf_2 3 rfl rfl)
theorem dX2_setsOf_49 : decode cX2_setsOf 49 = .ok (.ireturn, 1) := dk_172 (dk_at dksX2_setsOf_2 4 rfl rfl)
abbrev cX2_wouldStand : ByteArray := prog_8_method_30_code
def yX2_wouldStand : MethodName := ⟨RX2, "wouldStand", "(LOfferSky$Offer;)Z"⟩
def dkwX2_wouldStand_1 : List UInt8 := [154, 0, 7, 4, 167, 0, 4, 3, 172]
abbrev dktX2_wouldStand_1 : List UInt8 := dkwX2_wouldStand_1 ++ []
def dkwX2_wouldStand_0 : List UInt8 := [42, 180, 0, 21, 43, 182, 0, 116, 153, 0, 21, 42, 43, 42, 182, 0, 80, 16, 15, 182, 0, 130]
abbrev dktX2_wouldStand_0 : List UInt8 := dkwX2_wouldStand_0 ++ dktX2_wouldStand_1
theorem dksX2_wouldStand_0 : cX2_wouldStand.data.toList.drop 0 = dktX2_wouldStand_0 := by decide +kernel
theorem dksX2_wouldStand_1 : cX2_wouldStand.data.toList.drop 22 = dktX2_wouldStand_1 := dk_seg dksX2_wouldStand_0 22 rfl rfl
theorem dX2_wouldStand_0 : decode cX2_wouldStand 0 = .ok (.aload_n 0, 1) := dk_42 (dk_at dksX2_wouldStand_0 0 rfl rfl)
theorem dX2_wouldStand_1 : decode cX2_wouldStand 1 = .ok (.getfield 21, 3) := dk_180 0 21 (dk_at dksX2_wouldStand_0 1 rfl rfl)
theorem dX2_wouldStand_4 : decode cX2_wouldStand 4 = .ok (.aload_n 1, 1) := dk_43 (dk_at dksX2_wouldStand_0 4 rfl rfl)
theorem dX2_wouldStand_5 : decode cX2_wouldStand 5 = .ok (.invokevirtual 116, 3) := dk_182 0 116 (dk_at dksX2_wouldStand_0 5 rfl rfl)
theorem dX2_wouldStand_8 : decode cX2_wouldStand 8 = .ok (.ifCond .eq 21, 3) := dk_153 0 21 (dk_at dksX2_wouldStand_0 8 rfl rfl)
theorem dX2_wouldStand_11 : decode cX2_wouldStand 11 = .ok (.aload_n 0, 1) := dk_42 (dk_at dksX2_wouldStand_0 11 rfl rfl)
theorem dX2_wouldStand_12 : decode cX2_wouldStand 12 = .ok (.aload_n 1, 1) := dk_43 (dk_at dksX2_wouldStand_0 12 rfl rfl)
theorem dX2_wouldStand_13 : decode cX2_wouldStand 13 = .ok (.aload_n 0, 1) := dk_42 (dk_at dksX2_wouldStand_0 13 rfl rfl)
theorem dX2_wouldStand_14 : decode cX2_wouldStand 14 = .ok (.invokevirtual 80, 3) := dk_182 0 80 (dk_at dksX2_wouldStand_0 14 rfl rfl)
theorem dX2_wouldStand_17 : decode cX2_wouldStand 17 = .ok (.bipush 15, 2) := dk_16 15 (dk_at dksX2_wouldStand_0 17 rfl rfl)
theorem dX2_wouldStand_19 : decode cX2_wouldStand 19 = .ok (.invokevirtual 130, 3) := dk_182 0 130 (dk_at dksX2_wouldStand_0 19 rfl rfl)
theorem dX2_wouldStand_22 : decode cX2_wouldStand 22 = .ok (.ifCond .ne 7, 3) := dk_154 0 7 (dk_at dksX2_wouldStand_1 0 rfl rfl)
theorem dX2_wouldStand_25 : decode cX2_wouldStand 25 = .ok (.iconst 1, 1) := dk_4 (dk_at dksX2_wouldStand_1 3 rfl rfl)
theorem dX2_wouldStand_26 : decode cX2_wouldStand 26 = .ok (.goto 4, 3) := dk_167 0 4 (dk_at dksX2_wouldStand_1 4 rfl rfl)
theorem dX2_wouldStand_29 : decode cX2_wouldStand 29 = .ok (.iconst 0, 1) := dk_3 (dk_at dksX2_wouldStand_1 7 rfl rfl)
theorem dX2_wouldStand_30 : decode cX2_wouldStand 30 = .ok (.ireturn, 1) := dk_172 (dk_at dksX2_wouldStand_1 8 rfl rfl)
abbrev cX2_wouldFall : ByteArray := prog_8_method_31_code
def yX2_wouldFall : MethodName := ⟨RX2, "wouldFall", "(LOfferSky$Offer;)I"⟩
def dkwX2_wouldFall_1 : List UInt8 := [186, 0, 176, 0, 0, 182, 0, 123, 172]
abbrev dktX2_wouldFall_1 : List UInt8 := dkwX2_wouldFall_1 ++ []
def dkwX2_wouldFall_0 : List UInt8 := [42, 180, 0, 21, 43, 182, 0, 116, 154, 0, 5, 3, 172, 42, 42, 182, 0, 80, 182, 0, 83, 42, 43]
abbrev dktX2_wouldFall_0 : List UInt8 := dkwX2_wouldFall_0 ++ dktX2_wouldFall_1
theorem dksX2_wouldFall_0 : cX2_wouldFall.data.toList.drop 0 = dktX2_wouldFall_0 := by decide +kernel
theorem dksX2_wouldFall_1 : cX2_wouldFall.data.toList.drop 23 = dktX2_wouldFall_1 := dk_seg dksX2_wouldFall_0 23 rfl rfl
theorem dX2_wouldFall_0 : decode cX2_wouldFall 0 = .ok (.aload_n 0, 1) := dk_42 (dk_at dksX2_wouldFall_0 0 rfl rfl)
theorem dX2_wouldFall_1 : decode cX2_wouldFall 1 = .ok (.getfield 21, 3) := dk_180 0 21 (dk_at dksX2_wouldFall_0 1 rfl rfl)
theorem dX2_wouldFall_4 : decode cX2_wouldFall 4 = .ok (.aload_n 1, 1) := dk_43 (dk_at dksX2_wouldFall_0 4 rfl rfl)
theorem dX2_wouldFall_5 : decode cX2_wouldFall 5 = .ok (.invokevirtual 116, 3) := dk_182 0 116 (dk_at dksX2_wouldFall_0 5 rfl rfl)
theorem dX2_wouldFall_8 : decode cX2_wouldFall 8 = .ok (.ifCond .ne 5, 3) := dk_154 0 5 (dk_at dksX2_wouldFall_0 8 rfl rfl)
theorem dX2_wouldFall_11 : decode cX2_wouldFall 11 = .ok (.iconst 0, 1) := dk_3 (dk_at dksX2_wouldFall_0 11 rfl rfl)
theorem dX2_wouldFall_12 : decode cX2_wouldFall 12 = .ok (.ireturn, 1) := dk_172 (dk_at dksX2_wouldFall_0 12 rfl rfl)
theorem dX2_wouldFall_13 : decode cX2_wouldFall 13 = .ok (.aload_n 0, 1) := dk_42 (dk_at dksX2_wouldFall_0 13 rfl rfl)
theorem dX2_wouldFall_14 : decode cX2_wouldFall 14 = .ok (.aload_n 0, 1) := dk_42 (dk_at dksX2_wouldFall_0 14 rfl rfl)
theorem dX2_wouldFall_15 : decode cX2_wouldFall 15 = .ok (.invokevirtual 80, 3) := dk_182 0 80 (dk_at dksX2_wouldFall_0 15 rfl rfl)
theorem dX2_wouldFall_18 : decode cX2_wouldFall 18 = .ok (.invokevirtual 83, 3) := dk_182 0 83 (dk_at dksX2_wouldFall_0 18 rfl rfl)
theorem dX2_wouldFall_21 : decode cX2_wouldFall 21 = .ok (.aload_n 0, 1) := dk_42 (dk_at dksX2_wouldFall_0 21 rfl rfl)
theorem dX2_wouldFall_22 : decode cX2_wouldFall 22 = .ok (.aload_n 1, 1) := dk_43 (dk_at dksX2_wouldFall_0 22 rfl rfl)
theorem dX2_wouldFall_23 : decode cX2_wouldFall 23 = .ok (.invokedynamic 176, 5) := by decide +kernel
theorem dX2_wouldFall_28 : decode cX2_wouldFall 28 = .ok (.invokevirtual 123, 3) := dk_182 0 123 (dk_at dksX2_wouldFall_1 5 rfl rfl)
theorem dX2_wouldFall_31 : decode cX2_wouldFall 31 = .ok (.ireturn, 1) := dk_172 (dk_at dksX2_wouldFall_1 8 rfl rfl)
abbrev cX2_lambda_wouldFall_13 : ByteArray := prog_8_method_54_code
def yX2_lambda_wouldFall_13 : MethodName := ⟨RX2, "lambda$wouldFall$13", "(LOfferSky$Offer;LOfferSky$Offer;)Z"⟩
def dkwX2_lambda_wouldFall_13_0 : List UInt8 := [42, 180, 0, 21, 43, 44, 16, 15, 182, 0, 111, 172]
abbrev dktX2_lambda_wouldFall_13_0 : List UInt8 := dkwX2_lambda_wouldFall_13_0 ++ []
theorem dksX2_lambda_wouldFall_13_0 : cX2_lambda_wouldFall_13.data.toList.drop 0 = dktX2_lambda_wouldFall_13_0 := by decide +kernel
theorem dX2_lambda_wouldFall_13_0 : decode cX2_lambda_wouldFall_13 0 = .ok (.aload_n 0, 1) := dk_42 (dk_at dksX2_lambda_wouldFall_13_0 0 rfl rfl)
theorem dX2_lambda_wouldFall_13_1 : decode cX2_lambda_wouldFall_13 1 = .ok (.getfield 21, 3) := dk_180 0 21 (dk_at dksX2_lambda_wouldFall_13_0 1 rfl rfl)
theorem dX2_lambda_wouldFall_13_4 : decode cX2_lambda_wouldFall_13 4 = .ok (.aload_n 1, 1) := dk_43 (dk_at dksX2_lambda_wouldFall_13_0 4 rfl rfl)
theorem dX2_lambda_wouldFall_13_5 : decode cX2_lambda_wouldFall_13 5 = .ok (.aload_n 2, 1) := dk_44 (dk_at dksX2_lambda_wouldFall_13_0 5 rfl rfl)
theorem dX2_lambda_wouldFall_13_6 : decode cX2_lambda_wouldFall_13 6 = .ok (.bipush 15, 2) := dk_16 15 (dk_at dksX2_lambda_wouldFall_13_0 6 rfl rfl)
theorem dX2_lambda_wouldFall_13_8 : decode cX2_lambda_wouldFall_13 8 = .ok (.invokevirtual 111, 3) := dk_182 0 111 (dk_at dksX2_lambda_wouldFall_13_0 8 rfl rfl)
theorem dX2_lambda_wouldFall_13_11 : decode cX2_lambda_wouldFall_13 11 = .ok (.ireturn, 1) := dk_172 (dk_at dksX2_lambda_wouldFall_13_0 11 rfl rfl)
abbrev cX2_triedRaise : ByteArray := prog_8_method_35_code
def yX2_triedRaise : MethodName := ⟨RX2, "triedRaise", "(LOfferSky$Offer;I)I"⟩
def dkwX2_triedRaise_2 : List UInt8 := [167, 255, 221, 21, 4, 153, 0, 7, 29, 167, 0, 4, 2, 172]
abbrev dktX2_triedRaise_2 : List UInt8 := dkwX2_triedRaise_2 ++ []
def dkwX2_triedRaise_1 : List UInt8 := [154, 0, 26, 132, 3, 1, 42, 180, 0, 21, 28, 42, 43, 28, 29, 182, 0, 177, 182, 0, 196, 54, 4]
abbrev dktX2_triedRaise_1 : List UInt8 := dkwX2_triedRaise_1 ++ dktX2_triedRaise_2
def dkwX2_triedRaise_0 : List UInt8 := [3, 62, 42, 43, 28, 182, 0, 188, 54, 4, 21, 4, 153, 0, 36, 42, 43, 28, 29, 182, 0, 192]
abbrev dktX2_triedRaise_0 : List UInt8 := dkwX2_triedRaise_0 ++ dktX2_triedRaise_1
theorem dksX2_triedRaise_0 : cX2_triedRaise.data.toList.drop 0 = dktX2_triedRaise_0 := by decide +kernel
theorem dksX2_triedRaise_1 : cX2_triedRaise.data.toList.drop 22 = dktX2_triedRaise_1 := dk_seg dksX2_triedRaise_0 22 rfl rfl
theorem dksX2_triedRaise_2 : cX2_triedRaise.data.toList.drop 45 = dktX2_triedRaise_2 := dk_seg dksX2_triedRaise_1 23 rfl rfl
theorem dX2_triedRaise_0 : decode cX2_triedRaise 0 = .ok (.iconst 0, 1) := dk_3 (dk_at dksX2_triedRaise_0 0 rfl rfl)
theorem dX2_triedRaise_1 : decode cX2_triedRaise 1 = .ok (.istore_n 3, 1) := dk_62 (dk_at dksX2_triedRaise_0 1 rfl rfl)
theorem dX2_triedRaise_2 : decode cX2_triedRaise 2 = .ok (.aload_n 0, 1) := dk_42 (dk_at dksX2_triedRaise_0 2 rfl rfl)
theorem dX2_triedRaise_3 : decode cX2_triedRaise 3 = .ok (.aload_n 1, 1) := dk_43 (dk_at dksX2_triedRaise_0 3 rfl rfl)
theorem dX2_triedRaise_4 : decode cX2_triedRaise 4 = .ok (.iload_n 2, 1) := dk_28 (dk_at dksX2_triedRaise_0 4 rfl rfl)
theorem dX2_triedRaise_5 : decode cX2_triedRaise 5 = .ok (.invokevirtual 188, 3) := dk_182 0 188 (dk_at dksX2_triedRaise_0 5 rfl rfl)
theorem dX2_triedRaise_8 : decode cX2_triedRaise 8 = .ok (.istore 4, 2) := dk_54 4 (dk_at dksX2_triedRaise_0 8 rfl rfl)
theorem dX2_triedRaise_10 : decode cX2_triedRaise 10 = .ok (.iload 4, 2) := dk_21 4 (dk_at dksX2_triedRaise_0 10 rfl rfl)
theorem dX2_triedRaise_12 : decode cX2_triedRaise 12 = .ok (.ifCond .eq 36, 3) := dk_153 0 36 (dk_at dksX2_triedRaise_0 12 rfl rfl)
theorem dX2_triedRaise_15 : decode cX2_triedRaise 15 = .ok (.aload_n 0, 1) := dk_42 (dk_at dksX2_triedRaise_0 15 rfl rfl)
theorem dX2_triedRaise_16 : decode cX2_triedRaise 16 = .ok (.aload_n 1, 1) := dk_43 (dk_at dksX2_triedRaise_0 16 rfl rfl)
theorem dX2_triedRaise_17 : decode cX2_triedRaise 17 = .ok (.iload_n 2, 1) := dk_28 (dk_at dksX2_triedRaise_0 17 rfl rfl)
theorem dX2_triedRaise_18 : decode cX2_triedRaise 18 = .ok (.iload_n 3, 1) := dk_29 (dk_at dksX2_triedRaise_0 18 rfl rfl)
theorem dX2_triedRaise_19 : decode cX2_triedRaise 19 = .ok (.invokevirtual 192, 3) := dk_182 0 192 (dk_at dksX2_triedRaise_0 19 rfl rfl)
theorem dX2_triedRaise_22 : decode cX2_triedRaise 22 = .ok (.ifCond .ne 26, 3) := dk_154 0 26 (dk_at dksX2_triedRaise_1 0 rfl rfl)
theorem dX2_triedRaise_25 : decode cX2_triedRaise 25 = .ok (.iinc 3 1, 3) := dk_132 3 1 (dk_at dksX2_triedRaise_1 3 rfl rfl)
theorem dX2_triedRaise_28 : decode cX2_triedRaise 28 = .ok (.aload_n 0, 1) := dk_42 (dk_at dksX2_triedRaise_1 6 rfl rfl)
theorem dX2_triedRaise_29 : decode cX2_triedRaise 29 = .ok (.getfield 21, 3) := dk_180 0 21 (dk_at dksX2_triedRaise_1 7 rfl rfl)
theorem dX2_triedRaise_32 : decode cX2_triedRaise 32 = .ok (.iload_n 2, 1) := dk_28 (dk_at dksX2_triedRaise_1 10 rfl rfl)
theorem dX2_triedRaise_33 : decode cX2_triedRaise 33 = .ok (.aload_n 0, 1) := dk_42 (dk_at dksX2_triedRaise_1 11 rfl rfl)
theorem dX2_triedRaise_34 : decode cX2_triedRaise 34 = .ok (.aload_n 1, 1) := dk_43 (dk_at dksX2_triedRaise_1 12 rfl rfl)
theorem dX2_triedRaise_35 : decode cX2_triedRaise 35 = .ok (.iload_n 2, 1) := dk_28 (dk_at dksX2_triedRaise_1 13 rfl rfl)
theorem dX2_triedRaise_36 : decode cX2_triedRaise 36 = .ok (.iload_n 3, 1) := dk_29 (dk_at dksX2_triedRaise_1 14 rfl rfl)
theorem dX2_triedRaise_37 : decode cX2_triedRaise 37 = .ok (.invokevirtual 177, 3) := dk_182 0 177 (dk_at dksX2_triedRaise_1 15 rfl rfl)
theorem dX2_triedRaise_40 : decode cX2_triedRaise 40 = .ok (.invokevirtual 196, 3) := dk_182 0 196 (dk_at dksX2_triedRaise_1 18 rfl rfl)
theorem dX2_triedRaise_43 : decode cX2_triedRaise 43 = .ok (.istore 4, 2) := dk_54 4 (dk_at dksX2_triedRaise_1 21 rfl rfl)
theorem dX2_triedRaise_45 : decode cX2_triedRaise 45 = .ok (.goto (-35), 3) := dk_167 255 221 (dk_at dksX2_triedRaise_2 0 rfl rfl)
theorem dX2_triedRaise_48 : decode cX2_triedRaise 48 = .ok (.iload 4, 2) := dk_21 4 (dk_at dksX2_triedRaise_2 3 rfl rfl)
theorem dX2_triedRaise_50 : decode cX2_triedRaise 50 = .ok (.ifCond .eq 7, 3) := dk_153 0 7 (dk_at dksX2_triedRaise_2 5 rfl rfl)
theorem dX2_triedRaise_53 : decode cX2_triedRaise 53 = .ok (.iload_n 3, 1) := dk_29 (dk_at dksX2_triedRaise_2 8 rfl rfl)
theorem dX2_triedRaise_54 : decode cX2_triedRaise 54 = .ok (.goto 4, 3) := dk_167 0 4 (dk_at dksX2_triedRaise_2 9 rfl rfl)
theorem dX2_triedRaise_57 : decode cX2_triedRaise 57 = .ok (.iconst (-1), 1) := dk_2 (dk_at dksX2_triedRaise_2 12 rfl rfl)
theorem dX2_triedRaise_58 : decode cX2_triedRaise 58 = .ok (.ireturn, 1) := dk_172 (dk_at dksX2_triedRaise_2 13 rfl rfl)
abbrev cX2_canRaise : ByteArray := prog_8_method_34_code
def yX2_canRaise : MethodName := ⟨RX2, "canRaise", "(LOfferSky$Offer;I)Z"⟩
def dkwX2_canRaise_1 : List UInt8 := [167, 0, 4, 3, 172]
abbrev dktX2_canRaise_1 : List UInt8 := dkwX2_canRaise_1 ++ []
def dkwX2_canRaise_0 : List UInt8 := [42, 180, 0, 21, 43, 182, 0, 116, 153, 0, 18, 42, 180, 0, 21, 28, 182, 0, 184, 153, 0, 7, 4]
abbrev dktX2_canRaise_0 : List UInt8 := dkwX2_canRaise_0 ++ dktX2_canRaise_1
theorem dksX2_canRaise_0 : cX2_canRaise.data.toList.drop 0 = dktX2_canRaise_0 := by decide +kernel
theorem dksX2_canRaise_1 : cX2_canRaise.data.toList.drop 23 = dktX2_canRaise_1 := dk_seg dksX2_canRaise_0 23 rfl rfl
theorem dX2_canRaise_0 : decode cX2_canRaise 0 = .ok (.aload_n 0, 1) := dk_42 (dk_at dksX2_canRaise_0 0 rfl rfl)
theorem dX2_canRaise_1 : decode cX2_canRaise 1 = .ok (.getfield 21, 3) := dk_180 0 21 (dk_at dksX2_canRaise_0 1 rfl rfl)
theorem dX2_canRaise_4 : decode cX2_canRaise 4 = .ok (.aload_n 1, 1) := dk_43 (dk_at dksX2_canRaise_0 4 rfl rfl)
theorem dX2_canRaise_5 : decode cX2_canRaise 5 = .ok (.invokevirtual 116, 3) := dk_182 0 116 (dk_at dksX2_canRaise_0 5 rfl rfl)
theorem dX2_canRaise_8 : decode cX2_canRaise 8 = .ok (.ifCond .eq 18, 3) := dk_153 0 18 (dk_at dksX2_canRaise_0 8 rfl rfl)
theorem dX2_canRaise_11 : decode cX2_canRaise 11 = .ok (.aload_n 0, 1) := dk_42 (dk_at dksX2_canRaise_0 11 rfl rfl)
theorem dX2_canRaise_12 : decode cX2_canRaise 12 = .ok (.getfield 21, 3) := dk_180 0 21 (dk_at dksX2_canRaise_0 12 rfl rfl)
theorem dX2_canRaise_15 : decode cX2_canRaise 15 = .ok (.iload_n 2, 1) := dk_28 (dk_at dksX2_canRaise_0 15 rfl rfl)
theorem dX2_canRaise_16 : decode cX2_canRaise 16 = .ok (.invokevirtual 184, 3) := dk_182 0 184 (dk_at dksX2_canRaise_0 16 rfl rfl)
theorem dX2_canRaise_19 : decode cX2_canRaise 19 = .ok (.ifCond .eq 7, 3) := dk_153 0 7 (dk_at dksX2_canRaise_0 19 rfl rfl)
theorem dX2_canRaise_22 : decode cX2_canRaise 22 = .ok (.iconst 1, 1) := dk_4 (dk_at dksX2_canRaise_0 22 rfl rfl)
theorem dX2_canRaise_23 : decode cX2_canRaise 23 = .ok (.goto 4, 3) := dk_167 0 4 (dk_at dksX2_canRaise_1 0 rfl rfl)
theorem dX2_canRaise_26 : decode cX2_canRaise 26 = .ok (.iconst 0, 1) := dk_3 (dk_at dksX2_canRaise_1 3 rfl rfl)
theorem dX2_canRaise_27 : decode cX2_canRaise 27 = .ok (.ireturn, 1) := dk_172 (dk_at dksX2_canRaise_1 4 rfl rfl)
abbrev cX2_isToldWith : ByteArray := prog_8_method_33_code
def yX2_isToldWith : MethodName := ⟨RX2, "isToldWith", "(LOfferSky$Offer;II)Z"⟩
def dkwX2_isToldWith_1 : List UInt8 := [182, 0, 107, 58, 5, 42, 25, 4, 25, 5, 16, 15, 182, 0, 130, 154, 0, 7, 4, 167, 0, 4, 3, 172]
abbrev dktX2_isToldWith_1 : List UInt8 := dkwX2_isToldWith_1 ++ []
def dkwX2_isToldWith_0 : List UInt8 := [43, 28, 42, 43, 28, 29, 182, 0, 177, 182, 0, 66, 58, 4, 42, 182, 0, 80, 43, 186, 0, 181, 0, 0]
abbrev dktX2_isToldWith_0 : List UInt8 := dkwX2_isToldWith_0 ++ dktX2_isToldWith_1
theorem dksX2_isToldWith_0 : cX2_isToldWith.data.toList.drop 0 = dktX2_isToldWith_0 := by decide +kernel
theorem dksX2_isToldWith_1 : cX2_isToldWith.data.toList.drop 24 = dktX2_isToldWith_1 := dk_seg dksX2_isToldWith_0 24 rfl rfl
theorem dX2_isToldWith_0 : decode cX2_isToldWith 0 = .ok (.aload_n 1, 1) := dk_43 (dk_at dksX2_isToldWith_0 0 rfl rfl)
theorem dX2_isToldWith_1 : decode cX2_isToldWith 1 = .ok (.iload_n 2, 1) := dk_28 (dk_at dksX2_isToldWith_0 1 rfl rfl)
theorem dX2_isToldWith_2 : decode cX2_isToldWith 2 = .ok (.aload_n 0, 1) := dk_42 (dk_at dksX2_isToldWith_0 2 rfl rfl)
theorem dX2_isToldWith_3 : decode cX2_isToldWith 3 = .ok (.aload_n 1, 1) := dk_43 (dk_at dksX2_isToldWith_0 3 rfl rfl)
theorem dX2_isToldWith_4 : decode cX2_isToldWith 4 = .ok (.iload_n 2, 1) := dk_28 (dk_at dksX2_isToldWith_0 4 rfl rfl)
theorem dX2_isToldWith_5 : decode cX2_isToldWith 5 = .ok (.iload_n 3, 1) := dk_29 (dk_at dksX2_isToldWith_0 5 rfl rfl)
theorem dX2_isToldWith_6 : decode cX2_isToldWith 6 = .ok (.invokevirtual 177, 3) := dk_182 0 177 (dk_at dksX2_isToldWith_0 6 rfl rfl)
theorem dX2_isToldWith_9 : decode cX2_isToldWith 9 = .ok (.invokevirtual 66, 3) := dk_182 0 66 (dk_at dksX2_isToldWith_0 9 rfl rfl)
theorem dX2_isToldWith_12 : decode cX2_isToldWith 12 = .ok (.astore 4, 2) := dk_58 4 (dk_at dksX2_isToldWith_0 12 rfl rfl)
theorem dX2_isToldWith_14 : decode cX2_isToldWith 14 = .ok (.aload_n 0, 1) := dk_42 (dk_at dksX2_isToldWith_0 14 rfl rfl)
theorem dX2_isToldWith_15 : decode cX2_isToldWith 15 = .ok (.invokevirtual 80, 3) := dk_182 0 80 (dk_at dksX2_isToldWith_0 15 rfl rfl)
theorem dX2_isToldWith_18 : decode cX2_isToldWith 18 = .ok (.aload_n 1, 1) := dk_43 (dk_at dksX2_isToldWith_0 18 rfl rfl)
theorem dX2_isToldWith_19 : decode cX2_isToldWith 19 = .ok (.invokedynamic 181, 5) := by decide +kernel
theorem dX2_isToldWith_24 : decode cX2_isToldWith 24 = .ok (.invokevirtual 107, 3) := dk_182 0 107 (dk_at dksX2_isToldWith_1 0 rfl rfl)
theorem dX2_isToldWith_27 : decode cX2_isToldWith 27 = .ok (.astore 5, 2) := dk_58 5 (dk_at dksX2_isToldWith_1 3 rfl rfl)
theorem dX2_isToldWith_29 : decode cX2_isToldWith 29 = .ok (.aload_n 0, 1) := dk_42 (dk_at dksX2_isToldWith_1 5 rfl rfl)
theorem dX2_isToldWith_30 : decode cX2_isToldWith 30 = .ok (.aload 4, 2) := dk_25 4 (dk_at dksX2_isToldWith_1 6 rfl rfl)
theorem dX2_isToldWith_32 : decode cX2_isToldWith 32 = .ok (.aload 5, 2) := dk_25 5 (dk_at dksX2_isToldWith_1 8 rfl rfl)
theorem dX2_isToldWith_34 : decode cX2_isToldWith 34 = .ok (.bipush 15, 2) := dk_16 15 (dk_at dksX2_isToldWith_1 10 rfl rfl)
theorem dX2_isToldWith_36 : decode cX2_isToldWith 36 = .ok (.invokevirtual 130, 3) := dk_182 0 130 (dk_at dksX2_isToldWith_1 12 rfl rfl)
theorem dX2_isToldWith_39 : decode cX2_isToldWith 39 = .ok (.ifCond .ne 7, 3) := dk_154 0 7 (dk_at dksX2_isToldWith_1 15 rfl rfl)
theorem dX2_isToldWith_42 : decode cX2_isToldWith 42 = .ok (.iconst 1, 1) := dk_4 (dk_at dksX2_isToldWith_1 18 rfl rfl)
theorem dX2_isToldWith_43 : decode cX2_isToldWith 43 = .ok (.goto 4, 3) := dk_167 0 4 (dk_at dksX2_isToldWith_1 19 rfl rfl)
theorem dX2_isToldWith_46 : decode cX2_isToldWith 46 = .ok (.iconst 0, 1) := dk_3 (dk_at dksX2_isToldWith_1 22 rfl rfl)
theorem dX2_isToldWith_47 : decode cX2_isToldWith 47 = .ok (.ireturn, 1) := dk_172 (dk_at dksX2_isToldWith_1 23 rfl rfl)
abbrev cX2_betterValue : ByteArray := prog_8_method_32_code
def yX2_betterValue : MethodName := ⟨RX2, "betterValue", "(LOfferSky$Offer;II)I"⟩
def dkwX2_betterValue_1 : List UInt8 := [116, 96, 172]
abbrev dktX2_betterValue_1 : List UInt8 := dkwX2_betterValue_1 ++ []
def dkwX2_betterValue_0 : List UInt8 := [43, 180, 0, 76, 28, 46, 42, 180, 0, 21, 180, 0, 95, 28, 46, 4, 160, 0, 7, 29, 167, 0, 5, 29]
abbrev dktX2_betterValue_0 : List UInt8 := dkwX2_betterValue_0 ++ dktX2_betterValue_1
theorem dksX2_betterValue_0 : cX2_betterValue.data.toList.drop 0 = dktX2_betterValue_0 := by decide +kernel
theorem dksX2_betterValue_1 : cX2_betterValue.data.toList.drop 24 = dktX2_betterValue_1 := dk_seg dksX2_betterValue_0 24 rfl rfl
theorem dX2_betterValue_0 : decode cX2_betterValue 0 = .ok (.aload_n 1, 1) := dk_43 (dk_at dksX2_betterValue_0 0 rfl rfl)
theorem dX2_betterValue_1 : decode cX2_betterValue 1 = .ok (.getfield 76, 3) := dk_180 0 76 (dk_at dksX2_betterValue_0 1 rfl rfl)
theorem dX2_betterValue_4 : decode cX2_betterValue 4 = .ok (.iload_n 2, 1) := dk_28 (dk_at dksX2_betterValue_0 4 rfl rfl)
theorem dX2_betterValue_5 : decode cX2_betterValue 5 = .ok (.iaload, 1) := dk_46 (dk_at dksX2_betterValue_0 5 rfl rfl)
theorem dX2_betterValue_6 : decode cX2_betterValue 6 = .ok (.aload_n 0, 1) := dk_42 (dk_at dksX2_betterValue_0 6 rfl rfl)
theorem dX2_betterValue_7 : decode cX2_betterValue 7 = .ok (.getfield 21, 3) := dk_180 0 21 (dk_at dksX2_betterValue_0 7 rfl rfl)
theorem dX2_betterValue_10 : decode cX2_betterValue 10 = .ok (.getfield 95, 3) := dk_180 0 95 (dk_at dksX2_betterValue_0 10 rfl rfl)
theorem dX2_betterValue_13 : decode cX2_betterValue 13 = .ok (.iload_n 2, 1) := dk_28 (dk_at dksX2_betterValue_0 13 rfl rfl)
theorem dX2_betterValue_14 : decode cX2_betterValue 14 = .ok (.iaload, 1) := dk_46 (dk_at dksX2_betterValue_0 14 rfl rfl)
theorem dX2_betterValue_15 : decode cX2_betterValue 15 = .ok (.iconst 1, 1) := dk_4 (dk_at dksX2_betterValue_0 15 rfl rfl)
theorem dX2_betterValue_16 : decode cX2_betterValue 16 = .ok (.if_icmp .ne 7, 3) := dk_160 0 7 (dk_at dksX2_betterValue_0 16 rfl rfl)
theorem dX2_betterValue_19 : decode cX2_betterValue 19 = .ok (.iload_n 3, 1) := dk_29 (dk_at dksX2_betterValue_0 19 rfl rfl)
theorem dX2_betterValue_20 : decode cX2_betterValue 20 = .ok (.goto 5, 3) := dk_167 0 5 (dk_at dksX2_betterValue_0 20 rfl rfl)
theorem dX2_betterValue_23 : decode cX2_betterValue 23 = .ok (.iload_n 3, 1) := dk_29 (dk_at dksX2_betterValue_0 23 rfl rfl)
theorem dX2_betterValue_24 : decode cX2_betterValue 24 = .ok (.ineg, 1) := dk_116 (dk_at dksX2_betterValue_1 0 rfl rfl)
theorem dX2_betterValue_25 : decode cX2_betterValue 25 = .ok (.iadd, 1) := dk_96 (dk_at dksX2_betterValue_1 1 rfl rfl)
theorem dX2_betterValue_26 : decode cX2_betterValue 26 = .ok (.ireturn, 1) := dk_172 (dk_at dksX2_betterValue_1 2 rfl rfl)
abbrev cX2_lambda_isToldWith_14 : ByteArray := prog_8_method_53_code
def yX2_lambda_isToldWith_14 : MethodName := ⟨RX2, "lambda$isToldWith$14", "(LOfferSky$Offer;LOfferSky$Offer;)Z"⟩
def dkwX2_lambda_isToldWith_14_0 : List UInt8 := [43, 42, 165, 0, 7, 4, 167, 0, 4, 3, 172]
abbrev dktX2_lambda_isToldWith_14_0 : List UInt8 := dkwX2_lambda_isToldWith_14_0 ++ []
theorem dksX2_lambda_isToldWith_14_0 : cX2_lambda_isToldWith_14.data.toList.drop 0 = dktX2_lambda_isToldWith_14_0 := by decide +kernel
theorem dX2_lambda_isToldWith_14_0 : decode cX2_lambda_isToldWith_14 0 = .ok (.aload_n 1, 1) := dk_43 (dk_at dksX2_lambda_isToldWith_14_0 0 rfl rfl)
theorem dX2_lambda_isToldWith_14_1 : decode cX2_lambda_isToldWith_14 1 = .ok (.aload_n 0, 1) := dk_42 (dk_at dksX2_lambda_isToldWith_14_0 1 rfl rfl)
theorem dX2_lambda_isToldWith_14_2 : decode cX2_lambda_isToldWith_14 2 = .ok (.if_acmp .eq 7, 3) := dk_165 0 7 (dk_at dksX2_lambda_isToldWith_14_0 2 rfl rfl)
theorem dX2_lambda_isToldWith_14_5 : decode cX2_lambda_isToldWith_14 5 = .ok (.iconst 1, 1) := dk_4 (dk_at dksX2_lambda_isToldWith_14_0 5 rfl rfl)
theorem dX2_lambda_isToldWith_14_6 : decode cX2_lambda_isToldWith_14 6 = .ok (.goto 4, 3) := dk_167 0 4 (dk_at dksX2_lambda_isToldWith_14_0 6 rfl rfl)
theorem dX2_lambda_isToldWith_14_9 : decode cX2_lambda_isToldWith_14 9 = .ok (.iconst 0, 1) := dk_3 (dk_at dksX2_lambda_isToldWith_14_0 9 rfl rfl)
theorem dX2_lambda_isToldWith_14_10 : decode cX2_lambda_isToldWith_14 10 = .ok (.ireturn, 1) := dk_172 (dk_at dksX2_lambda_isToldWith_14_0 10 rfl rfl)
abbrev cX2_reckonedRaise : ByteArray := prog_8_method_37_code
def yX2_reckonedRaise : MethodName := ⟨RX2, "reckonedRaise", "(LOfferSky$Offer;I)I"⟩
def dkwX2_reckonedRaise_4 : List UInt8 := [28, 42, 43, 28, 21, 5, 182, 0, 177, 182, 0, 196, 153, 0, 8, 21, 5, 167, 0, 4, 2, 172]
abbrev dktX2_reckonedRaise_4 : List UInt8 := dkwX2_reckonedRaise_4 ++ []
def dkwX2_reckonedRaise_3 : List UInt8 := [167, 255, 208, 3, 29, 42, 180, 0, 21, 43, 28, 182, 0, 204, 100, 184, 0, 155, 54, 5, 42, 180, 0, 21]
abbrev dktX2_reckonedRaise_3 : List UInt8 := dkwX2_reckonedRaise_3 ++ dktX2_reckonedRaise_4
def dkwX2_reckonedRaise_2 : List UInt8 := [166, 0, 7, 29, 167, 0, 15, 29, 42, 43, 25, 6, 28, 182, 0, 208, 184, 0, 155, 62, 132, 5, 1]
abbrev dktX2_reckonedRaise_2 : List UInt8 := dkwX2_reckonedRaise_2 ++ dktX2_reckonedRaise_3
def dkwX2_reckonedRaise_1 : List UInt8 := [25, 4, 182, 0, 41, 162, 0, 44, 25, 4, 21, 5, 182, 0, 49, 192, 0, 53, 58, 6, 25, 6, 43]
abbrev dktX2_reckonedRaise_1 : List UInt8 := dkwX2_reckonedRaise_1 ++ dktX2_reckonedRaise_2
def dkwX2_reckonedRaise_0 : List UInt8 := [42, 43, 28, 182, 0, 188, 154, 0, 5, 2, 172, 3, 62, 42, 182, 0, 80, 58, 4, 3, 54, 5, 21, 5]
abbrev dktX2_reckonedRaise_0 : List UInt8 := dkwX2_reckonedRaise_0 ++ dktX2_reckonedRaise_1
theorem dksX2_reckonedRaise_0 : cX2_reckonedRaise.data.toList.drop 0 = dktX2_reckonedRaise_0 := by decide +kernel
theorem dksX2_reckonedRaise_1 : cX2_reckonedRaise.data.toList.drop 24 = dktX2_reckonedRaise_1 := dk_seg dksX2_reckonedRaise_0 24 rfl rfl
theorem dksX2_reckonedRaise_2 : cX2_reckonedRaise.data.toList.drop 47 = dktX2_reckonedRaise_2 := dk_seg dksX2_reckonedRaise_1 23 rfl rfl
theorem dksX2_reckonedRaise_3 : cX2_reckonedRaise.data.toList.drop 70 = dktX2_reckonedRaise_3 := dk_seg dksX2_reckonedRaise_2 23 rfl rfl
theorem dksX2_reckonedRaise_4 : cX2_reckonedRaise.data.toList.drop 94 = dktX2_reckonedRaise_4 := dk_seg dksX2_reckonedRaise_3 24 rfl rfl
theorem dX2_reckonedRaise_0 : decode cX2_reckonedRaise 0 = .ok (.aload_n 0, 1) := dk_42 (dk_at dksX2_reckonedRaise_0 0 rfl rfl)
theorem dX2_reckonedRaise_1 : decode cX2_reckonedRaise 1 = .ok (.aload_n 1, 1) := dk_43 (dk_at dksX2_reckonedRaise_0 1 rfl rfl)
theorem dX2_reckonedRaise_2 : decode cX2_reckonedRaise 2 = .ok (.iload_n 2, 1) := dk_28 (dk_at dksX2_reckonedRaise_0 2 rfl rfl)
theorem dX2_reckonedRaise_3 : decode cX2_reckonedRaise 3 = .ok (.invokevirtual 188, 3) := dk_182 0 188 (dk_at dksX2_reckonedRaise_0 3 rfl rfl)
theorem dX2_reckonedRaise_6 : decode cX2_reckonedRaise 6 = .ok (.ifCond .ne 5, 3) := dk_154 0 5 (dk_at dksX2_reckonedRaise_0 6 rfl rfl)
theorem dX2_reckonedRaise_9 : decode cX2_reckonedRaise 9 = .ok (.iconst (-1), 1) := dk_2 (dk_at dksX2_reckonedRaise_0 9 rfl rfl)
theorem dX2_reckonedRaise_10 : decode cX2_reckonedRaise 10 = .ok (.ireturn, 1) := dk_172 (dk_at dksX2_reckonedRaise_0 10 rfl rfl)
theorem dX2_reckonedRaise_11 : decode cX2_reckonedRaise 11 = .ok (.iconst 0, 1) := dk_3 (dk_at dksX2_reckonedRaise_0 11 rfl rfl)
theorem dX2_reckonedRaise_12 : decode cX2_reckonedRaise 12 = .ok (.istore_n 3, 1) := dk_62 (dk_at dksX2_reckonedRaise_0 12 rfl rfl)
theorem dX2_reckonedRaise_13 : decode cX2_reckonedRaise 13 = .ok (.aload_n 0, 1) := dk_42 (dk_at dksX2_reckonedRaise_0 13 rfl rfl)
theorem dX2_reckonedRaise_14 : decode cX2_reckonedRaise 14 = .ok (.invokevirtual 80, 3) := dk_182 0 80 (dk_at dksX2_reckonedRaise_0 14 rfl rfl)
theorem dX2_reckonedRaise_17 : decode cX2_reckonedRaise 17 = .ok (.astore 4, 2) := dk_58 4 (dk_at dksX2_reckonedRaise_0 17 rfl rfl)
theorem dX2_reckonedRaise_19 : decode cX2_reckonedRaise 19 = .ok (.iconst 0, 1) := dk_3 (dk_at dksX2_reckonedRaise_0 19 rfl rfl)
theorem dX2_reckonedRaise_20 : decode cX2_reckonedRaise 20 = .ok (.istore 5, 2) := dk_54 5 (dk_at dksX2_reckonedRaise_0 20 rfl rfl)
theorem dX2_reckonedRaise_22 : decode cX2_reckonedRaise 22 = .ok (.iload 5, 2) := dk_21 5 (dk_at dksX2_reckonedRaise_0 22 rfl rfl)
theorem dX2_reckonedRaise_24 : decode cX2_reckonedRaise 24 = .ok (.aload 4, 2) := dk_25 4 (dk_at dksX2_reckonedRaise_1 0 rfl rfl)
theorem dX2_reckonedRaise_26 : decode cX2_reckonedRaise 26 = .ok (.invokevirtual 41, 3) := dk_182 0 41 (dk_at dksX2_reckonedRaise_1 2 rfl rfl)
theorem dX2_reckonedRaise_29 : decode cX2_reckonedRaise 29 = .ok (.if_icmp .ge 44, 3) := dk_162 0 44 (dk_at dksX2_reckonedRaise_1 5 rfl rfl)
theorem dX2_reckonedRaise_32 : decode cX2_reckonedRaise 32 = .ok (.aload 4, 2) := dk_25 4 (dk_at dksX2_reckonedRaise_1 8 rfl rfl)
theorem dX2_reckonedRaise_34 : decode cX2_reckonedRaise 34 = .ok (.iload 5, 2) := dk_21 5 (dk_at dksX2_reckonedRaise_1 10 rfl rfl)
theorem dX2_reckonedRaise_36 : decode cX2_reckonedRaise 36 = .ok (.invokevirtual 49, 3) := dk_182 0 49 (dk_at dksX2_reckonedRaise_1 12 rfl rfl)
theorem dX2_reckonedRaise_39 : decode cX2_reckonedRaise 39 = .ok (.checkcast 53, 3) := dk_192 0 53 (dk_at dksX2_reckonedRaise_1 15 rfl rfl)
theorem dX2_reckonedRaise_42 : decode cX2_reckonedRaise 42 = .ok (.astore 6, 2) := dk_58 6 (dk_at dksX2_reckonedRaise_1 18 rfl rfl)
theorem dX2_reckonedRaise_44 : decode cX2_reckonedRaise 44 = .ok (.aload 6, 2) := dk_25 6 (dk_at dksX2_reckonedRaise_1 20 rfl rfl)
theorem dX2_reckonedRaise_46 : decode cX2_reckonedRaise 46 = .ok (.aload_n 1, 1) := dk_43 (dk_at dksX2_reckonedRaise_1 22 rfl rfl)
theorem dX2_reckonedRaise_47 : decode cX2_reckonedRaise 47 = .ok (.if_acmp .ne 7, 3) := dk_166 0 7 (dk_at dksX2_reckonedRaise_2 0 rfl rfl)
theorem dX2_reckonedRaise_50 : decode cX2_reckonedRaise 50 = .ok (.iload_n 3, 1) := dk_29 (dk_at dksX2_reckonedRaise_2 3 rfl rfl)
theorem dX2_reckonedRaise_51 : decode cX2_reckonedRaise 51 = .ok (.goto 15, 3) := dk_167 0 15 (dk_at dksX2_reckonedRaise_2 4 rfl rfl)
theorem dX2_reckonedRaise_54 : decode cX2_reckonedRaise 54 = .ok (.iload_n 3, 1) := dk_29 (dk_at dksX2_reckonedRaise_2 7 rfl rfl)
theorem dX2_reckonedRaise_55 : decode cX2_reckonedRaise 55 = .ok (.aload_n 0, 1) := dk_42 (dk_at dksX2_reckonedRaise_2 8 rfl rfl)
theorem dX2_reckonedRaise_56 : decode cX2_reckonedRaise 56 = .ok (.aload_n 1, 1) := dk_43 (dk_at dksX2_reckonedRaise_2 9 rfl rfl)
theorem dX2_reckonedRaise_57 : decode cX2_reckonedRaise 57 = .ok (.aload 6, 2) := dk_25 6 (dk_at dksX2_reckonedRaise_2 10 rfl rfl)
theorem dX2_reckonedRaise_59 : decode cX2_reckonedRaise 59 = .ok (.iload_n 2, 1) := dk_28 (dk_at dksX2_reckonedRaise_2 12 rfl rfl)
theorem dX2_reckonedRaise_60 : decode cX2_reckonedRaise 60 = .ok (.invokevirtual 208, 3) := dk_182 0 208 (dk_at dksX2_reckonedRaise_2 13 rfl rfl)
theorem dX2_reckonedRaise_63 : decode cX2_reckonedRaise 63 = .ok (.invokestatic 155, 3) := dk_184 0 155 (dk_at dksX2_reckonedRaise_2 16 rfl rfl)
theorem dX2_reckonedRaise_66 : decode cX2_reckonedRaise 66 = .ok (.istore_n 3, 1) := dk_62 (dk_at dksX2_reckonedRaise_2 19 rfl rfl)
theorem dX2_reckonedRaise_67 : decode cX2_reckonedRaise 67 = .ok (.iinc 5 1, 3) := dk_132 5 1 (dk_at dksX2_reckonedRaise_2 20 rfl rfl)
theorem dX2_reckonedRaise_70 : decode cX2_reckonedRaise 70 = .ok (.goto (-48), 3) := dk_167 255 208 (dk_at dksX2_reckonedRaise_3 0 rfl rfl)
theorem dX2_reckonedRaise_73 : decode cX2_reckonedRaise 73 = .ok (.iconst 0, 1) := dk_3 (dk_at dksX2_reckonedRaise_3 3 rfl rfl)
theorem dX2_reckonedRaise_74 : decode cX2_reckonedRaise 74 = .ok (.iload_n 3, 1) := dk_29 (dk_at dksX2_reckonedRaise_3 4 rfl rfl)
theorem dX2_reckonedRaise_75 : decode cX2_reckonedRaise 75 = .ok (.aload_n 0, 1) := dk_42 (dk_at dksX2_reckonedRaise_3 5 rfl rfl)
theorem dX2_reckonedRaise_76 : decode cX2_reckonedRaise 76 = .ok (.getfield 21, 3) := dk_180 0 21 (dk_at dksX2_reckonedRaise_3 6 rfl rfl)
theorem dX2_reckonedRaise_79 : decode cX2_reckonedRaise 79 = .ok (.aload_n 1, 1) := dk_43 (dk_at dksX2_reckonedRaise_3 9 rfl rfl)
theorem dX2_reckonedRaise_80 : decode cX2_reckonedRaise 80 = .ok (.iload_n 2, 1) := dk_28 (dk_at dksX2_reckonedRaise_3 10 rfl rfl)
theorem dX2_reckonedRaise_81 : decode cX2_reckonedRaise 81 = .ok (.invokevirtual 204, 3) := dk_182 0 204 (dk_at dksX2_reckonedRaise_3 11 rfl rfl)
theorem dX2_reckonedRaise_84 : decode cX2_reckonedRaise 84 = .ok (.isub, 1) := dk_100 (dk_at dksX2_reckonedRaise_3 14 rfl rfl)
theorem dX2_reckonedRaise_85 : decode cX2_reckonedRaise 85 = .ok (.invokestatic 155, 3) := dk_184 0 155 (dk_at dksX2_reckonedRaise_3 15 rfl rfl)
theorem dX2_reckonedRaise_88 : decode cX2_reckonedRaise 88 = .ok (.istore 5, 2) := dk_54 5 (dk_at dksX2_reckonedRaise_3 18 rfl rfl)
theorem dX2_reckonedRaise_90 : decode cX2_reckonedRaise 90 = .ok (.aload_n 0, 1) := dk_42 (dk_at dksX2_reckonedRaise_3 20 rfl rfl)
theorem dX2_reckonedRaise_91 : decode cX2_reckonedRaise 91 = .ok (.getfield 21, 3) := dk_180 0 21 (dk_at dksX2_reckonedRaise_3 21 rfl rfl)
theorem dX2_reckonedRaise_94 : decode cX2_reckonedRaise 94 = .ok (.iload_n 2, 1) := dk_28 (dk_at dksX2_reckonedRaise_4 0 rfl rfl)
theorem dX2_reckonedRaise_95 : decode cX2_reckonedRaise 95 = .ok (.aload_n 0, 1) := dk_42 (dk_at dksX2_reckonedRaise_4 1 rfl rfl)
theorem dX2_reckonedRaise_96 : decode cX2_reckonedRaise 96 = .ok (.aload_n 1, 1) := dk_43 (dk_at dksX2_reckonedRaise_4 2 rfl rfl)
theorem dX2_reckonedRaise_97 : decode cX2_reckonedRaise 97 = .ok (.iload_n 2, 1) := dk_28 (dk_at dksX2_reckonedRaise_4 3 rfl rfl)
theorem dX2_reckonedRaise_98 : decode cX2_reckonedRaise 98 = .ok (.iload 5, 2) := dk_21 5 (dk_at dksX2_reckonedRaise_4 4 rfl rfl)
theorem dX2_reckonedRaise_100 : decode cX2_reckonedRaise 100 = .ok (.invokevirtual 177, 3) := dk_182 0 177 (dk_at dksX2_reckonedRaise_4 6 rfl rfl)
theorem dX2_reckonedRaise_103 : decode cX2_reckonedRaise 103 = .ok (.invokevirtual 196, 3) := dk_182 0 196 (dk_at dksX2_reckonedRaise_4 9 rfl rfl)
theorem dX2_reckonedRaise_106 : decode cX2_reckonedRaise 106 = .ok (.ifCond .eq 8, 3) := dk_153 0 8 (dk_at dksX2_reckonedRaise_4 12 rfl rfl)
theorem dX2_reckonedRaise_109 : decode cX2_reckonedRaise 109 = .ok (.iload 5, 2) := dk_21 5 (dk_at dksX2_reckonedRaise_4 15 rfl rfl)
theorem dX2_reckonedRaise_111 : decode cX2_reckonedRaise 111 = .ok (.goto 4, 3) := dk_167 0 4 (dk_at dksX2_reckonedRaise_4 17 rfl rfl)
theorem dX2_reckonedRaise_114 : decode cX2_reckonedRaise 114 = .ok (.iconst (-1), 1) := dk_2 (dk_at dksX2_reckonedRaise_4 20 rfl rfl)
theorem dX2_reckonedRaise_115 : decode cX2_reckonedRaise 115 = .ok (.ireturn, 1) := dk_172 (dk_at dksX2_reckonedRaise_4 21 rfl rfl)
abbrev cX2_dueAgainst : ByteArray := prog_8_method_36_code
def yX2_dueAgainst : MethodName := ⟨RX2, "dueAgainst", "(LOfferSky$Offer;LOfferSky$Offer;I)I"⟩
def dkwX2_dueAgainst_2 : List UInt8 := [158, 0, 7, 4, 167, 0, 4, 3, 184, 0, 171, 96, 172]
abbrev dktX2_dueAgainst_2 : List UInt8 := dkwX2_dueAgainst_2 ++ []
def dkwX2_dueAgainst_1 : List UInt8 := [3, 172, 42, 180, 0, 21, 44, 29, 182, 0, 204, 42, 180, 0, 21, 44, 43, 21, 4, 182, 0, 200]
abbrev dktX2_dueAgainst_1 : List UInt8 := dkwX2_dueAgainst_1 ++ dktX2_dueAgainst_2
def dkwX2_dueAgainst_0 : List UInt8 := [16, 15, 4, 29, 120, 2, 130, 126, 54, 4, 42, 180, 0, 21, 43, 44, 21, 4, 182, 0, 200, 158, 0, 5]
abbrev dktX2_dueAgainst_0 : List UInt8 := dkwX2_dueAgainst_0 ++ dktX2_dueAgainst_1
theorem dksX2_dueAgainst_0 : cX2_dueAgainst.data.toList.drop 0 = dktX2_dueAgainst_0 := by decide +kernel
theorem dksX2_dueAgainst_1 : cX2_dueAgainst.data.toList.drop 24 = dktX2_dueAgainst_1 := dk_seg dksX2_dueAgainst_0 24 rfl rfl
theorem dksX2_dueAgainst_2 : cX2_dueAgainst.data.toList.drop 46 = dktX2_dueAgainst_2 := dk_seg dksX2_dueAgainst_1 22 rfl rfl
theorem dX2_dueAgainst_0 : decode cX2_dueAgainst 0 = .ok (.bipush 15, 2) := dk_16 15 (dk_at dksX2_dueAgainst_0 0 rfl rfl)
theorem dX2_dueAgainst_2 : decode cX2_dueAgainst 2 = .ok (.iconst 1, 1) := dk_4 (dk_at dksX2_dueAgainst_0 2 rfl rfl)
theorem dX2_dueAgainst_3 : decode cX2_dueAgainst 3 = .ok (.iload_n 3, 1) := dk_29 (dk_at dksX2_dueAgainst_0 3 rfl rfl)
theorem dX2_dueAgainst_4 : decode cX2_dueAgainst 4 = .ok (.ishl, 1) := dk_120 (dk_at dksX2_dueAgainst_0 4 rfl rfl)
theorem dX2_dueAgainst_5 : decode cX2_dueAgainst 5 = .ok (.iconst (-1), 1) := dk_2 (dk_at dksX2_dueAgainst_0 5 rfl rfl)
theorem dX2_dueAgainst_6 : decode cX2_dueAgainst 6 = .ok (.ixor, 1) := dk_130 (dk_at dksX2_dueAgainst_0 6 rfl rfl)
theorem dX2_dueAgainst_7 : decode cX2_dueAgainst 7 = .ok (.iand, 1) := dk_126 (dk_at dksX2_dueAgainst_0 7 rfl rfl)
theorem dX2_dueAgainst_8 : decode cX2_dueAgainst 8 = .ok (.istore 4, 2) := dk_54 4 (dk_at dksX2_dueAgainst_0 8 rfl rfl)
theorem dX2_dueAgainst_10 : decode cX2_dueAgainst 10 = .ok (.aload_n 0, 1) := dk_42 (dk_at dksX2_dueAgainst_0 10 rfl rfl)
theorem dX2_dueAgainst_11 : decode cX2_dueAgainst 11 = .ok (.getfield 21, 3) := dk_180 0 21 (dk_at dksX2_dueAgainst_0 11 rfl rfl)
theorem dX2_dueAgainst_14 : decode cX2_dueAgainst 14 = .ok (.aload_n 1, 1) := dk_43 (dk_at dksX2_dueAgainst_0 14 rfl rfl)
theorem dX2_dueAgainst_15 : decode cX2_dueAgainst 15 = .ok (.aload_n 2, 1) := dk_44 (dk_at dksX2_dueAgainst_0 15 rfl rfl)
theorem dX2_dueAgainst_16 : decode cX2_dueAgainst 16 = .ok (.iload 4, 2) := dk_21 4 (dk_at dksX2_dueAgainst_0 16 rfl rfl)
theorem dX2_dueAgainst_18 : decode cX2_dueAgainst 18 = .ok (.invokevirtual 200, 3) := dk_182 0 200 (dk_at dksX2_dueAgainst_0 18 rfl rfl)
theorem dX2_dueAgainst_21 : decode cX2_dueAgainst 21 = .ok (.ifCond .le 5, 3) := dk_158 0 5 (dk_at dksX2_dueAgainst_0 21 rfl rfl)
theorem dX2_dueAgainst_24 : decode cX2_dueAgainst 24 = .ok (.iconst 0, 1) := dk_3 (dk_at dksX2_dueAgainst_1 0 rfl rfl)
theorem dX2_dueAgainst_25 : decode cX2_dueAgainst 25 = .ok (.ireturn, 1) := dk_172 (dk_at dksX2_dueAgainst_1 1 rfl rfl)
theorem dX2_dueAgainst_26 : decode cX2_dueAgainst 26 = .ok (.aload_n 0, 1) := dk_42 (dk_at dksX2_dueAgainst_1 2 rfl rfl)
theorem dX2_dueAgainst_27 : decode cX2_dueAgainst 27 = .ok (.getfield 21, 3) := dk_180 0 21 (dk_at dksX2_dueAgainst_1 3 rfl rfl)
theorem dX2_dueAgainst_30 : decode cX2_dueAgainst 30 = .ok (.aload_n 2, 1) := dk_44 (dk_at dksX2_dueAgainst_1 6 rfl rfl)
theorem dX2_dueAgainst_31 : decode cX2_dueAgainst 31 = .ok (.iload_n 3, 1) := dk_29 (dk_at dksX2_dueAgainst_1 7 rfl rfl)
theorem dX2_dueAgainst_32 : decode cX2_dueAgainst 32 = .ok (.invokevirtual 204, 3) := dk_182 0 204 (dk_at dksX2_dueAgainst_1 8 rfl rfl)
theorem dX2_dueAgainst_35 : decode cX2_dueAgainst 35 = .ok (.aload_n 0, 1) := dk_42 (dk_at dksX2_dueAgainst_1 11 rfl rfl)
theorem dX2_dueAgainst_36 : decode cX2_dueAgainst 36 = .ok (.getfield 21, 3) := dk_180 0 21 (dk_at dksX2_dueAgainst_1 12 rfl rfl)
theorem dX2_dueAgainst_39 : decode cX2_dueAgainst 39 = .ok (.aload_n 2, 1) := dk_44 (dk_at dksX2_dueAgainst_1 15 rfl rfl)
theorem dX2_dueAgainst_40 : decode cX2_dueAgainst 40 = .ok (.aload_n 1, 1) := dk_43 (dk_at dksX2_dueAgainst_1 16 rfl rfl)
theorem dX2_dueAgainst_41 : decode cX2_dueAgainst 41 = .ok (.iload 4, 2) := dk_21 4 (dk_at dksX2_dueAgainst_1 17 rfl rfl)
theorem dX2_dueAgainst_43 : decode cX2_dueAgainst 43 = .ok (.invokevirtual 200, 3) := dk_182 0 200 (dk_at dksX2_dueAgainst_1 19 rfl rfl)
theorem dX2_dueAgainst_46 : decode cX2_dueAgainst 46 = .ok (.ifCond .le 7, 3) := dk_158 0 7 (dk_at dksX2_dueAgainst_2 0 rfl rfl)
theorem dX2_dueAgainst_49 : decode cX2_dueAgainst 49 = .ok (.iconst 1, 1) := dk_4 (dk_at dksX2_dueAgainst_2 3 rfl rfl)
theorem dX2_dueAgainst_50 : decode cX2_dueAgainst 50 = .ok (.goto 4, 3) := dk_167 0 4 (dk_at dksX2_dueAgainst_2 4 rfl rfl)
theorem dX2_dueAgainst_53 : decode cX2_dueAgainst 53 = .ok (.iconst 0, 1) := dk_3 (dk_at dksX2_dueAgainst_2 7 rfl rfl)
theorem dX2_dueAgainst_54 : decode cX2_dueAgainst 54 = .ok (.invokestatic 171, 3) := dk_184 0 171 (dk_at dksX2_dueAgainst_2 8 rfl rfl)
theorem dX2_dueAgainst_57 : decode cX2_dueAgainst 57 = .ok (.iadd, 1) := dk_96 (dk_at dksX2_dueAgainst_2 11 rfl rfl)
theorem dX2_dueAgainst_58 : decode cX2_dueAgainst 58 = .ok (.ireturn, 1) := dk_172 (dk_at dksX2_dueAgainst_2 12 rfl rfl)
theorem q100 : (Jvm.Cond.initialized "OfferSky$State") ∈ lw_all := lw_g (lw_at lw_m1 2 rfl) rfl
theorem q141 : (Jvm.Cond.instantiable "OfferSky$State" (4 : Nat)) ∈ lw_all := lw_g (lw_at lw_m1 43 rfl) rfl
theorem q143 : (Jvm.Cond.instanceMethod ({ cls := "OfferSky$State", name := "<init>", desc := "()V" } : Jvm.MethodName)) ∈ lw_all := lw_g (lw_at lw_m1 45 rfl) rfl
theorem q144 : (Jvm.Cond.code ({ cls := "OfferSky$State", name := "<init>", desc := "()V" } : Jvm.MethodName) prog_8_method_1_code (1 : Nat) (Option.none : Option Jvm.ClassFile.FieldType)) ∈ lw_all := lw_g (lw_at lw_m1 46 rfl) rfl
theorem q145 : (Jvm.Cond.methodLink "OfferSky$State" (3 : Nat) ({ cls := "java/lang/Object", name := "<init>", desc := "()V" } : Jvm.MethodName)) ∈ lw_all := lw_g (lw_at lw_m1 47 rfl) rfl
theorem q146 : (Jvm.Cond.classLink "OfferSky$State" (9 : Nat) "OfferSky$Bag") ∈ lw_all := lw_g (lw_at lw_m1 48 rfl) rfl
theorem q148 : (Jvm.Cond.methodLinkNest "OfferSky$State" (11 : Nat) ({ cls := "OfferSky$Bag", name := "<init>", desc := "()V" } : Jvm.MethodName) "OfferSky") ∈ lw_tbl := lw_at lw_m1 50 rfl
theorem q179 : (Jvm.Cond.fieldLinkNest "OfferSky$State" (62 : Nat) "OfferSky$Bag" "things" "Ljava/util/ArrayList;" "OfferSky") ∈ lw_tbl := lw_at lw_m1 81 rfl
theorem q183 : (Jvm.Cond.classLink "OfferSky$State" (18 : Nat) "OfferSky$Sides") ∈ lw_all := lw_g (lw_at lw_m1 85 rfl) rfl
theorem q185 : (Jvm.Cond.methodLink "OfferSky$State" (20 : Nat) ({ cls := "OfferSky$Sides", name := "<init>", desc := "()V" } : Jvm.MethodName)) ∈ lw_all := lw_g (lw_at lw_m1 87 rfl) rfl
theorem q190 : (Jvm.Cond.fieldLinkNest "OfferSky$State" (95 : Nat) "OfferSky$Sides" "wishes" "[I" "OfferSky") ∈ lw_tbl := lw_at lw_m1 92 rfl
theorem q193 : (Jvm.Cond.fieldLinkNest "OfferSky$State" (98 : Nat) "OfferSky$Sides" "leasts" "[I" "OfferSky") ∈ lw_tbl := lw_at lw_m1 95 rfl
theorem q196 : (Jvm.Cond.fieldLinkNest "OfferSky$State" (101 : Nat) "OfferSky$Sides" "mosts" "[I" "OfferSky") ∈ lw_tbl := lw_at lw_m1 98 rfl
theorem q210 : (Jvm.Cond.fieldLink "OfferSky$State" (12 : Nat) "OfferSky$State" "list" "LOfferSky$Bag;") ∈ lw_all := lw_g (lw_at lw_m1 112 rfl) rfl
theorem q212 : (Jvm.Cond.fieldLink "OfferSky$State" (21 : Nat) "OfferSky$State" "sides" "LOfferSky$Sides;") ∈ lw_all := lw_g (lw_at lw_m1 114 rfl) rfl
theorem q214 : (Jvm.Cond.fieldLink "OfferSky$State" (34 : Nat) "OfferSky$State" "put" "I") ∈ lw_all := lw_g (lw_at lw_m1 116 rfl) rfl
theorem q216 : (Jvm.Cond.fieldLink "OfferSky$State" (38 : Nat) "OfferSky$State" "gone" "I") ∈ lw_all := lw_g (lw_at lw_m1 118 rfl) rfl
theorem q218 : (Jvm.Cond.lays "OfferSky$State" "OfferSky$State" "list" "LOfferSky$Bag;") ∈ lw_all := lw_g (lw_at lw_m1 120 rfl) rfl
theorem q219 : (Jvm.Cond.soleField "OfferSky$State" "list") ∈ lw_all := lw_g (lw_at lw_m1 121 rfl) rfl
theorem q220 : (Jvm.Cond.lays "OfferSky$State" "OfferSky$State" "sides" "LOfferSky$Sides;") ∈ lw_all := lw_g (lw_at lw_m1 122 rfl) rfl
theorem q221 : (Jvm.Cond.soleField "OfferSky$State" "sides") ∈ lw_all := lw_g (lw_at lw_m1 123 rfl) rfl
theorem q222 : (Jvm.Cond.lays "OfferSky$State" "OfferSky$State" "put" "I") ∈ lw_all := lw_g (lw_at lw_m1 124 rfl) rfl
theorem q223 : (Jvm.Cond.soleField "OfferSky$State" "put") ∈ lw_all := lw_g (lw_at lw_m1 125 rfl) rfl
theorem q224 : (Jvm.Cond.lays "OfferSky$State" "OfferSky$State" "gone" "I") ∈ lw_all := lw_g (lw_at lw_m1 126 rfl) rfl
theorem q225 : (Jvm.Cond.soleField "OfferSky$State" "gone") ∈ lw_all := lw_g (lw_at lw_m1 127 rfl) rfl
theorem q226 : (Jvm.Cond.superclass "OfferSky$State" "java/lang/Object") ∈ lw_all := lw_g (lw_at lw_m1 128 rfl) rfl
theorem q327 : (Jvm.Cond.instanceMethod ({ cls := "OfferSky$State", name := "twin", desc := "()LOfferSky$State;" } : Jvm.MethodName)) ∈ lw_all := lw_g (lw_at lw_m1 229 rfl) rfl
theorem q328 : (Jvm.Cond.selects "OfferSky$State" ({ cls := "OfferSky$State", name := "twin", desc := "()LOfferSky$State;" } : Jvm.MethodName) ({ cls := "OfferSky$State", name := "twin", desc := "()LOfferSky$State;" } : Jvm.MethodName)) ∈ lw_all := lw_g (lw_at lw_m1 230 rfl) rfl
theorem q329 : (Jvm.Cond.code ({ cls := "OfferSky$State", name := "twin", desc := "()LOfferSky$State;" } : Jvm.MethodName) prog_8_method_2_code (2 : Nat) (Option.some (Jvm.ClassFile.FieldType.object "OfferSky$State"))) ∈ lw_all := lw_g (lw_at lw_m1 231 rfl) rfl
theorem q330 : (Jvm.Cond.classLink "OfferSky$State" (13 : Nat) "OfferSky$State") ∈ lw_all := lw_g (lw_at lw_m1 232 rfl) rfl
theorem q331 : (Jvm.Cond.methodLink "OfferSky$State" (25 : Nat) ({ cls := "OfferSky$State", name := "<init>", desc := "()V" } : Jvm.MethodName)) ∈ lw_all := lw_g (lw_at lw_m1 233 rfl) rfl
theorem q332 : (Jvm.Cond.methodLink "OfferSky$State" (26 : Nat) ({ cls := "OfferSky$Bag", name := "copy", desc := "()LOfferSky$Bag;" } : Jvm.MethodName)) ∈ lw_all := lw_g (lw_at lw_m1 234 rfl) rfl
theorem q397 : (Jvm.Cond.selects "OfferSky$State" ({ cls := "java/lang/Object", name := "getClass", desc := "()Ljava/lang/Class;" } : Jvm.MethodName) ({ cls := "java/lang/Object", name := "getClass", desc := "()Ljava/lang/Class;" } : Jvm.MethodName)) ∈ lw_all := lw_g (lw_at lw_m2 59 rfl) rfl
theorem q422 : (Jvm.Cond.methodLink "OfferSky$State" (30 : Nat) ({ cls := "OfferSky$Sides", name := "twin", desc := "()LOfferSky$Sides;" } : Jvm.MethodName)) ∈ lw_all := lw_g (lw_at lw_m2 84 rfl) rfl
theorem q524 : (Jvm.Cond.instanceMethod ({ cls := "OfferSky$State", name := "prunes", desc := "()I" } : Jvm.MethodName)) ∈ lw_all := lw_g (lw_at lw_m2 186 rfl) rfl
theorem q525 : (Jvm.Cond.selects "OfferSky$State" ({ cls := "OfferSky$State", name := "prunes", desc := "()I" } : Jvm.MethodName) ({ cls := "OfferSky$State", name := "prunes", desc := "()I" } : Jvm.MethodName)) ∈ lw_all := lw_g (lw_at lw_m2 187 rfl) rfl
theorem q526 : (Jvm.Cond.code ({ cls := "OfferSky$State", name := "prunes", desc := "()I" } : Jvm.MethodName) prog_8_method_10_code (3 : Nat) (Option.some Jvm.ClassFile.FieldType.int)) ∈ lw_all := lw_g (lw_at lw_m2 188 rfl) rfl
theorem q527 : (Jvm.Cond.methodLink "OfferSky$State" (80 : Nat) ({ cls := "OfferSky$State", name := "active", desc := "()LOfferSky$Bag;" } : Jvm.MethodName)) ∈ lw_all := lw_g (lw_at lw_m2 189 rfl) rfl
theorem q528 : (Jvm.Cond.instanceMethod ({ cls := "OfferSky$State", name := "active", desc := "()LOfferSky$Bag;" } : Jvm.MethodName)) ∈ lw_all := lw_g (lw_at lw_m2 190 rfl) rfl
theorem q529 : (Jvm.Cond.selects "OfferSky$State" ({ cls := "OfferSky$State", name := "active", desc := "()LOfferSky$Bag;" } : Jvm.MethodName) ({ cls := "OfferSky$State", name := "active", desc := "()LOfferSky$Bag;" } : Jvm.MethodName)) ∈ lw_all := lw_g (lw_at lw_m2 191 rfl) rfl
theorem q530 : (Jvm.Cond.code ({ cls := "OfferSky$State", name := "active", desc := "()LOfferSky$Bag;" } : Jvm.MethodName) prog_8_method_13_code (1 : Nat) (Option.some (Jvm.ClassFile.FieldType.object "OfferSky$Bag"))) ∈ lw_all := lw_g (lw_at lw_m2 192 rfl) rfl
theorem q531 : (Jvm.Cond.privateMethod ({ cls := "OfferSky$State", name := "lambda$active$2", desc := "(LOfferSky$Offer;)Z" } : Jvm.MethodName)) ∈ lw_tbl := lw_at lw_m2 193 rfl
theorem q532 : (Jvm.Cond.instanceMethod ({ cls := "OfferSky$State", name := "lambda$active$2", desc := "(LOfferSky$Offer;)Z" } : Jvm.MethodName)) ∈ lw_all := lw_g (lw_at lw_m2 194 rfl) rfl
theorem q533 : (Jvm.Cond.code ({ cls := "OfferSky$State", name := "lambda$active$2", desc := "(LOfferSky$Offer;)Z" } : Jvm.MethodName) prog_8_method_65_code (2 : Nat) (Option.some Jvm.ClassFile.FieldType.boolean)) ∈ lw_all := lw_g (lw_at lw_m2 195 rfl) rfl
theorem q534 : (Jvm.Cond.methodLink "OfferSky$State" (116 : Nat) ({ cls := "OfferSky$Sides", name := "counts", desc := "(LOfferSky$Offer;)Z" } : Jvm.MethodName)) ∈ lw_all := lw_g (lw_at lw_m2 196 rfl) rfl
theorem q545 : (Jvm.Cond.methodLink "OfferSky$State" (107 : Nat) ({ cls := "OfferSky$Bag", name := "those", desc := "(LOfferSky$Choice;)LOfferSky$Bag;" } : Jvm.MethodName)) ∈ lw_all := lw_g (lw_at lw_m2 207 rfl) rfl
theorem q553 : (Jvm.Cond.methodLink "OfferSky$State" (83 : Nat) ({ cls := "OfferSky$State", name := "told", desc := "(LOfferSky$Bag;)LOfferSky$Bag;" } : Jvm.MethodName)) ∈ lw_all := lw_g (lw_at lw_m2 215 rfl) rfl
theorem q554 : (Jvm.Cond.instanceMethod ({ cls := "OfferSky$State", name := "told", desc := "(LOfferSky$Bag;)LOfferSky$Bag;" } : Jvm.MethodName)) ∈ lw_all := lw_g (lw_at lw_m2 216 rfl) rfl
theorem q555 : (Jvm.Cond.selects "OfferSky$State" ({ cls := "OfferSky$State", name := "told", desc := "(LOfferSky$Bag;)LOfferSky$Bag;" } : Jvm.MethodName) ({ cls := "OfferSky$State", name := "told", desc := "(LOfferSky$Bag;)LOfferSky$Bag;" } : Jvm.MethodName)) ∈ lw_all := lw_g (lw_at lw_m2 217 rfl) rfl
theorem q556 : (Jvm.Cond.code ({ cls := "OfferSky$State", name := "told", desc := "(LOfferSky$Bag;)LOfferSky$Bag;" } : Jvm.MethodName) prog_8_method_15_code (2 : Nat) (Option.some (Jvm.ClassFile.FieldType.object "OfferSky$Bag"))) ∈ lw_all := lw_g (lw_at lw_m2 218 rfl) rfl
theorem q557 : (Jvm.Cond.privateMethod ({ cls := "OfferSky$State", name := "lambda$told$3", desc := "(LOfferSky$Bag;LOfferSky$Offer;)Z" } : Jvm.MethodName)) ∈ lw_tbl := lw_at lw_m2 219 rfl
theorem q558 : (Jvm.Cond.instanceMethod ({ cls := "OfferSky$State", name := "lambda$told$3", desc := "(LOfferSky$Bag;LOfferSky$Offer;)Z" } : Jvm.MethodName)) ∈ lw_all := lw_g (lw_at lw_m2 220 rfl) rfl
theorem q559 : (Jvm.Cond.code ({ cls := "OfferSky$State", name := "lambda$told$3", desc := "(LOfferSky$Bag;LOfferSky$Offer;)Z" } : Jvm.MethodName) prog_8_method_64_code (3 : Nat) (Option.some Jvm.ClassFile.FieldType.boolean)) ∈ lw_all := lw_g (lw_at lw_m2 221 rfl) rfl
theorem q560 : (Jvm.Cond.methodLink "OfferSky$State" (130 : Nat) ({ cls := "OfferSky$State", name := "isBeaten", desc := "(LOfferSky$Offer;LOfferSky$Bag;I)Z" } : Jvm.MethodName)) ∈ lw_all := lw_g (lw_at lw_m2 222 rfl) rfl
theorem q561 : (Jvm.Cond.instanceMethod ({ cls := "OfferSky$State", name := "isBeaten", desc := "(LOfferSky$Offer;LOfferSky$Bag;I)Z" } : Jvm.MethodName)) ∈ lw_all := lw_g (lw_at lw_m2 223 rfl) rfl
theorem q562 : (Jvm.Cond.selects "OfferSky$State" ({ cls := "OfferSky$State", name := "isBeaten", desc := "(LOfferSky$Offer;LOfferSky$Bag;I)Z" } : Jvm.MethodName) ({ cls := "OfferSky$State", name := "isBeaten", desc := "(LOfferSky$Offer;LOfferSky$Bag;I)Z" } : Jvm.MethodName)) ∈ lw_all := lw_g (lw_at lw_m2 224 rfl) rfl
theorem q563 : (Jvm.Cond.code ({ cls := "OfferSky$State", name := "isBeaten", desc := "(LOfferSky$Offer;LOfferSky$Bag;I)Z" } : Jvm.MethodName) prog_8_method_14_code (6 : Nat) (Option.some Jvm.ClassFile.FieldType.boolean)) ∈ lw_all := lw_g (lw_at lw_m2 225 rfl) rfl
theorem q564 : (Jvm.Cond.methodLink "OfferSky$State" (41 : Nat) ({ cls := "OfferSky$Bag", name := "size", desc := "()I" } : Jvm.MethodName)) ∈ lw_all := lw_g (lw_at lw_m2 226 rfl) rfl
theorem q568 : (Jvm.Cond.methodLink "OfferSky$State" (49 : Nat) ({ cls := "OfferSky$Bag", name := "get", desc := "(I)Ljava/lang/Object;" } : Jvm.MethodName)) ∈ lw_all := lw_g (lw_at lw_m2 230 rfl) rfl
theorem q572 : (Jvm.Cond.classLink "OfferSky$State" (53 : Nat) "OfferSky$Offer") ∈ lw_all := lw_g (lw_at lw_m2 234 rfl) rfl
theorem q573 : (Jvm.Cond.methodLink "OfferSky$State" (111 : Nat) ({ cls := "OfferSky$Sides", name := "isAbove", desc := "(LOfferSky$Offer;LOfferSky$Offer;I)Z" } : Jvm.MethodName)) ∈ lw_all := lw_g (lw_at lw_m2 235 rfl) rfl
theorem q595 : (Jvm.Cond.privateMethod ({ cls := "OfferSky$State", name := "lambda$prunes$1", desc := "(LOfferSky$Bag;LOfferSky$Offer;)Z" } : Jvm.MethodName)) ∈ lw_tbl := lw_at lw_m3 17 rfl
theorem q596 : (Jvm.Cond.instanceMethod ({ cls := "OfferSky$State", name := "lambda$prunes$1", desc := "(LOfferSky$Bag;LOfferSky$Offer;)Z" } : Jvm.MethodName)) ∈ lw_all := lw_g (lw_at lw_m3 18 rfl) rfl
theorem q597 : (Jvm.Cond.code ({ cls := "OfferSky$State", name := "lambda$prunes$1", desc := "(LOfferSky$Bag;LOfferSky$Offer;)Z" } : Jvm.MethodName) prog_8_method_66_code (3 : Nat) (Option.some Jvm.ClassFile.FieldType.boolean)) ∈ lw_all := lw_g (lw_at lw_m3 19 rfl) rfl
theorem q598 : (Jvm.Cond.static ({ cls := "OfferSky$State", name := "lambda$prunes$0", desc := "(LOfferSky$Offer;LOfferSky$Offer;)Z" } : Jvm.MethodName)) ∈ lw_all := lw_g (lw_at lw_m3 20 rfl) rfl
theorem q599 : (Jvm.Cond.code ({ cls := "OfferSky$State", name := "lambda$prunes$0", desc := "(LOfferSky$Offer;LOfferSky$Offer;)Z" } : Jvm.MethodName) prog_8_method_67_code (2 : Nat) (Option.some Jvm.ClassFile.FieldType.boolean)) ∈ lw_all := lw_g (lw_at lw_m3 21 rfl) rfl
theorem q600 : (Jvm.Cond.methodLink "OfferSky$State" (247 : Nat) ({ cls := "OfferSky$Bag", name := "hasOne", desc := "(LOfferSky$Choice;)Z" } : Jvm.MethodName)) ∈ lw_all := lw_g (lw_at lw_m3 22 rfl) rfl
theorem q604 : (Jvm.Cond.methodLink "OfferSky$State" (91 : Nat) ({ cls := "OfferSky$Bag", name := "drops", desc := "(LOfferSky$Choice;)I" } : Jvm.MethodName)) ∈ lw_all := lw_g (lw_at lw_m3 26 rfl) rfl
theorem q1013 : (Jvm.Cond.instanceMethod ({ cls := "OfferSky$State", name := "bySums", desc := "()I" } : Jvm.MethodName)) ∈ lw_all := lw_g (lw_at lw_m4 195 rfl) rfl
theorem q1014 : (Jvm.Cond.selects "OfferSky$State" ({ cls := "OfferSky$State", name := "bySums", desc := "()I" } : Jvm.MethodName) ({ cls := "OfferSky$State", name := "bySums", desc := "()I" } : Jvm.MethodName)) ∈ lw_all := lw_g (lw_at lw_m4 196 rfl) rfl
theorem q1015 : (Jvm.Cond.code ({ cls := "OfferSky$State", name := "bySums", desc := "()I" } : Jvm.MethodName) prog_8_method_20_code (4 : Nat) (Option.some Jvm.ClassFile.FieldType.int)) ∈ lw_all := lw_g (lw_at lw_m4 197 rfl) rfl
theorem q1016 : (Jvm.Cond.privateMethod ({ cls := "OfferSky$State", name := "lambda$bySums$7", desc := "(LOfferSky$Offer;LOfferSky$Offer;)Z" } : Jvm.MethodName)) ∈ lw_tbl := lw_at lw_m4 198 rfl
theorem q1017 : (Jvm.Cond.instanceMethod ({ cls := "OfferSky$State", name := "lambda$bySums$7", desc := "(LOfferSky$Offer;LOfferSky$Offer;)Z" } : Jvm.MethodName)) ∈ lw_all := lw_g (lw_at lw_m4 199 rfl) rfl
theorem q1018 : (Jvm.Cond.code ({ cls := "OfferSky$State", name := "lambda$bySums$7", desc := "(LOfferSky$Offer;LOfferSky$Offer;)Z" } : Jvm.MethodName) prog_8_method_60_code (3 : Nat) (Option.some Jvm.ClassFile.FieldType.boolean)) ∈ lw_all := lw_g (lw_at lw_m4 200 rfl) rfl
theorem q1019 : (Jvm.Cond.methodLink "OfferSky$State" (255 : Nat) ({ cls := "OfferSky$Sides", name := "sum", desc := "(LOfferSky$Offer;)I" } : Jvm.MethodName)) ∈ lw_all := lw_g (lw_at lw_m4 201 rfl) rfl
theorem q1023 : (Jvm.Cond.methodLink "OfferSky$State" (139 : Nat) ({ cls := "OfferSky$Bag", name := "ordered", desc := "(LOfferSky$Order;)LOfferSky$Bag;" } : Jvm.MethodName)) ∈ lw_all := lw_g (lw_at lw_m4 205 rfl) rfl
theorem q1064 : (Jvm.Cond.methodLink "OfferSky$State" (55 : Nat) ({ cls := "OfferSky$Bag", name := "adds", desc := "(Ljava/lang/Object;)V" } : Jvm.MethodName)) ∈ lw_all := lw_g (lw_at lw_m5 6 rfl) rfl
theorem q1070 : (Jvm.Cond.instanceMethod ({ cls := "OfferSky$State", name := "peeled", desc := "()[I" } : Jvm.MethodName)) ∈ lw_all := lw_g (lw_at lw_m5 12 rfl) rfl
theorem q1071 : (Jvm.Cond.selects "OfferSky$State" ({ cls := "OfferSky$State", name := "peeled", desc := "()[I" } : Jvm.MethodName) ({ cls := "OfferSky$State", name := "peeled", desc := "()[I" } : Jvm.MethodName)) ∈ lw_all := lw_g (lw_at lw_m5 13 rfl) rfl
theorem q1072 : (Jvm.Cond.code ({ cls := "OfferSky$State", name := "peeled", desc := "()[I" } : Jvm.MethodName) prog_8_method_22_code (6 : Nat) (Option.some (Jvm.ClassFile.FieldType.array Jvm.ClassFile.FieldType.int))) ∈ lw_all := lw_g (lw_at lw_m5 14 rfl) rfl
theorem q1073 : (Jvm.Cond.methodLink "OfferSky$State" (146 : Nat) ({ cls := "OfferSky$State", name := "numberOf", desc := "(LOfferSky$Offer;)I" } : Jvm.MethodName)) ∈ lw_all := lw_g (lw_at lw_m5 15 rfl) rfl
theorem q1074 : (Jvm.Cond.instanceMethod ({ cls := "OfferSky$State", name := "numberOf", desc := "(LOfferSky$Offer;)I" } : Jvm.MethodName)) ∈ lw_all := lw_g (lw_at lw_m5 16 rfl) rfl
theorem q1075 : (Jvm.Cond.selects "OfferSky$State" ({ cls := "OfferSky$State", name := "numberOf", desc := "(LOfferSky$Offer;)I" } : Jvm.MethodName) ({ cls := "OfferSky$State", name := "numberOf", desc := "(LOfferSky$Offer;)I" } : Jvm.MethodName)) ∈ lw_all := lw_g (lw_at lw_m5 17 rfl) rfl
theorem q1076 : (Jvm.Cond.code ({ cls := "OfferSky$State", name := "numberOf", desc := "(LOfferSky$Offer;)I" } : Jvm.MethodName) prog_8_method_5_code (4 : Nat) (Option.some Jvm.ClassFile.FieldType.int)) ∈ lw_all := lw_g (lw_at lw_m5 18 rfl) rfl
theorem q1077 : (Jvm.Cond.static ({ cls := "OfferSky$State", name := "lambda$peeled$9", desc := "(LOfferSky$Bag;LOfferSky$Offer;)Z" } : Jvm.MethodName)) ∈ lw_all := lw_g (lw_at lw_m5 19 rfl) rfl
theorem q1078 : (Jvm.Cond.code ({ cls := "OfferSky$State", name := "lambda$peeled$9", desc := "(LOfferSky$Bag;LOfferSky$Offer;)Z" } : Jvm.MethodName) prog_8_method_58_code (2 : Nat) (Option.some Jvm.ClassFile.FieldType.boolean)) ∈ lw_all := lw_g (lw_at lw_m5 20 rfl) rfl
theorem q1079 : (Jvm.Cond.static ({ cls := "OfferSky$State", name := "lambda$peeled$8", desc := "(LOfferSky$Offer;LOfferSky$Offer;)Z" } : Jvm.MethodName)) ∈ lw_all := lw_g (lw_at lw_m5 21 rfl) rfl
theorem q1080 : (Jvm.Cond.code ({ cls := "OfferSky$State", name := "lambda$peeled$8", desc := "(LOfferSky$Offer;LOfferSky$Offer;)Z" } : Jvm.MethodName) prog_8_method_59_code (2 : Nat) (Option.some Jvm.ClassFile.FieldType.boolean)) ∈ lw_all := lw_g (lw_at lw_m5 22 rfl) rfl
theorem q1082 : (Jvm.Cond.instanceMethod ({ cls := "OfferSky$State", name := "greatestOf", desc := "([I)I" } : Jvm.MethodName)) ∈ lw_all := lw_g (lw_at lw_m5 24 rfl) rfl
theorem q1083 : (Jvm.Cond.selects "OfferSky$State" ({ cls := "OfferSky$State", name := "greatestOf", desc := "([I)I" } : Jvm.MethodName) ({ cls := "OfferSky$State", name := "greatestOf", desc := "([I)I" } : Jvm.MethodName)) ∈ lw_all := lw_g (lw_at lw_m5 25 rfl) rfl
theorem q1084 : (Jvm.Cond.code ({ cls := "OfferSky$State", name := "greatestOf", desc := "([I)I" } : Jvm.MethodName) prog_8_method_25_code (7 : Nat) (Option.some Jvm.ClassFile.FieldType.int)) ∈ lw_all := lw_g (lw_at lw_m5 26 rfl) rfl
theorem q1085 : (Jvm.Cond.methodLink "OfferSky$State" (155 : Nat) ({ cls := "java/lang/Math", name := "max", desc := "(II)I" } : Jvm.MethodName)) ∈ lw_all := lw_g (lw_at lw_m5 27 rfl) rfl
theorem q1091 : (Jvm.Cond.instanceMethod ({ cls := "OfferSky$State", name := "bestByTwo", desc := "()I" } : Jvm.MethodName)) ∈ lw_all := lw_g (lw_at lw_m5 33 rfl) rfl
theorem q1092 : (Jvm.Cond.selects "OfferSky$State" ({ cls := "OfferSky$State", name := "bestByTwo", desc := "()I" } : Jvm.MethodName) ({ cls := "OfferSky$State", name := "bestByTwo", desc := "()I" } : Jvm.MethodName)) ∈ lw_all := lw_g (lw_at lw_m5 34 rfl) rfl
theorem q1093 : (Jvm.Cond.code ({ cls := "OfferSky$State", name := "bestByTwo", desc := "()I" } : Jvm.MethodName) prog_8_method_44_code (6 : Nat) (Option.some Jvm.ClassFile.FieldType.int)) ∈ lw_all := lw_g (lw_at lw_m5 35 rfl) rfl
theorem q1094 : (Jvm.Cond.methodLink "OfferSky$State" (224 : Nat) ({ cls := "OfferSky$State", name := "masks", desc := "(LOfferSky$Bag;LOfferSky$Bag;)[J" } : Jvm.MethodName)) ∈ lw_all := lw_g (lw_at lw_m5 36 rfl) rfl
theorem q1095 : (Jvm.Cond.privateMethod ({ cls := "OfferSky$State", name := "masks", desc := "(LOfferSky$Bag;LOfferSky$Bag;)[J" } : Jvm.MethodName)) ∈ lw_tbl := lw_at lw_m5 37 rfl
theorem q1096 : (Jvm.Cond.instanceMethod ({ cls := "OfferSky$State", name := "masks", desc := "(LOfferSky$Bag;LOfferSky$Bag;)[J" } : Jvm.MethodName)) ∈ lw_all := lw_g (lw_at lw_m5 38 rfl) rfl
theorem q1097 : (Jvm.Cond.code ({ cls := "OfferSky$State", name := "masks", desc := "(LOfferSky$Bag;LOfferSky$Bag;)[J" } : Jvm.MethodName) prog_8_method_38_code (8 : Nat) (Option.some (Jvm.ClassFile.FieldType.array Jvm.ClassFile.FieldType.long))) ∈ lw_all := lw_g (lw_at lw_m5 39 rfl) rfl
theorem q1098 : (Jvm.Cond.methodLinkNest "OfferSky$State" (171 : Nat) ({ cls := "OfferSky", name := "flag", desc := "(Z)I" } : Jvm.MethodName) "OfferSky") ∈ lw_tbl := lw_at lw_m5 40 rfl
theorem q1099 : (Jvm.Cond.methodLink "OfferSky$State" (213 : Nat) ({ cls := "OfferSky$State", name := "ones", desc := "(J)I" } : Jvm.MethodName)) ∈ lw_all := lw_g (lw_at lw_m5 41 rfl) rfl
theorem q1100 : (Jvm.Cond.static ({ cls := "OfferSky$State", name := "ones", desc := "(J)I" } : Jvm.MethodName)) ∈ lw_all := lw_g (lw_at lw_m5 42 rfl) rfl
theorem q1101 : (Jvm.Cond.code ({ cls := "OfferSky$State", name := "ones", desc := "(J)I" } : Jvm.MethodName) prog_8_method_39_code (5 : Nat) (Option.some Jvm.ClassFile.FieldType.int)) ∈ lw_all := lw_g (lw_at lw_m5 43 rfl) rfl
theorem q1116 : (Jvm.Cond.instanceMethod ({ cls := "OfferSky$State", name := "pairsBeaten", desc := "()I" } : Jvm.MethodName)) ∈ lw_all := lw_g (lw_at lw_m5 58 rfl) rfl
theorem q1117 : (Jvm.Cond.selects "OfferSky$State" ({ cls := "OfferSky$State", name := "pairsBeaten", desc := "()I" } : Jvm.MethodName) ({ cls := "OfferSky$State", name := "pairsBeaten", desc := "()I" } : Jvm.MethodName)) ∈ lw_all := lw_g (lw_at lw_m5 59 rfl) rfl
theorem q1118 : (Jvm.Cond.code ({ cls := "OfferSky$State", name := "pairsBeaten", desc := "()I" } : Jvm.MethodName) prog_8_method_21_code (3 : Nat) (Option.some Jvm.ClassFile.FieldType.int)) ∈ lw_all := lw_g (lw_at lw_m5 60 rfl) rfl
theorem q1119 : (Jvm.Cond.methodLink "OfferSky$State" (143 : Nat) ({ cls := "OfferSky$State", name := "beaten", desc := "(LOfferSky$Offer;)I" } : Jvm.MethodName)) ∈ lw_all := lw_g (lw_at lw_m5 61 rfl) rfl
theorem q1120 : (Jvm.Cond.instanceMethod ({ cls := "OfferSky$State", name := "beaten", desc := "(LOfferSky$Offer;)I" } : Jvm.MethodName)) ∈ lw_all := lw_g (lw_at lw_m5 62 rfl) rfl
theorem q1121 : (Jvm.Cond.selects "OfferSky$State" ({ cls := "OfferSky$State", name := "beaten", desc := "(LOfferSky$Offer;)I" } : Jvm.MethodName) ({ cls := "OfferSky$State", name := "beaten", desc := "(LOfferSky$Offer;)I" } : Jvm.MethodName)) ∈ lw_all := lw_g (lw_at lw_m5 63 rfl) rfl
theorem q1122 : (Jvm.Cond.code ({ cls := "OfferSky$State", name := "beaten", desc := "(LOfferSky$Offer;)I" } : Jvm.MethodName) prog_8_method_17_code (2 : Nat) (Option.some Jvm.ClassFile.FieldType.int)) ∈ lw_all := lw_g (lw_at lw_m5 64 rfl) rfl
theorem q1123 : (Jvm.Cond.privateMethod ({ cls := "OfferSky$State", name := "lambda$beaten$5", desc := "(LOfferSky$Offer;LOfferSky$Offer;)Z" } : Jvm.MethodName)) ∈ lw_tbl := lw_at lw_m5 65 rfl
theorem q1124 : (Jvm.Cond.instanceMethod ({ cls := "OfferSky$State", name := "lambda$beaten$5", desc := "(LOfferSky$Offer;LOfferSky$Offer;)Z" } : Jvm.MethodName)) ∈ lw_all := lw_g (lw_at lw_m5 66 rfl) rfl
theorem q1125 : (Jvm.Cond.code ({ cls := "OfferSky$State", name := "lambda$beaten$5", desc := "(LOfferSky$Offer;LOfferSky$Offer;)Z" } : Jvm.MethodName) prog_8_method_62_code (3 : Nat) (Option.some Jvm.ClassFile.FieldType.boolean)) ∈ lw_all := lw_g (lw_at lw_m5 67 rfl) rfl
theorem q1126 : (Jvm.Cond.methodLink "OfferSky$State" (123 : Nat) ({ cls := "OfferSky$Bag", name := "counts", desc := "(LOfferSky$Choice;)I" } : Jvm.MethodName)) ∈ lw_all := lw_g (lw_at lw_m5 68 rfl) rfl
theorem q1136 : (Jvm.Cond.instanceMethod ({ cls := "OfferSky$State", name := "share", desc := "()D" } : Jvm.MethodName)) ∈ lw_all := lw_g (lw_at lw_m5 78 rfl) rfl
theorem q1137 : (Jvm.Cond.selects "OfferSky$State" ({ cls := "OfferSky$State", name := "share", desc := "()D" } : Jvm.MethodName) ({ cls := "OfferSky$State", name := "share", desc := "()D" } : Jvm.MethodName)) ∈ lw_all := lw_g (lw_at lw_m5 79 rfl) rfl
theorem q1138 : (Jvm.Cond.code ({ cls := "OfferSky$State", name := "share", desc := "()D" } : Jvm.MethodName) prog_8_method_51_code (2 : Nat) (Option.some Jvm.ClassFile.FieldType.double)) ∈ lw_all := lw_g (lw_at lw_m5 80 rfl) rfl
theorem q1158 : (Jvm.Cond.instanceMethod ({ cls := "OfferSky$State", name := "window", desc := "()LOfferSky$Bag;" } : Jvm.MethodName)) ∈ lw_all := lw_g (lw_at lw_m5 100 rfl) rfl
theorem q1159 : (Jvm.Cond.selects "OfferSky$State" ({ cls := "OfferSky$State", name := "window", desc := "()LOfferSky$Bag;" } : Jvm.MethodName) ({ cls := "OfferSky$State", name := "window", desc := "()LOfferSky$Bag;" } : Jvm.MethodName)) ∈ lw_all := lw_g (lw_at lw_m5 101 rfl) rfl
theorem q1160 : (Jvm.Cond.code ({ cls := "OfferSky$State", name := "window", desc := "()LOfferSky$Bag;" } : Jvm.MethodName) prog_8_method_19_code (5 : Nat) (Option.some (Jvm.ClassFile.FieldType.object "OfferSky$Bag"))) ∈ lw_all := lw_g (lw_at lw_m5 102 rfl) rfl
theorem q1161 : (Jvm.Cond.privateMethod ({ cls := "OfferSky$State", name := "lambda$window$6", desc := "(LOfferSky$Offer;LOfferSky$Offer;)Z" } : Jvm.MethodName)) ∈ lw_tbl := lw_at lw_m5 103 rfl
theorem q1162 : (Jvm.Cond.instanceMethod ({ cls := "OfferSky$State", name := "lambda$window$6", desc := "(LOfferSky$Offer;LOfferSky$Offer;)Z" } : Jvm.MethodName)) ∈ lw_all := lw_g (lw_at lw_m5 104 rfl) rfl
theorem q1163 : (Jvm.Cond.code ({ cls := "OfferSky$State", name := "lambda$window$6", desc := "(LOfferSky$Offer;LOfferSky$Offer;)Z" } : Jvm.MethodName) prog_8_method_61_code (3 : Nat) (Option.some Jvm.ClassFile.FieldType.boolean)) ∈ lw_all := lw_g (lw_at lw_m5 105 rfl) rfl
theorem q1165 : (Jvm.Cond.instanceMethod ({ cls := "OfferSky$State", name := "rowsByBeating", desc := "()[I" } : Jvm.MethodName)) ∈ lw_all := lw_g (lw_at lw_m5 107 rfl) rfl
theorem q1166 : (Jvm.Cond.selects "OfferSky$State" ({ cls := "OfferSky$State", name := "rowsByBeating", desc := "()[I" } : Jvm.MethodName) ({ cls := "OfferSky$State", name := "rowsByBeating", desc := "()[I" } : Jvm.MethodName)) ∈ lw_all := lw_g (lw_at lw_m5 108 rfl) rfl
theorem q1167 : (Jvm.Cond.code ({ cls := "OfferSky$State", name := "rowsByBeating", desc := "()[I" } : Jvm.MethodName) prog_8_method_24_code (5 : Nat) (Option.some (Jvm.ClassFile.FieldType.array Jvm.ClassFile.FieldType.int))) ∈ lw_all := lw_g (lw_at lw_m5 109 rfl) rfl
theorem q1168 : (Jvm.Cond.methodLink "OfferSky$State" (152 : Nat) ({ cls := "OfferSky$State", name := "get", desc := "(I)LOfferSky$Offer;" } : Jvm.MethodName)) ∈ lw_all := lw_g (lw_at lw_m5 110 rfl) rfl
theorem q1169 : (Jvm.Cond.instanceMethod ({ cls := "OfferSky$State", name := "get", desc := "(I)LOfferSky$Offer;" } : Jvm.MethodName)) ∈ lw_all := lw_g (lw_at lw_m5 111 rfl) rfl
theorem q1170 : (Jvm.Cond.selects "OfferSky$State" ({ cls := "OfferSky$State", name := "get", desc := "(I)LOfferSky$Offer;" } : Jvm.MethodName) ({ cls := "OfferSky$State", name := "get", desc := "(I)LOfferSky$Offer;" } : Jvm.MethodName)) ∈ lw_all := lw_g (lw_at lw_m5 112 rfl) rfl
theorem q1171 : (Jvm.Cond.code ({ cls := "OfferSky$State", name := "get", desc := "(I)LOfferSky$Offer;" } : Jvm.MethodName) prog_8_method_4_code (2 : Nat) (Option.some (Jvm.ClassFile.FieldType.object "OfferSky$Offer"))) ∈ lw_all := lw_g (lw_at lw_m5 113 rfl) rfl
theorem q1172 : (Jvm.Cond.methodLink "OfferSky$State" (161 : Nat) ({ cls := "OfferSky$State", name := "rowTo", desc := "(I[I)I" } : Jvm.MethodName)) ∈ lw_all := lw_g (lw_at lw_m5 114 rfl) rfl
theorem q1173 : (Jvm.Cond.privateMethod ({ cls := "OfferSky$State", name := "rowTo", desc := "(I[I)I" } : Jvm.MethodName)) ∈ lw_tbl := lw_at lw_m5 115 rfl
theorem q1174 : (Jvm.Cond.instanceMethod ({ cls := "OfferSky$State", name := "rowTo", desc := "(I[I)I" } : Jvm.MethodName)) ∈ lw_all := lw_g (lw_at lw_m5 116 rfl) rfl
theorem q1175 : (Jvm.Cond.code ({ cls := "OfferSky$State", name := "rowTo", desc := "(I[I)I" } : Jvm.MethodName) prog_8_method_23_code (6 : Nat) (Option.some Jvm.ClassFile.FieldType.int)) ∈ lw_all := lw_g (lw_at lw_m5 117 rfl) rfl
theorem q1180 : (Jvm.Cond.instanceMethod ({ cls := "OfferSky$State", name := "beaters", desc := "(LOfferSky$Offer;)I" } : Jvm.MethodName)) ∈ lw_all := lw_g (lw_at lw_m5 122 rfl) rfl
theorem q1181 : (Jvm.Cond.selects "OfferSky$State" ({ cls := "OfferSky$State", name := "beaters", desc := "(LOfferSky$Offer;)I" } : Jvm.MethodName) ({ cls := "OfferSky$State", name := "beaters", desc := "(LOfferSky$Offer;)I" } : Jvm.MethodName)) ∈ lw_all := lw_g (lw_at lw_m5 123 rfl) rfl
theorem q1182 : (Jvm.Cond.code ({ cls := "OfferSky$State", name := "beaters", desc := "(LOfferSky$Offer;)I" } : Jvm.MethodName) prog_8_method_16_code (2 : Nat) (Option.some Jvm.ClassFile.FieldType.int)) ∈ lw_all := lw_g (lw_at lw_m5 124 rfl) rfl
theorem q1183 : (Jvm.Cond.privateMethod ({ cls := "OfferSky$State", name := "lambda$beaters$4", desc := "(LOfferSky$Offer;LOfferSky$Offer;)Z" } : Jvm.MethodName)) ∈ lw_tbl := lw_at lw_m5 125 rfl
theorem q1184 : (Jvm.Cond.instanceMethod ({ cls := "OfferSky$State", name := "lambda$beaters$4", desc := "(LOfferSky$Offer;LOfferSky$Offer;)Z" } : Jvm.MethodName)) ∈ lw_all := lw_g (lw_at lw_m5 126 rfl) rfl
theorem q1185 : (Jvm.Cond.code ({ cls := "OfferSky$State", name := "lambda$beaters$4", desc := "(LOfferSky$Offer;LOfferSky$Offer;)Z" } : Jvm.MethodName) prog_8_method_63_code (3 : Nat) (Option.some Jvm.ClassFile.FieldType.boolean)) ∈ lw_all := lw_g (lw_at lw_m5 127 rfl) rfl
theorem q1188 : (Jvm.Cond.instanceMethod ({ cls := "OfferSky$State", name := "isTold", desc := "(LOfferSky$Offer;)Z" } : Jvm.MethodName)) ∈ lw_all := lw_g (lw_at lw_m5 130 rfl) rfl
theorem q1189 : (Jvm.Cond.selects "OfferSky$State" ({ cls := "OfferSky$State", name := "isTold", desc := "(LOfferSky$Offer;)Z" } : Jvm.MethodName) ({ cls := "OfferSky$State", name := "isTold", desc := "(LOfferSky$Offer;)Z" } : Jvm.MethodName)) ∈ lw_all := lw_g (lw_at lw_m5 131 rfl) rfl
theorem q1190 : (Jvm.Cond.code ({ cls := "OfferSky$State", name := "isTold", desc := "(LOfferSky$Offer;)Z" } : Jvm.MethodName) prog_8_method_18_code (2 : Nat) (Option.some Jvm.ClassFile.FieldType.boolean)) ∈ lw_all := lw_g (lw_at lw_m5 132 rfl) rfl
theorem q1191 : (Jvm.Cond.methodLink "OfferSky$State" (126 : Nat) ({ cls := "OfferSky$State", name := "beaters", desc := "(LOfferSky$Offer;)I" } : Jvm.MethodName)) ∈ lw_all := lw_g (lw_at lw_m5 133 rfl) rfl
theorem q1208 : (Jvm.Cond.instanceMethod ({ cls := "OfferSky$State", name := "toldBy", desc := "(I)I" } : Jvm.MethodName)) ∈ lw_all := lw_g (lw_at lw_m5 150 rfl) rfl
theorem q1209 : (Jvm.Cond.selects "OfferSky$State" ({ cls := "OfferSky$State", name := "toldBy", desc := "(I)I" } : Jvm.MethodName) ({ cls := "OfferSky$State", name := "toldBy", desc := "(I)I" } : Jvm.MethodName)) ∈ lw_all := lw_g (lw_at lw_m5 151 rfl) rfl
theorem q1210 : (Jvm.Cond.code ({ cls := "OfferSky$State", name := "toldBy", desc := "(I)I" } : Jvm.MethodName) prog_8_method_27_code (3 : Nat) (Option.some Jvm.ClassFile.FieldType.int)) ∈ lw_all := lw_g (lw_at lw_m5 152 rfl) rfl
theorem q1211 : (Jvm.Cond.privateMethod ({ cls := "OfferSky$State", name := "lambda$toldBy$10", desc := "(LOfferSky$Bag;ILOfferSky$Offer;)Z" } : Jvm.MethodName)) ∈ lw_tbl := lw_at lw_m5 153 rfl
theorem q1212 : (Jvm.Cond.instanceMethod ({ cls := "OfferSky$State", name := "lambda$toldBy$10", desc := "(LOfferSky$Bag;ILOfferSky$Offer;)Z" } : Jvm.MethodName)) ∈ lw_all := lw_g (lw_at lw_m5 154 rfl) rfl
theorem q1213 : (Jvm.Cond.code ({ cls := "OfferSky$State", name := "lambda$toldBy$10", desc := "(LOfferSky$Bag;ILOfferSky$Offer;)Z" } : Jvm.MethodName) prog_8_method_57_code (4 : Nat) (Option.some Jvm.ClassFile.FieldType.boolean)) ∈ lw_all := lw_g (lw_at lw_m5 155 rfl) rfl
theorem q1214 : (Jvm.Cond.methodLink "OfferSky$State" (168 : Nat) ({ cls := "OfferSky$State", name := "isToldOn", desc := "(LOfferSky$Offer;LOfferSky$Bag;I)Z" } : Jvm.MethodName)) ∈ lw_all := lw_g (lw_at lw_m5 156 rfl) rfl
theorem q1215 : (Jvm.Cond.privateMethod ({ cls := "OfferSky$State", name := "isToldOn", desc := "(LOfferSky$Offer;LOfferSky$Bag;I)Z" } : Jvm.MethodName)) ∈ lw_tbl := lw_at lw_m5 157 rfl
theorem q1216 : (Jvm.Cond.instanceMethod ({ cls := "OfferSky$State", name := "isToldOn", desc := "(LOfferSky$Offer;LOfferSky$Bag;I)Z" } : Jvm.MethodName)) ∈ lw_all := lw_g (lw_at lw_m5 158 rfl) rfl
theorem q1217 : (Jvm.Cond.code ({ cls := "OfferSky$State", name := "isToldOn", desc := "(LOfferSky$Offer;LOfferSky$Bag;I)Z" } : Jvm.MethodName) prog_8_method_26_code (4 : Nat) (Option.some Jvm.ClassFile.FieldType.boolean)) ∈ lw_all := lw_g (lw_at lw_m5 159 rfl) rfl
theorem q1219 : (Jvm.Cond.instanceMethod ({ cls := "OfferSky$State", name := "weakly", desc := "(I)I" } : Jvm.MethodName)) ∈ lw_all := lw_g (lw_at lw_m5 161 rfl) rfl
theorem q1220 : (Jvm.Cond.selects "OfferSky$State" ({ cls := "OfferSky$State", name := "weakly", desc := "(I)I" } : Jvm.MethodName) ({ cls := "OfferSky$State", name := "weakly", desc := "(I)I" } : Jvm.MethodName)) ∈ lw_all := lw_g (lw_at lw_m5 162 rfl) rfl
theorem q1221 : (Jvm.Cond.code ({ cls := "OfferSky$State", name := "weakly", desc := "(I)I" } : Jvm.MethodName) prog_8_method_29_code (3 : Nat) (Option.some Jvm.ClassFile.FieldType.int)) ∈ lw_all := lw_g (lw_at lw_m5 163 rfl) rfl
theorem q1222 : (Jvm.Cond.privateMethod ({ cls := "OfferSky$State", name := "lambda$weakly$12", desc := "(LOfferSky$Bag;ILOfferSky$Offer;)Z" } : Jvm.MethodName)) ∈ lw_tbl := lw_at lw_m5 164 rfl
theorem q1223 : (Jvm.Cond.instanceMethod ({ cls := "OfferSky$State", name := "lambda$weakly$12", desc := "(LOfferSky$Bag;ILOfferSky$Offer;)Z" } : Jvm.MethodName)) ∈ lw_all := lw_g (lw_at lw_m5 165 rfl) rfl
theorem q1224 : (Jvm.Cond.code ({ cls := "OfferSky$State", name := "lambda$weakly$12", desc := "(LOfferSky$Bag;ILOfferSky$Offer;)Z" } : Jvm.MethodName) prog_8_method_55_code (4 : Nat) (Option.some Jvm.ClassFile.FieldType.boolean)) ∈ lw_all := lw_g (lw_at lw_m5 166 rfl) rfl
theorem q1225 : (Jvm.Cond.privateMethod ({ cls := "OfferSky$State", name := "lambda$weakly$11", desc := "(LOfferSky$Offer;ILOfferSky$Offer;)Z" } : Jvm.MethodName)) ∈ lw_tbl := lw_at lw_m5 167 rfl
theorem q1226 : (Jvm.Cond.instanceMethod ({ cls := "OfferSky$State", name := "lambda$weakly$11", desc := "(LOfferSky$Offer;ILOfferSky$Offer;)Z" } : Jvm.MethodName)) ∈ lw_all := lw_g (lw_at lw_m5 168 rfl) rfl
theorem q1227 : (Jvm.Cond.code ({ cls := "OfferSky$State", name := "lambda$weakly$11", desc := "(LOfferSky$Offer;ILOfferSky$Offer;)Z" } : Jvm.MethodName) prog_8_method_56_code (4 : Nat) (Option.some Jvm.ClassFile.FieldType.boolean)) ∈ lw_all := lw_g (lw_at lw_m5 169 rfl) rfl
theorem q1228 : (Jvm.Cond.methodLink "OfferSky$State" (251 : Nat) ({ cls := "OfferSky$Sides", name := "isAboveWeakly", desc := "(LOfferSky$Offer;LOfferSky$Offer;I)Z" } : Jvm.MethodName)) ∈ lw_all := lw_g (lw_at lw_m5 170 rfl) rfl
theorem q1237 : (Jvm.Cond.instanceMethod ({ cls := "OfferSky$State", name := "coveredBy", desc := "(I)I" } : Jvm.MethodName)) ∈ lw_all := lw_g (lw_at lw_m5 179 rfl) rfl
theorem q1238 : (Jvm.Cond.selects "OfferSky$State" ({ cls := "OfferSky$State", name := "coveredBy", desc := "(I)I" } : Jvm.MethodName) ({ cls := "OfferSky$State", name := "coveredBy", desc := "(I)I" } : Jvm.MethodName)) ∈ lw_all := lw_g (lw_at lw_m5 180 rfl) rfl
theorem q1239 : (Jvm.Cond.code ({ cls := "OfferSky$State", name := "coveredBy", desc := "(I)I" } : Jvm.MethodName) prog_8_method_42_code (10 : Nat) (Option.some Jvm.ClassFile.FieldType.int)) ∈ lw_all := lw_g (lw_at lw_m5 181 rfl) rfl
theorem q1240 : (Jvm.Cond.methodLink "OfferSky$State" (228 : Nat) ({ cls := "OfferSky$State", name := "greedy", desc := "([JI)[I" } : Jvm.MethodName)) ∈ lw_all := lw_g (lw_at lw_m5 182 rfl) rfl
theorem q1241 : (Jvm.Cond.privateMethod ({ cls := "OfferSky$State", name := "greedy", desc := "([JI)[I" } : Jvm.MethodName)) ∈ lw_tbl := lw_at lw_m5 183 rfl
theorem q1242 : (Jvm.Cond.instanceMethod ({ cls := "OfferSky$State", name := "greedy", desc := "([JI)[I" } : Jvm.MethodName)) ∈ lw_all := lw_g (lw_at lw_m5 184 rfl) rfl
theorem q1243 : (Jvm.Cond.code ({ cls := "OfferSky$State", name := "greedy", desc := "([JI)[I" } : Jvm.MethodName) prog_8_method_41_code (8 : Nat) (Option.some (Jvm.ClassFile.FieldType.array Jvm.ClassFile.FieldType.int))) ∈ lw_all := lw_g (lw_at lw_m5 185 rfl) rfl
theorem q1244 : (Jvm.Cond.methodLink "OfferSky$State" (217 : Nat) ({ cls := "java/lang/Math", name := "min", desc := "(II)I" } : Jvm.MethodName)) ∈ lw_all := lw_g (lw_at lw_m5 186 rfl) rfl
theorem q1245 : (Jvm.Cond.methodLink "OfferSky$State" (220 : Nat) ({ cls := "OfferSky$State", name := "bestNext", desc := "([J[ZJ)I" } : Jvm.MethodName)) ∈ lw_all := lw_g (lw_at lw_m5 187 rfl) rfl
theorem q1246 : (Jvm.Cond.static ({ cls := "OfferSky$State", name := "bestNext", desc := "([J[ZJ)I" } : Jvm.MethodName)) ∈ lw_all := lw_g (lw_at lw_m5 188 rfl) rfl
theorem q1247 : (Jvm.Cond.code ({ cls := "OfferSky$State", name := "bestNext", desc := "([J[ZJ)I" } : Jvm.MethodName) prog_8_method_40_code (8 : Nat) (Option.some Jvm.ClassFile.FieldType.int)) ∈ lw_all := lw_g (lw_at lw_m5 189 rfl) rfl
theorem q1248 : (Jvm.Cond.constantLong "OfferSky$State" (211 : Nat) (-1 : Int64)) ∈ lw_all := lw_g (lw_at lw_m5 190 rfl) rfl
theorem q1254 : (Jvm.Cond.instanceMethod ({ cls := "OfferSky$State", name := "takenInOrder", desc := "()LOfferSky$Bag;" } : Jvm.MethodName)) ∈ lw_all := lw_g (lw_at lw_m5 196 rfl) rfl
theorem q1255 : (Jvm.Cond.selects "OfferSky$State" ({ cls := "OfferSky$State", name := "takenInOrder", desc := "()LOfferSky$Bag;" } : Jvm.MethodName) ({ cls := "OfferSky$State", name := "takenInOrder", desc := "()LOfferSky$Bag;" } : Jvm.MethodName)) ∈ lw_all := lw_g (lw_at lw_m5 197 rfl) rfl
theorem q1256 : (Jvm.Cond.code ({ cls := "OfferSky$State", name := "takenInOrder", desc := "()LOfferSky$Bag;" } : Jvm.MethodName) prog_8_method_43_code (8 : Nat) (Option.some (Jvm.ClassFile.FieldType.object "OfferSky$Bag"))) ∈ lw_all := lw_g (lw_at lw_m5 198 rfl) rfl
theorem q1261 : (Jvm.Cond.instanceMethod ({ cls := "OfferSky$State", name := "scored", desc := "()LOfferSky$Bag;" } : Jvm.MethodName)) ∈ lw_all := lw_g (lw_at lw_m5 203 rfl) rfl
theorem q1262 : (Jvm.Cond.selects "OfferSky$State" ({ cls := "OfferSky$State", name := "scored", desc := "()LOfferSky$Bag;" } : Jvm.MethodName) ({ cls := "OfferSky$State", name := "scored", desc := "()LOfferSky$Bag;" } : Jvm.MethodName)) ∈ lw_all := lw_g (lw_at lw_m5 204 rfl) rfl
theorem q1263 : (Jvm.Cond.code ({ cls := "OfferSky$State", name := "scored", desc := "()LOfferSky$Bag;" } : Jvm.MethodName) prog_8_method_45_code (1 : Nat) (Option.some (Jvm.ClassFile.FieldType.object "OfferSky$Bag"))) ∈ lw_all := lw_g (lw_at lw_m5 205 rfl) rfl
theorem q1264 : (Jvm.Cond.privateMethod ({ cls := "OfferSky$State", name := "lambda$scored$15", desc := "(LOfferSky$Offer;LOfferSky$Offer;)Z" } : Jvm.MethodName)) ∈ lw_tbl := lw_at lw_m5 206 rfl
theorem q1265 : (Jvm.Cond.instanceMethod ({ cls := "OfferSky$State", name := "lambda$scored$15", desc := "(LOfferSky$Offer;LOfferSky$Offer;)Z" } : Jvm.MethodName)) ∈ lw_all := lw_g (lw_at lw_m5 207 rfl) rfl
theorem q1266 : (Jvm.Cond.code ({ cls := "OfferSky$State", name := "lambda$scored$15", desc := "(LOfferSky$Offer;LOfferSky$Offer;)Z" } : Jvm.MethodName) prog_8_method_52_code (3 : Nat) (Option.some Jvm.ClassFile.FieldType.boolean)) ∈ lw_all := lw_g (lw_at lw_m5 208 rfl) rfl
theorem q1267 : (Jvm.Cond.methodLink "OfferSky$State" (241 : Nat) ({ cls := "OfferSky$Sides", name := "score", desc := "(LOfferSky$Offer;)I" } : Jvm.MethodName)) ∈ lw_all := lw_g (lw_at lw_m5 209 rfl) rfl
theorem q1274 : (Jvm.Cond.instanceMethod ({ cls := "OfferSky$State", name := "canReach", desc := "(II)Z" } : Jvm.MethodName)) ∈ lw_all := lw_g (lw_at lw_m5 216 rfl) rfl
theorem q1275 : (Jvm.Cond.selects "OfferSky$State" ({ cls := "OfferSky$State", name := "canReach", desc := "(II)Z" } : Jvm.MethodName) ({ cls := "OfferSky$State", name := "canReach", desc := "(II)Z" } : Jvm.MethodName)) ∈ lw_all := lw_g (lw_at lw_m5 217 rfl) rfl
theorem q1276 : (Jvm.Cond.code ({ cls := "OfferSky$State", name := "canReach", desc := "(II)Z" } : Jvm.MethodName) prog_8_method_46_code (3 : Nat) (Option.some Jvm.ClassFile.FieldType.boolean)) ∈ lw_all := lw_g (lw_at lw_m5 218 rfl) rfl
theorem q1277 : (Jvm.Cond.methodLink "OfferSky$State" (184 : Nat) ({ cls := "OfferSky$Sides", name := "matters", desc := "(I)Z" } : Jvm.MethodName)) ∈ lw_all := lw_g (lw_at lw_m5 219 rfl) rfl
theorem q1279 : (Jvm.Cond.instanceMethod ({ cls := "OfferSky$State", name := "byAllPairs", desc := "(II)I" } : Jvm.MethodName)) ∈ lw_all := lw_g (lw_at lw_m5 221 rfl) rfl
theorem q1280 : (Jvm.Cond.selects "OfferSky$State" ({ cls := "OfferSky$State", name := "byAllPairs", desc := "(II)I" } : Jvm.MethodName) ({ cls := "OfferSky$State", name := "byAllPairs", desc := "(II)I" } : Jvm.MethodName)) ∈ lw_all := lw_g (lw_at lw_m5 222 rfl) rfl
theorem q1281 : (Jvm.Cond.code ({ cls := "OfferSky$State", name := "byAllPairs", desc := "(II)I" } : Jvm.MethodName) prog_8_method_48_code (6 : Nat) (Option.some Jvm.ClassFile.FieldType.int)) ∈ lw_all := lw_g (lw_at lw_m5 223 rfl) rfl
theorem q1282 : (Jvm.Cond.methodLink "OfferSky$State" (233 : Nat) ({ cls := "OfferSky$State", name := "isReached", desc := "(LOfferSky$Bag;IIII)Z" } : Jvm.MethodName)) ∈ lw_all := lw_g (lw_at lw_m5 224 rfl) rfl
theorem q1283 : (Jvm.Cond.privateMethod ({ cls := "OfferSky$State", name := "isReached", desc := "(LOfferSky$Bag;IIII)Z" } : Jvm.MethodName)) ∈ lw_tbl := lw_at lw_m5 225 rfl
theorem q1284 : (Jvm.Cond.instanceMethod ({ cls := "OfferSky$State", name := "isReached", desc := "(LOfferSky$Bag;IIII)Z" } : Jvm.MethodName)) ∈ lw_all := lw_g (lw_at lw_m5 226 rfl) rfl
theorem q1285 : (Jvm.Cond.code ({ cls := "OfferSky$State", name := "isReached", desc := "(LOfferSky$Bag;IIII)Z" } : Jvm.MethodName) prog_8_method_47_code (9 : Nat) (Option.some Jvm.ClassFile.FieldType.boolean)) ∈ lw_all := lw_g (lw_at lw_m5 227 rfl) rfl
theorem q1286 : (Jvm.Cond.methodLink "OfferSky$State" (204 : Nat) ({ cls := "OfferSky$Sides", name := "good", desc := "(LOfferSky$Offer;I)I" } : Jvm.MethodName)) ∈ lw_all := lw_g (lw_at lw_m5 228 rfl) rfl
theorem q1288 : (Jvm.Cond.instanceMethod ({ cls := "OfferSky$State", name := "bySteps", desc := "(II)I" } : Jvm.MethodName)) ∈ lw_all := lw_g (lw_at lw_m5 230 rfl) rfl
theorem q1289 : (Jvm.Cond.selects "OfferSky$State" ({ cls := "OfferSky$State", name := "bySteps", desc := "(II)I" } : Jvm.MethodName) ({ cls := "OfferSky$State", name := "bySteps", desc := "(II)I" } : Jvm.MethodName)) ∈ lw_all := lw_g (lw_at lw_m5 231 rfl) rfl
theorem q1290 : (Jvm.Cond.code ({ cls := "OfferSky$State", name := "bySteps", desc := "(II)I" } : Jvm.MethodName) prog_8_method_50_code (6 : Nat) (Option.some Jvm.ClassFile.FieldType.int)) ∈ lw_all := lw_g (lw_at lw_m5 232 rfl) rfl
theorem q1291 : (Jvm.Cond.methodLink "OfferSky$State" (237 : Nat) ({ cls := "OfferSky$State", name := "bestFrom", desc := "(LOfferSky$Bag;III)I" } : Jvm.MethodName)) ∈ lw_all := lw_g (lw_at lw_m5 233 rfl) rfl
theorem q1292 : (Jvm.Cond.privateMethod ({ cls := "OfferSky$State", name := "bestFrom", desc := "(LOfferSky$Bag;III)I" } : Jvm.MethodName)) ∈ lw_tbl := lw_at lw_m5 234 rfl
theorem q1293 : (Jvm.Cond.instanceMethod ({ cls := "OfferSky$State", name := "bestFrom", desc := "(LOfferSky$Bag;III)I" } : Jvm.MethodName)) ∈ lw_all := lw_g (lw_at lw_m5 235 rfl) rfl
theorem q1294 : (Jvm.Cond.code ({ cls := "OfferSky$State", name := "bestFrom", desc := "(LOfferSky$Bag;III)I" } : Jvm.MethodName) prog_8_method_49_code (8 : Nat) (Option.some Jvm.ClassFile.FieldType.int)) ∈ lw_all := lw_g (lw_at lw_m5 236 rfl) rfl
theorem q1338 : (Jvm.Cond.instanceMethod ({ cls := "OfferSky$State", name := "hasRoom", desc := "()Z" } : Jvm.MethodName)) ∈ lw_all := lw_g (lw_at lw_m6 40 rfl) rfl
theorem q1339 : (Jvm.Cond.selects "OfferSky$State" ({ cls := "OfferSky$State", name := "hasRoom", desc := "()Z" } : Jvm.MethodName) ({ cls := "OfferSky$State", name := "hasRoom", desc := "()Z" } : Jvm.MethodName)) ∈ lw_all := lw_g (lw_at lw_m6 41 rfl) rfl
theorem q1340 : (Jvm.Cond.code ({ cls := "OfferSky$State", name := "hasRoom", desc := "()Z" } : Jvm.MethodName) prog_8_method_6_code (1 : Nat) (Option.some Jvm.ClassFile.FieldType.boolean)) ∈ lw_all := lw_g (lw_at lw_m6 42 rfl) rfl
theorem q1356 : (Jvm.Cond.fieldLinkNest "OfferSky$State" (76 : Nat) "OfferSky$Offer" "values" "[I" "OfferSky") ∈ lw_tbl := lw_at lw_m6 58 rfl
theorem q1362 : (Jvm.Cond.instanceMethod ({ cls := "OfferSky$State", name := "adds", desc := "(LOfferSky$Offer;)I" } : Jvm.MethodName)) ∈ lw_all := lw_g (lw_at lw_m6 64 rfl) rfl
theorem q1363 : (Jvm.Cond.selects "OfferSky$State" ({ cls := "OfferSky$State", name := "adds", desc := "(LOfferSky$Offer;)I" } : Jvm.MethodName) ({ cls := "OfferSky$State", name := "adds", desc := "(LOfferSky$Offer;)I" } : Jvm.MethodName)) ∈ lw_all := lw_g (lw_at lw_m6 65 rfl) rfl
theorem q1364 : (Jvm.Cond.code ({ cls := "OfferSky$State", name := "adds", desc := "(LOfferSky$Offer;)I" } : Jvm.MethodName) prog_8_method_7_code (2 : Nat) (Option.some Jvm.ClassFile.FieldType.int)) ∈ lw_all := lw_g (lw_at lw_m6 66 rfl) rfl
theorem q1376 : (Jvm.Cond.instanceMethod ({ cls := "OfferSky$State", name := "isOffer", desc := "(I)Z" } : Jvm.MethodName)) ∈ lw_all := lw_g (lw_at lw_m6 78 rfl) rfl
theorem q1377 : (Jvm.Cond.selects "OfferSky$State" ({ cls := "OfferSky$State", name := "isOffer", desc := "(I)Z" } : Jvm.MethodName) ({ cls := "OfferSky$State", name := "isOffer", desc := "(I)Z" } : Jvm.MethodName)) ∈ lw_all := lw_g (lw_at lw_m6 79 rfl) rfl
theorem q1378 : (Jvm.Cond.code ({ cls := "OfferSky$State", name := "isOffer", desc := "(I)Z" } : Jvm.MethodName) prog_8_method_3_code (2 : Nat) (Option.some Jvm.ClassFile.FieldType.boolean)) ∈ lw_all := lw_g (lw_at lw_m6 80 rfl) rfl
theorem q1379 : (Jvm.Cond.methodLinkNest "OfferSky$State" (45 : Nat) ({ cls := "OfferSky", name := "inRange", desc := "(III)Z" } : Jvm.MethodName) "OfferSky") ∈ lw_tbl := lw_at lw_m6 81 rfl
theorem q1389 : (Jvm.Cond.instanceMethod ({ cls := "OfferSky$State", name := "removes", desc := "(I)I" } : Jvm.MethodName)) ∈ lw_all := lw_g (lw_at lw_m6 91 rfl) rfl
theorem q1390 : (Jvm.Cond.selects "OfferSky$State" ({ cls := "OfferSky$State", name := "removes", desc := "(I)I" } : Jvm.MethodName) ({ cls := "OfferSky$State", name := "removes", desc := "(I)I" } : Jvm.MethodName)) ∈ lw_all := lw_g (lw_at lw_m6 92 rfl) rfl
theorem q1391 : (Jvm.Cond.code ({ cls := "OfferSky$State", name := "removes", desc := "(I)I" } : Jvm.MethodName) prog_8_method_8_code (3 : Nat) (Option.some Jvm.ClassFile.FieldType.int)) ∈ lw_all := lw_g (lw_at lw_m6 93 rfl) rfl
theorem q1392 : (Jvm.Cond.methodLink "OfferSky$State" (59 : Nat) ({ cls := "OfferSky$Bag", name := "takes", desc := "(I)Ljava/lang/Object;" } : Jvm.MethodName)) ∈ lw_all := lw_g (lw_at lw_m6 94 rfl) rfl
theorem q1411 : (Jvm.Cond.instanceMethod ({ cls := "OfferSky$State", name := "changes", desc := "(III)I" } : Jvm.MethodName)) ∈ lw_all := lw_g (lw_at lw_m6 113 rfl) rfl
theorem q1412 : (Jvm.Cond.selects "OfferSky$State" ({ cls := "OfferSky$State", name := "changes", desc := "(III)I" } : Jvm.MethodName) ({ cls := "OfferSky$State", name := "changes", desc := "(III)I" } : Jvm.MethodName)) ∈ lw_all := lw_g (lw_at lw_m6 114 rfl) rfl
theorem q1413 : (Jvm.Cond.code ({ cls := "OfferSky$State", name := "changes", desc := "(III)I" } : Jvm.MethodName) prog_8_method_9_code (6 : Nat) (Option.some Jvm.ClassFile.FieldType.int)) ∈ lw_all := lw_g (lw_at lw_m6 115 rfl) rfl
theorem q1414 : (Jvm.Cond.methodLink "OfferSky$State" (66 : Nat) ({ cls := "OfferSky$Offer", name := "with", desc := "(II)LOfferSky$Offer;" } : Jvm.MethodName)) ∈ lw_all := lw_g (lw_at lw_m6 116 rfl) rfl
theorem q1422 : (Jvm.Cond.methodLink "OfferSky$State" (70 : Nat) ({ cls := "java/util/ArrayList", name := "set", desc := "(ILjava/lang/Object;)Ljava/lang/Object;" } : Jvm.MethodName)) ∈ lw_all := lw_g (lw_at lw_m6 124 rfl) rfl
theorem q1434 : (Jvm.Cond.instanceMethod ({ cls := "OfferSky$State", name := "wishes", desc := "(II)I" } : Jvm.MethodName)) ∈ lw_all := lw_g (lw_at lw_m6 136 rfl) rfl
theorem q1435 : (Jvm.Cond.selects "OfferSky$State" ({ cls := "OfferSky$State", name := "wishes", desc := "(II)I" } : Jvm.MethodName) ({ cls := "OfferSky$State", name := "wishes", desc := "(II)I" } : Jvm.MethodName)) ∈ lw_all := lw_g (lw_at lw_m6 137 rfl) rfl
theorem q1436 : (Jvm.Cond.code ({ cls := "OfferSky$State", name := "wishes", desc := "(II)I" } : Jvm.MethodName) prog_8_method_11_code (4 : Nat) (Option.some Jvm.ClassFile.FieldType.int)) ∈ lw_all := lw_g (lw_at lw_m6 138 rfl) rfl
theorem q1445 : (Jvm.Cond.instanceMethod ({ cls := "OfferSky$State", name := "bounds", desc := "(III)I" } : Jvm.MethodName)) ∈ lw_all := lw_g (lw_at lw_m6 147 rfl) rfl
theorem q1446 : (Jvm.Cond.selects "OfferSky$State" ({ cls := "OfferSky$State", name := "bounds", desc := "(III)I" } : Jvm.MethodName) ({ cls := "OfferSky$State", name := "bounds", desc := "(III)I" } : Jvm.MethodName)) ∈ lw_all := lw_g (lw_at lw_m6 148 rfl) rfl
theorem q1447 : (Jvm.Cond.code ({ cls := "OfferSky$State", name := "bounds", desc := "(III)I" } : Jvm.MethodName) prog_8_method_12_code (4 : Nat) (Option.some Jvm.ClassFile.FieldType.int)) ∈ lw_all := lw_g (lw_at lw_m6 149 rfl) rfl
theorem q1688 : (Jvm.Cond.instanceMethod ({ cls := "OfferSky$State", name := "setsOf", desc := "(LOfferSky$Offer;)I" } : Jvm.MethodName)) ∈ lw_all := lw_g (lw_at lw_m7 150 rfl) rfl
theorem q1689 : (Jvm.Cond.selects "OfferSky$State" ({ cls := "OfferSky$State", name := "setsOf", desc := "(LOfferSky$Offer;)I" } : Jvm.MethodName) ({ cls := "OfferSky$State", name := "setsOf", desc := "(LOfferSky$Offer;)I" } : Jvm.MethodName)) ∈ lw_all := lw_g (lw_at lw_m7 151 rfl) rfl
theorem q1690 : (Jvm.Cond.code ({ cls := "OfferSky$State", name := "setsOf", desc := "(LOfferSky$Offer;)I" } : Jvm.MethodName) prog_8_method_28_code (5 : Nat) (Option.some Jvm.ClassFile.FieldType.int)) ∈ lw_all := lw_g (lw_at lw_m7 152 rfl) rfl
theorem q1706 : (Jvm.Cond.instanceMethod ({ cls := "OfferSky$State", name := "wouldStand", desc := "(LOfferSky$Offer;)Z" } : Jvm.MethodName)) ∈ lw_all := lw_g (lw_at lw_m7 168 rfl) rfl
theorem q1707 : (Jvm.Cond.selects "OfferSky$State" ({ cls := "OfferSky$State", name := "wouldStand", desc := "(LOfferSky$Offer;)Z" } : Jvm.MethodName) ({ cls := "OfferSky$State", name := "wouldStand", desc := "(LOfferSky$Offer;)Z" } : Jvm.MethodName)) ∈ lw_all := lw_g (lw_at lw_m7 169 rfl) rfl
theorem q1708 : (Jvm.Cond.code ({ cls := "OfferSky$State", name := "wouldStand", desc := "(LOfferSky$Offer;)Z" } : Jvm.MethodName) prog_8_method_30_code (2 : Nat) (Option.some Jvm.ClassFile.FieldType.boolean)) ∈ lw_all := lw_g (lw_at lw_m7 170 rfl) rfl
theorem q1717 : (Jvm.Cond.instanceMethod ({ cls := "OfferSky$State", name := "wouldFall", desc := "(LOfferSky$Offer;)I" } : Jvm.MethodName)) ∈ lw_all := lw_g (lw_at lw_m7 179 rfl) rfl
theorem q1718 : (Jvm.Cond.selects "OfferSky$State" ({ cls := "OfferSky$State", name := "wouldFall", desc := "(LOfferSky$Offer;)I" } : Jvm.MethodName) ({ cls := "OfferSky$State", name := "wouldFall", desc := "(LOfferSky$Offer;)I" } : Jvm.MethodName)) ∈ lw_all := lw_g (lw_at lw_m7 180 rfl) rfl
theorem q1719 : (Jvm.Cond.code ({ cls := "OfferSky$State", name := "wouldFall", desc := "(LOfferSky$Offer;)I" } : Jvm.MethodName) prog_8_method_31_code (2 : Nat) (Option.some Jvm.ClassFile.FieldType.int)) ∈ lw_all := lw_g (lw_at lw_m7 181 rfl) rfl
theorem q1720 : (Jvm.Cond.privateMethod ({ cls := "OfferSky$State", name := "lambda$wouldFall$13", desc := "(LOfferSky$Offer;LOfferSky$Offer;)Z" } : Jvm.MethodName)) ∈ lw_tbl := lw_at lw_m7 182 rfl
theorem q1721 : (Jvm.Cond.instanceMethod ({ cls := "OfferSky$State", name := "lambda$wouldFall$13", desc := "(LOfferSky$Offer;LOfferSky$Offer;)Z" } : Jvm.MethodName)) ∈ lw_all := lw_g (lw_at lw_m7 183 rfl) rfl
theorem q1722 : (Jvm.Cond.code ({ cls := "OfferSky$State", name := "lambda$wouldFall$13", desc := "(LOfferSky$Offer;LOfferSky$Offer;)Z" } : Jvm.MethodName) prog_8_method_54_code (3 : Nat) (Option.some Jvm.ClassFile.FieldType.boolean)) ∈ lw_all := lw_g (lw_at lw_m7 184 rfl) rfl
theorem q1731 : (Jvm.Cond.instanceMethod ({ cls := "OfferSky$State", name := "triedRaise", desc := "(LOfferSky$Offer;I)I" } : Jvm.MethodName)) ∈ lw_all := lw_g (lw_at lw_m7 193 rfl) rfl
theorem q1732 : (Jvm.Cond.selects "OfferSky$State" ({ cls := "OfferSky$State", name := "triedRaise", desc := "(LOfferSky$Offer;I)I" } : Jvm.MethodName) ({ cls := "OfferSky$State", name := "triedRaise", desc := "(LOfferSky$Offer;I)I" } : Jvm.MethodName)) ∈ lw_all := lw_g (lw_at lw_m7 194 rfl) rfl
theorem q1733 : (Jvm.Cond.code ({ cls := "OfferSky$State", name := "triedRaise", desc := "(LOfferSky$Offer;I)I" } : Jvm.MethodName) prog_8_method_35_code (5 : Nat) (Option.some Jvm.ClassFile.FieldType.int)) ∈ lw_all := lw_g (lw_at lw_m7 195 rfl) rfl
theorem q1734 : (Jvm.Cond.methodLink "OfferSky$State" (188 : Nat) ({ cls := "OfferSky$State", name := "canRaise", desc := "(LOfferSky$Offer;I)Z" } : Jvm.MethodName)) ∈ lw_all := lw_g (lw_at lw_m7 196 rfl) rfl
theorem q1735 : (Jvm.Cond.privateMethod ({ cls := "OfferSky$State", name := "canRaise", desc := "(LOfferSky$Offer;I)Z" } : Jvm.MethodName)) ∈ lw_tbl := lw_at lw_m7 197 rfl
theorem q1736 : (Jvm.Cond.instanceMethod ({ cls := "OfferSky$State", name := "canRaise", desc := "(LOfferSky$Offer;I)Z" } : Jvm.MethodName)) ∈ lw_all := lw_g (lw_at lw_m7 198 rfl) rfl
theorem q1737 : (Jvm.Cond.code ({ cls := "OfferSky$State", name := "canRaise", desc := "(LOfferSky$Offer;I)Z" } : Jvm.MethodName) prog_8_method_34_code (3 : Nat) (Option.some Jvm.ClassFile.FieldType.boolean)) ∈ lw_all := lw_g (lw_at lw_m7 199 rfl) rfl
theorem q1738 : (Jvm.Cond.methodLink "OfferSky$State" (192 : Nat) ({ cls := "OfferSky$State", name := "isToldWith", desc := "(LOfferSky$Offer;II)Z" } : Jvm.MethodName)) ∈ lw_all := lw_g (lw_at lw_m7 200 rfl) rfl
theorem q1739 : (Jvm.Cond.privateMethod ({ cls := "OfferSky$State", name := "isToldWith", desc := "(LOfferSky$Offer;II)Z" } : Jvm.MethodName)) ∈ lw_tbl := lw_at lw_m7 201 rfl
theorem q1740 : (Jvm.Cond.instanceMethod ({ cls := "OfferSky$State", name := "isToldWith", desc := "(LOfferSky$Offer;II)Z" } : Jvm.MethodName)) ∈ lw_all := lw_g (lw_at lw_m7 202 rfl) rfl
theorem q1741 : (Jvm.Cond.code ({ cls := "OfferSky$State", name := "isToldWith", desc := "(LOfferSky$Offer;II)Z" } : Jvm.MethodName) prog_8_method_33_code (6 : Nat) (Option.some Jvm.ClassFile.FieldType.boolean)) ∈ lw_all := lw_g (lw_at lw_m7 203 rfl) rfl
theorem q1742 : (Jvm.Cond.methodLink "OfferSky$State" (177 : Nat) ({ cls := "OfferSky$State", name := "betterValue", desc := "(LOfferSky$Offer;II)I" } : Jvm.MethodName)) ∈ lw_all := lw_g (lw_at lw_m7 204 rfl) rfl
theorem q1743 : (Jvm.Cond.privateMethod ({ cls := "OfferSky$State", name := "betterValue", desc := "(LOfferSky$Offer;II)I" } : Jvm.MethodName)) ∈ lw_tbl := lw_at lw_m7 205 rfl
theorem q1744 : (Jvm.Cond.instanceMethod ({ cls := "OfferSky$State", name := "betterValue", desc := "(LOfferSky$Offer;II)I" } : Jvm.MethodName)) ∈ lw_all := lw_g (lw_at lw_m7 206 rfl) rfl
theorem q1745 : (Jvm.Cond.code ({ cls := "OfferSky$State", name := "betterValue", desc := "(LOfferSky$Offer;II)I" } : Jvm.MethodName) prog_8_method_32_code (4 : Nat) (Option.some Jvm.ClassFile.FieldType.int)) ∈ lw_all := lw_g (lw_at lw_m7 207 rfl) rfl
theorem q1746 : (Jvm.Cond.static ({ cls := "OfferSky$State", name := "lambda$isToldWith$14", desc := "(LOfferSky$Offer;LOfferSky$Offer;)Z" } : Jvm.MethodName)) ∈ lw_all := lw_g (lw_at lw_m7 208 rfl) rfl
theorem q1747 : (Jvm.Cond.code ({ cls := "OfferSky$State", name := "lambda$isToldWith$14", desc := "(LOfferSky$Offer;LOfferSky$Offer;)Z" } : Jvm.MethodName) prog_8_method_53_code (2 : Nat) (Option.some Jvm.ClassFile.FieldType.boolean)) ∈ lw_all := lw_g (lw_at lw_m7 209 rfl) rfl
theorem q1748 : (Jvm.Cond.methodLink "OfferSky$State" (196 : Nat) ({ cls := "OfferSky$Sides", name := "isWithin", desc := "(II)Z" } : Jvm.MethodName)) ∈ lw_all := lw_g (lw_at lw_m7 210 rfl) rfl
theorem q1760 : (Jvm.Cond.instanceMethod ({ cls := "OfferSky$State", name := "reckonedRaise", desc := "(LOfferSky$Offer;I)I" } : Jvm.MethodName)) ∈ lw_all := lw_g (lw_at lw_m7 222 rfl) rfl
theorem q1761 : (Jvm.Cond.selects "OfferSky$State" ({ cls := "OfferSky$State", name := "reckonedRaise", desc := "(LOfferSky$Offer;I)I" } : Jvm.MethodName) ({ cls := "OfferSky$State", name := "reckonedRaise", desc := "(LOfferSky$Offer;I)I" } : Jvm.MethodName)) ∈ lw_all := lw_g (lw_at lw_m7 223 rfl) rfl
theorem q1762 : (Jvm.Cond.code ({ cls := "OfferSky$State", name := "reckonedRaise", desc := "(LOfferSky$Offer;I)I" } : Jvm.MethodName) prog_8_method_37_code (7 : Nat) (Option.some Jvm.ClassFile.FieldType.int)) ∈ lw_all := lw_g (lw_at lw_m7 224 rfl) rfl
theorem q1763 : (Jvm.Cond.methodLink "OfferSky$State" (208 : Nat) ({ cls := "OfferSky$State", name := "dueAgainst", desc := "(LOfferSky$Offer;LOfferSky$Offer;I)I" } : Jvm.MethodName)) ∈ lw_all := lw_g (lw_at lw_m7 225 rfl) rfl
theorem q1764 : (Jvm.Cond.privateMethod ({ cls := "OfferSky$State", name := "dueAgainst", desc := "(LOfferSky$Offer;LOfferSky$Offer;I)I" } : Jvm.MethodName)) ∈ lw_tbl := lw_at lw_m7 226 rfl
theorem q1765 : (Jvm.Cond.instanceMethod ({ cls := "OfferSky$State", name := "dueAgainst", desc := "(LOfferSky$Offer;LOfferSky$Offer;I)I" } : Jvm.MethodName)) ∈ lw_all := lw_g (lw_at lw_m7 227 rfl) rfl
theorem q1766 : (Jvm.Cond.code ({ cls := "OfferSky$State", name := "dueAgainst", desc := "(LOfferSky$Offer;LOfferSky$Offer;I)I" } : Jvm.MethodName) prog_8_method_36_code (5 : Nat) (Option.some Jvm.ClassFile.FieldType.int)) ∈ lw_all := lw_g (lw_at lw_m7 228 rfl) rfl
theorem q1767 : (Jvm.Cond.methodLink "OfferSky$State" (200 : Nat) ({ cls := "OfferSky$Sides", name := "better", desc := "(LOfferSky$Offer;LOfferSky$Offer;I)I" } : Jvm.MethodName)) ∈ lw_all := lw_g (lw_at lw_m7 229 rfl) rfl
theorem q2316 : (Jvm.Cond.castable "OfferSky$State" "java/lang/Object") ∈ lw_tbl := lw_at lw_m10 58 rfl
theorem in_X2 : ∀ w ∈ wsX20, w ∈ lw_all := lw_in wsX20 [218, 220, 222, 224] (by decide +kernel) (by decide +kernel)
