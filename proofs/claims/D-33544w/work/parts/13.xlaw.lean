/-! OfferSkyLaw -/
set_option maxRecDepth 100000
def RX0 : String := "OfferSkyLaw"
abbrev cX0_add : ByteArray := method_3_code
def yX0_add : MethodName := ⟨RX0, "add", "(LOfferSky;IIII[J)I"⟩
def dkwX0_add_1 : List UInt8 := [172, 3, 172]
abbrev dktX0_add_1 : List UInt8 := dkwX0_add_1 ++ []
def dkwX0_add_0 : List UInt8 := [25, 5, 3, 42, 27, 28, 29, 21, 4, 182, 0, 7, 133, 80, 167, 0, 11, 58, 6, 4, 172, 58, 6, 5]
abbrev dktX0_add_0 : List UInt8 := dkwX0_add_0 ++ dktX0_add_1
theorem dksX0_add_0 : cX0_add.data.toList.drop 0 = dktX0_add_0 := by decide +kernel
theorem dksX0_add_1 : cX0_add.data.toList.drop 24 = dktX0_add_1 := dk_seg dksX0_add_0 24 rfl rfl
theorem dX0_add_0 : decode cX0_add 0 = .ok (.aload 5, 2) := dk_25 5 (dk_at dksX0_add_0 0 rfl rfl)
theorem dX0_add_2 : decode cX0_add 2 = .ok (.iconst 0, 1) := dk_3 (dk_at dksX0_add_0 2 rfl rfl)
theorem dX0_add_3 : decode cX0_add 3 = .ok (.aload_n 0, 1) := dk_42 (dk_at dksX0_add_0 3 rfl rfl)
theorem dX0_add_4 : decode cX0_add 4 = .ok (.iload_n 1, 1) := dk_27 (dk_at dksX0_add_0 4 rfl rfl)
theorem dX0_add_5 : decode cX0_add 5 = .ok (.iload_n 2, 1) := dk_28 (dk_at dksX0_add_0 5 rfl rfl)
theorem dX0_add_6 : decode cX0_add 6 = .ok (.iload_n 3, 1) := dk_29 (dk_at dksX0_add_0 6 rfl rfl)
theorem dX0_add_7 : decode cX0_add 7 = .ok (.iload 4, 2) := dk_21 4 (dk_at dksX0_add_0 7 rfl rfl)
theorem dX0_add_9 : decode cX0_add 9 = .ok (.invokevirtual 7, 3) := dk_182 0 7 (dk_at dksX0_add_0 9 rfl rfl)
theorem dX0_add_12 : decode cX0_add 12 = .ok (.i2l, 1) := dk_133 (dk_at dksX0_add_0 12 rfl rfl)
theorem dX0_add_13 : decode cX0_add 13 = .ok (.lastore, 1) := dk_80 (dk_at dksX0_add_0 13 rfl rfl)
theorem dX0_add_14 : decode cX0_add 14 = .ok (.goto 11, 3) := dk_167 0 11 (dk_at dksX0_add_0 14 rfl rfl)
theorem dX0_add_17 : decode cX0_add 17 = .ok (.astore 6, 2) := dk_58 6 (dk_at dksX0_add_0 17 rfl rfl)
theorem dX0_add_19 : decode cX0_add 19 = .ok (.iconst 1, 1) := dk_4 (dk_at dksX0_add_0 19 rfl rfl)
theorem dX0_add_20 : decode cX0_add 20 = .ok (.ireturn, 1) := dk_172 (dk_at dksX0_add_0 20 rfl rfl)
theorem dX0_add_21 : decode cX0_add 21 = .ok (.astore 6, 2) := dk_58 6 (dk_at dksX0_add_0 21 rfl rfl)
theorem dX0_add_23 : decode cX0_add 23 = .ok (.iconst 2, 1) := dk_5 (dk_at dksX0_add_0 23 rfl rfl)
theorem dX0_add_24 : decode cX0_add 24 = .ok (.ireturn, 1) := dk_172 (dk_at dksX0_add_1 0 rfl rfl)
theorem dX0_add_25 : decode cX0_add 25 = .ok (.iconst 0, 1) := dk_3 (dk_at dksX0_add_1 1 rfl rfl)
theorem dX0_add_26 : decode cX0_add 26 = .ok (.ireturn, 1) := dk_172 (dk_at dksX0_add_1 2 rfl rfl)
abbrev cX0_remove : ByteArray := method_4_code
def yX0_remove : MethodName := ⟨RX0, "remove", "(LOfferSky;I[J)I"⟩
def dkwX0_remove_0 : List UInt8 := [44, 3, 42, 27, 182, 0, 17, 133, 80, 167, 0, 6, 78, 4, 172, 3, 172]
abbrev dktX0_remove_0 : List UInt8 := dkwX0_remove_0 ++ []
theorem dksX0_remove_0 : cX0_remove.data.toList.drop 0 = dktX0_remove_0 := by decide +kernel
theorem dX0_remove_0 : decode cX0_remove 0 = .ok (.aload_n 2, 1) := dk_44 (dk_at dksX0_remove_0 0 rfl rfl)
theorem dX0_remove_1 : decode cX0_remove 1 = .ok (.iconst 0, 1) := dk_3 (dk_at dksX0_remove_0 1 rfl rfl)
theorem dX0_remove_2 : decode cX0_remove 2 = .ok (.aload_n 0, 1) := dk_42 (dk_at dksX0_remove_0 2 rfl rfl)
theorem dX0_remove_3 : decode cX0_remove 3 = .ok (.iload_n 1, 1) := dk_27 (dk_at dksX0_remove_0 3 rfl rfl)
theorem dX0_remove_4 : decode cX0_remove 4 = .ok (.invokevirtual 17, 3) := dk_182 0 17 (dk_at dksX0_remove_0 4 rfl rfl)
theorem dX0_remove_7 : decode cX0_remove 7 = .ok (.i2l, 1) := dk_133 (dk_at dksX0_remove_0 7 rfl rfl)
theorem dX0_remove_8 : decode cX0_remove 8 = .ok (.lastore, 1) := dk_80 (dk_at dksX0_remove_0 8 rfl rfl)
theorem dX0_remove_9 : decode cX0_remove 9 = .ok (.goto 6, 3) := dk_167 0 6 (dk_at dksX0_remove_0 9 rfl rfl)
theorem dX0_remove_12 : decode cX0_remove 12 = .ok (.astore_n 3, 1) := dk_78 (dk_at dksX0_remove_0 12 rfl rfl)
theorem dX0_remove_13 : decode cX0_remove 13 = .ok (.iconst 1, 1) := dk_4 (dk_at dksX0_remove_0 13 rfl rfl)
theorem dX0_remove_14 : decode cX0_remove 14 = .ok (.ireturn, 1) := dk_172 (dk_at dksX0_remove_0 14 rfl rfl)
theorem dX0_remove_15 : decode cX0_remove 15 = .ok (.iconst 0, 1) := dk_3 (dk_at dksX0_remove_0 15 rfl rfl)
theorem dX0_remove_16 : decode cX0_remove 16 = .ok (.ireturn, 1) := dk_172 (dk_at dksX0_remove_0 16 rfl rfl)
abbrev cX0_change : ByteArray := method_5_code
def yX0_change : MethodName := ⟨RX0, "change", "(LOfferSky;III[J)I"⟩
def dkwX0_change_1 : List UInt8 := [172]
abbrev dktX0_change_1 : List UInt8 := dkwX0_change_1 ++ []
def dkwX0_change_0 : List UInt8 := [25, 4, 3, 42, 27, 28, 29, 182, 0, 23, 133, 80, 167, 0, 11, 58, 5, 4, 172, 58, 5, 5, 172, 3]
abbrev dktX0_change_0 : List UInt8 := dkwX0_change_0 ++ dktX0_change_1
theorem dksX0_change_0 : cX0_change.data.toList.drop 0 = dktX0_change_0 := by decide +kernel
theorem dksX0_change_1 : cX0_change.data.toList.drop 24 = dktX0_change_1 := dk_seg dksX0_change_0 24 rfl rfl
theorem dX0_change_0 : decode cX0_change 0 = .ok (.aload 4, 2) := dk_25 4 (dk_at dksX0_change_0 0 rfl rfl)
theorem dX0_change_2 : decode cX0_change 2 = .ok (.iconst 0, 1) := dk_3 (dk_at dksX0_change_0 2 rfl rfl)
theorem dX0_change_3 : decode cX0_change 3 = .ok (.aload_n 0, 1) := dk_42 (dk_at dksX0_change_0 3 rfl rfl)
theorem dX0_change_4 : decode cX0_change 4 = .ok (.iload_n 1, 1) := dk_27 (dk_at dksX0_change_0 4 rfl rfl)
theorem dX0_change_5 : decode cX0_change 5 = .ok (.iload_n 2, 1) := dk_28 (dk_at dksX0_change_0 5 rfl rfl)
theorem dX0_change_6 : decode cX0_change 6 = .ok (.iload_n 3, 1) := dk_29 (dk_at dksX0_change_0 6 rfl rfl)
theorem dX0_change_7 : decode cX0_change 7 = .ok (.invokevirtual 23, 3) := dk_182 0 23 (dk_at dksX0_change_0 7 rfl rfl)
theorem dX0_change_10 : decode cX0_change 10 = .ok (.i2l, 1) := dk_133 (dk_at dksX0_change_0 10 rfl rfl)
theorem dX0_change_11 : decode cX0_change 11 = .ok (.lastore, 1) := dk_80 (dk_at dksX0_change_0 11 rfl rfl)
theorem dX0_change_12 : decode cX0_change 12 = .ok (.goto 11, 3) := dk_167 0 11 (dk_at dksX0_change_0 12 rfl rfl)
theorem dX0_change_15 : decode cX0_change 15 = .ok (.astore 5, 2) := dk_58 5 (dk_at dksX0_change_0 15 rfl rfl)
theorem dX0_change_17 : decode cX0_change 17 = .ok (.iconst 1, 1) := dk_4 (dk_at dksX0_change_0 17 rfl rfl)
theorem dX0_change_18 : decode cX0_change 18 = .ok (.ireturn, 1) := dk_172 (dk_at dksX0_change_0 18 rfl rfl)
theorem dX0_change_19 : decode cX0_change 19 = .ok (.astore 5, 2) := dk_58 5 (dk_at dksX0_change_0 19 rfl rfl)
theorem dX0_change_21 : decode cX0_change 21 = .ok (.iconst 2, 1) := dk_5 (dk_at dksX0_change_0 21 rfl rfl)
theorem dX0_change_22 : decode cX0_change 22 = .ok (.ireturn, 1) := dk_172 (dk_at dksX0_change_0 22 rfl rfl)
theorem dX0_change_23 : decode cX0_change 23 = .ok (.iconst 0, 1) := dk_3 (dk_at dksX0_change_0 23 rfl rfl)
theorem dX0_change_24 : decode cX0_change 24 = .ok (.ireturn, 1) := dk_172 (dk_at dksX0_change_1 0 rfl rfl)
abbrev cX0_setWish : ByteArray := method_6_code
def yX0_setWish : MethodName := ⟨RX0, "setWish", "(LOfferSky;II[J)I"⟩
def dkwX0_setWish_0 : List UInt8 := [45, 3, 42, 27, 28, 182, 0, 27, 133, 80, 167, 0, 11, 58, 4, 4, 172, 58, 4, 5, 172, 3, 172]
abbrev dktX0_setWish_0 : List UInt8 := dkwX0_setWish_0 ++ []
theorem dksX0_setWish_0 : cX0_setWish.data.toList.drop 0 = dktX0_setWish_0 := by decide +kernel
theorem dX0_setWish_0 : decode cX0_setWish 0 = .ok (.aload_n 3, 1) := dk_45 (dk_at dksX0_setWish_0 0 rfl rfl)
theorem dX0_setWish_1 : decode cX0_setWish 1 = .ok (.iconst 0, 1) := dk_3 (dk_at dksX0_setWish_0 1 rfl rfl)
theorem dX0_setWish_2 : decode cX0_setWish 2 = .ok (.aload_n 0, 1) := dk_42 (dk_at dksX0_setWish_0 2 rfl rfl)
theorem dX0_setWish_3 : decode cX0_setWish 3 = .ok (.iload_n 1, 1) := dk_27 (dk_at dksX0_setWish_0 3 rfl rfl)
theorem dX0_setWish_4 : decode cX0_setWish 4 = .ok (.iload_n 2, 1) := dk_28 (dk_at dksX0_setWish_0 4 rfl rfl)
theorem dX0_setWish_5 : decode cX0_setWish 5 = .ok (.invokevirtual 27, 3) := dk_182 0 27 (dk_at dksX0_setWish_0 5 rfl rfl)
theorem dX0_setWish_8 : decode cX0_setWish 8 = .ok (.i2l, 1) := dk_133 (dk_at dksX0_setWish_0 8 rfl rfl)
theorem dX0_setWish_9 : decode cX0_setWish 9 = .ok (.lastore, 1) := dk_80 (dk_at dksX0_setWish_0 9 rfl rfl)
theorem dX0_setWish_10 : decode cX0_setWish 10 = .ok (.goto 11, 3) := dk_167 0 11 (dk_at dksX0_setWish_0 10 rfl rfl)
theorem dX0_setWish_13 : decode cX0_setWish 13 = .ok (.astore 4, 2) := dk_58 4 (dk_at dksX0_setWish_0 13 rfl rfl)
theorem dX0_setWish_15 : decode cX0_setWish 15 = .ok (.iconst 1, 1) := dk_4 (dk_at dksX0_setWish_0 15 rfl rfl)
theorem dX0_setWish_16 : decode cX0_setWish 16 = .ok (.ireturn, 1) := dk_172 (dk_at dksX0_setWish_0 16 rfl rfl)
theorem dX0_setWish_17 : decode cX0_setWish 17 = .ok (.astore 4, 2) := dk_58 4 (dk_at dksX0_setWish_0 17 rfl rfl)
theorem dX0_setWish_19 : decode cX0_setWish 19 = .ok (.iconst 2, 1) := dk_5 (dk_at dksX0_setWish_0 19 rfl rfl)
theorem dX0_setWish_20 : decode cX0_setWish 20 = .ok (.ireturn, 1) := dk_172 (dk_at dksX0_setWish_0 20 rfl rfl)
theorem dX0_setWish_21 : decode cX0_setWish 21 = .ok (.iconst 0, 1) := dk_3 (dk_at dksX0_setWish_0 21 rfl rfl)
theorem dX0_setWish_22 : decode cX0_setWish 22 = .ok (.ireturn, 1) := dk_172 (dk_at dksX0_setWish_0 22 rfl rfl)
abbrev cX0_setBounds : ByteArray := method_7_code
def yX0_setBounds : MethodName := ⟨RX0, "setBounds", "(LOfferSky;III[J)I"⟩
def dkwX0_setBounds_1 : List UInt8 := [172]
abbrev dktX0_setBounds_1 : List UInt8 := dkwX0_setBounds_1 ++ []
def dkwX0_setBounds_0 : List UInt8 := [25, 4, 3, 42, 27, 28, 29, 182, 0, 31, 133, 80, 167, 0, 11, 58, 5, 4, 172, 58, 5, 5, 172, 3]
abbrev dktX0_setBounds_0 : List UInt8 := dkwX0_setBounds_0 ++ dktX0_setBounds_1
theorem dksX0_setBounds_0 : cX0_setBounds.data.toList.drop 0 = dktX0_setBounds_0 := by decide +kernel
theorem dksX0_setBounds_1 : cX0_setBounds.data.toList.drop 24 = dktX0_setBounds_1 := dk_seg dksX0_setBounds_0 24 rfl rfl
theorem dX0_setBounds_0 : decode cX0_setBounds 0 = .ok (.aload 4, 2) := dk_25 4 (dk_at dksX0_setBounds_0 0 rfl rfl)
theorem dX0_setBounds_2 : decode cX0_setBounds 2 = .ok (.iconst 0, 1) := dk_3 (dk_at dksX0_setBounds_0 2 rfl rfl)
theorem dX0_setBounds_3 : decode cX0_setBounds 3 = .ok (.aload_n 0, 1) := dk_42 (dk_at dksX0_setBounds_0 3 rfl rfl)
theorem dX0_setBounds_4 : decode cX0_setBounds 4 = .ok (.iload_n 1, 1) := dk_27 (dk_at dksX0_setBounds_0 4 rfl rfl)
theorem dX0_setBounds_5 : decode cX0_setBounds 5 = .ok (.iload_n 2, 1) := dk_28 (dk_at dksX0_setBounds_0 5 rfl rfl)
theorem dX0_setBounds_6 : decode cX0_setBounds 6 = .ok (.iload_n 3, 1) := dk_29 (dk_at dksX0_setBounds_0 6 rfl rfl)
theorem dX0_setBounds_7 : decode cX0_setBounds 7 = .ok (.invokevirtual 31, 3) := dk_182 0 31 (dk_at dksX0_setBounds_0 7 rfl rfl)
theorem dX0_setBounds_10 : decode cX0_setBounds 10 = .ok (.i2l, 1) := dk_133 (dk_at dksX0_setBounds_0 10 rfl rfl)
theorem dX0_setBounds_11 : decode cX0_setBounds 11 = .ok (.lastore, 1) := dk_80 (dk_at dksX0_setBounds_0 11 rfl rfl)
theorem dX0_setBounds_12 : decode cX0_setBounds 12 = .ok (.goto 11, 3) := dk_167 0 11 (dk_at dksX0_setBounds_0 12 rfl rfl)
theorem dX0_setBounds_15 : decode cX0_setBounds 15 = .ok (.astore 5, 2) := dk_58 5 (dk_at dksX0_setBounds_0 15 rfl rfl)
theorem dX0_setBounds_17 : decode cX0_setBounds 17 = .ok (.iconst 1, 1) := dk_4 (dk_at dksX0_setBounds_0 17 rfl rfl)
theorem dX0_setBounds_18 : decode cX0_setBounds 18 = .ok (.ireturn, 1) := dk_172 (dk_at dksX0_setBounds_0 18 rfl rfl)
theorem dX0_setBounds_19 : decode cX0_setBounds 19 = .ok (.astore 5, 2) := dk_58 5 (dk_at dksX0_setBounds_0 19 rfl rfl)
theorem dX0_setBounds_21 : decode cX0_setBounds 21 = .ok (.iconst 2, 1) := dk_5 (dk_at dksX0_setBounds_0 21 rfl rfl)
theorem dX0_setBounds_22 : decode cX0_setBounds 22 = .ok (.ireturn, 1) := dk_172 (dk_at dksX0_setBounds_0 22 rfl rfl)
theorem dX0_setBounds_23 : decode cX0_setBounds 23 = .ok (.iconst 0, 1) := dk_3 (dk_at dksX0_setBounds_0 23 rfl rfl)
theorem dX0_setBounds_24 : decode cX0_setBounds 24 = .ok (.ireturn, 1) := dk_172 (dk_at dksX0_setBounds_1 0 rfl rfl)
abbrev cX0_setWeight : ByteArray := method_8_code
def yX0_setWeight : MethodName := ⟨RX0, "setWeight", "(LOfferSky;II[J)I"⟩
def dkwX0_setWeight_0 : List UInt8 := [45, 3, 42, 27, 28, 182, 0, 34, 133, 80, 167, 0, 11, 58, 4, 4, 172, 58, 4, 5, 172, 3, 172]
abbrev dktX0_setWeight_0 : List UInt8 := dkwX0_setWeight_0 ++ []
theorem dksX0_setWeight_0 : cX0_setWeight.data.toList.drop 0 = dktX0_setWeight_0 := by decide +kernel
theorem dX0_setWeight_0 : decode cX0_setWeight 0 = .ok (.aload_n 3, 1) := dk_45 (dk_at dksX0_setWeight_0 0 rfl rfl)
theorem dX0_setWeight_1 : decode cX0_setWeight 1 = .ok (.iconst 0, 1) := dk_3 (dk_at dksX0_setWeight_0 1 rfl rfl)
theorem dX0_setWeight_2 : decode cX0_setWeight 2 = .ok (.aload_n 0, 1) := dk_42 (dk_at dksX0_setWeight_0 2 rfl rfl)
theorem dX0_setWeight_3 : decode cX0_setWeight 3 = .ok (.iload_n 1, 1) := dk_27 (dk_at dksX0_setWeight_0 3 rfl rfl)
theorem dX0_setWeight_4 : decode cX0_setWeight 4 = .ok (.iload_n 2, 1) := dk_28 (dk_at dksX0_setWeight_0 4 rfl rfl)
theorem dX0_setWeight_5 : decode cX0_setWeight 5 = .ok (.invokevirtual 34, 3) := dk_182 0 34 (dk_at dksX0_setWeight_0 5 rfl rfl)
theorem dX0_setWeight_8 : decode cX0_setWeight 8 = .ok (.i2l, 1) := dk_133 (dk_at dksX0_setWeight_0 8 rfl rfl)
theorem dX0_setWeight_9 : decode cX0_setWeight 9 = .ok (.lastore, 1) := dk_80 (dk_at dksX0_setWeight_0 9 rfl rfl)
theorem dX0_setWeight_10 : decode cX0_setWeight 10 = .ok (.goto 11, 3) := dk_167 0 11 (dk_at dksX0_setWeight_0 10 rfl rfl)
theorem dX0_setWeight_13 : decode cX0_setWeight 13 = .ok (.astore 4, 2) := dk_58 4 (dk_at dksX0_setWeight_0 13 rfl rfl)
theorem dX0_setWeight_15 : decode cX0_setWeight 15 = .ok (.iconst 1, 1) := dk_4 (dk_at dksX0_setWeight_0 15 rfl rfl)
theorem dX0_setWeight_16 : decode cX0_setWeight 16 = .ok (.ireturn, 1) := dk_172 (dk_at dksX0_setWeight_0 16 rfl rfl)
theorem dX0_setWeight_17 : decode cX0_setWeight 17 = .ok (.astore 4, 2) := dk_58 4 (dk_at dksX0_setWeight_0 17 rfl rfl)
theorem dX0_setWeight_19 : decode cX0_setWeight 19 = .ok (.iconst 2, 1) := dk_5 (dk_at dksX0_setWeight_0 19 rfl rfl)
theorem dX0_setWeight_20 : decode cX0_setWeight 20 = .ok (.ireturn, 1) := dk_172 (dk_at dksX0_setWeight_0 20 rfl rfl)
theorem dX0_setWeight_21 : decode cX0_setWeight 21 = .ok (.iconst 0, 1) := dk_3 (dk_at dksX0_setWeight_0 21 rfl rfl)
theorem dX0_setWeight_22 : decode cX0_setWeight 22 = .ok (.ireturn, 1) := dk_172 (dk_at dksX0_setWeight_0 22 rfl rfl)
abbrev cX0_append : ByteArray := method_9_code
def yX0_append : MethodName := ⟨RX0, "append", "(LOfferSky;I[J)I"⟩
def dkwX0_append_0 : List UInt8 := [44, 3, 42, 27, 182, 0, 37, 133, 80, 167, 0, 9, 78, 4, 172, 78, 5, 172, 3, 172]
abbrev dktX0_append_0 : List UInt8 := dkwX0_append_0 ++ []
theorem dksX0_append_0 : cX0_append.data.toList.drop 0 = dktX0_append_0 := by decide +kernel
theorem dX0_append_0 : decode cX0_append 0 = .ok (.aload_n 2, 1) := dk_44 (dk_at dksX0_append_0 0 rfl rfl)
theorem dX0_append_1 : decode cX0_append 1 = .ok (.iconst 0, 1) := dk_3 (dk_at dksX0_append_0 1 rfl rfl)
theorem dX0_append_2 : decode cX0_append 2 = .ok (.aload_n 0, 1) := dk_42 (dk_at dksX0_append_0 2 rfl rfl)
theorem dX0_append_3 : decode cX0_append 3 = .ok (.iload_n 1, 1) := dk_27 (dk_at dksX0_append_0 3 rfl rfl)
theorem dX0_append_4 : decode cX0_append 4 = .ok (.invokevirtual 37, 3) := dk_182 0 37 (dk_at dksX0_append_0 4 rfl rfl)
theorem dX0_append_7 : decode cX0_append 7 = .ok (.i2l, 1) := dk_133 (dk_at dksX0_append_0 7 rfl rfl)
theorem dX0_append_8 : decode cX0_append 8 = .ok (.lastore, 1) := dk_80 (dk_at dksX0_append_0 8 rfl rfl)
theorem dX0_append_9 : decode cX0_append 9 = .ok (.goto 9, 3) := dk_167 0 9 (dk_at dksX0_append_0 9 rfl rfl)
theorem dX0_append_12 : decode cX0_append 12 = .ok (.astore_n 3, 1) := dk_78 (dk_at dksX0_append_0 12 rfl rfl)
theorem dX0_append_13 : decode cX0_append 13 = .ok (.iconst 1, 1) := dk_4 (dk_at dksX0_append_0 13 rfl rfl)
theorem dX0_append_14 : decode cX0_append 14 = .ok (.ireturn, 1) := dk_172 (dk_at dksX0_append_0 14 rfl rfl)
theorem dX0_append_15 : decode cX0_append 15 = .ok (.astore_n 3, 1) := dk_78 (dk_at dksX0_append_0 15 rfl rfl)
theorem dX0_append_16 : decode cX0_append 16 = .ok (.iconst 2, 1) := dk_5 (dk_at dksX0_append_0 16 rfl rfl)
theorem dX0_append_17 : decode cX0_append 17 = .ok (.ireturn, 1) := dk_172 (dk_at dksX0_append_0 17 rfl rfl)
theorem dX0_append_18 : decode cX0_append 18 = .ok (.iconst 0, 1) := dk_3 (dk_at dksX0_append_0 18 rfl rfl)
theorem dX0_append_19 : decode cX0_append 19 = .ok (.ireturn, 1) := dk_172 (dk_at dksX0_append_0 19 rfl rfl)
abbrev cX0_follow : ByteArray := method_10_code
def yX0_follow : MethodName := ⟨RX0, "follow", "(LOfferSky;[J)I"⟩
def dkwX0_follow_0 : List UInt8 := [43, 3, 42, 182, 0, 40, 133, 80, 167, 0, 9, 77, 4, 172, 77, 5, 172, 3, 172]
abbrev dktX0_follow_0 : List UInt8 := dkwX0_follow_0 ++ []
theorem dksX0_follow_0 : cX0_follow.data.toList.drop 0 = dktX0_follow_0 := by decide +kernel
theorem dX0_follow_0 : decode cX0_follow 0 = .ok (.aload_n 1, 1) := dk_43 (dk_at dksX0_follow_0 0 rfl rfl)
theorem dX0_follow_1 : decode cX0_follow 1 = .ok (.iconst 0, 1) := dk_3 (dk_at dksX0_follow_0 1 rfl rfl)
theorem dX0_follow_2 : decode cX0_follow 2 = .ok (.aload_n 0, 1) := dk_42 (dk_at dksX0_follow_0 2 rfl rfl)
theorem dX0_follow_3 : decode cX0_follow 3 = .ok (.invokevirtual 40, 3) := dk_182 0 40 (dk_at dksX0_follow_0 3 rfl rfl)
theorem dX0_follow_6 : decode cX0_follow 6 = .ok (.i2l, 1) := dk_133 (dk_at dksX0_follow_0 6 rfl rfl)
theorem dX0_follow_7 : decode cX0_follow 7 = .ok (.lastore, 1) := dk_80 (dk_at dksX0_follow_0 7 rfl rfl)
theorem dX0_follow_8 : decode cX0_follow 8 = .ok (.goto 9, 3) := dk_167 0 9 (dk_at dksX0_follow_0 8 rfl rfl)
theorem dX0_follow_11 : decode cX0_follow 11 = .ok (.astore_n 2, 1) := dk_77 (dk_at dksX0_follow_0 11 rfl rfl)
theorem dX0_follow_12 : decode cX0_follow 12 = .ok (.iconst 1, 1) := dk_4 (dk_at dksX0_follow_0 12 rfl rfl)
theorem dX0_follow_13 : decode cX0_follow 13 = .ok (.ireturn, 1) := dk_172 (dk_at dksX0_follow_0 13 rfl rfl)
theorem dX0_follow_14 : decode cX0_follow 14 = .ok (.astore_n 2, 1) := dk_77 (dk_at dksX0_follow_0 14 rfl rfl)
theorem dX0_follow_15 : decode cX0_follow 15 = .ok (.iconst 2, 1) := dk_5 (dk_at dksX0_follow_0 15 rfl rfl)
theorem dX0_follow_16 : decode cX0_follow 16 = .ok (.ireturn, 1) := dk_172 (dk_at dksX0_follow_0 16 rfl rfl)
theorem dX0_follow_17 : decode cX0_follow 17 = .ok (.iconst 0, 1) := dk_3 (dk_at dksX0_follow_0 17 rfl rfl)
theorem dX0_follow_18 : decode cX0_follow 18 = .ok (.ireturn, 1) := dk_172 (dk_at dksX0_follow_0 18 rfl rfl)
abbrev cX0_keep : ByteArray := method_11_code
def yX0_keep : MethodName := ⟨RX0, "keep", "(LOfferSky;I)I"⟩
def dkwX0_keep_0 : List UInt8 := [42, 27, 182, 0, 44, 167, 0, 6, 77, 4, 172, 3, 172]
abbrev dktX0_keep_0 : List UInt8 := dkwX0_keep_0 ++ []
theorem dksX0_keep_0 : cX0_keep.data.toList.drop 0 = dktX0_keep_0 := by decide +kernel
theorem dX0_keep_0 : decode cX0_keep 0 = .ok (.aload_n 0, 1) := dk_42 (dk_at dksX0_keep_0 0 rfl rfl)
theorem dX0_keep_1 : decode cX0_keep 1 = .ok (.iload_n 1, 1) := dk_27 (dk_at dksX0_keep_0 1 rfl rfl)
theorem dX0_keep_2 : decode cX0_keep 2 = .ok (.invokevirtual 44, 3) := dk_182 0 44 (dk_at dksX0_keep_0 2 rfl rfl)
theorem dX0_keep_5 : decode cX0_keep 5 = .ok (.goto 6, 3) := dk_167 0 6 (dk_at dksX0_keep_0 5 rfl rfl)
theorem dX0_keep_8 : decode cX0_keep 8 = .ok (.astore_n 2, 1) := dk_77 (dk_at dksX0_keep_0 8 rfl rfl)
theorem dX0_keep_9 : decode cX0_keep 9 = .ok (.iconst 1, 1) := dk_4 (dk_at dksX0_keep_0 9 rfl rfl)
theorem dX0_keep_10 : decode cX0_keep 10 = .ok (.ireturn, 1) := dk_172 (dk_at dksX0_keep_0 10 rfl rfl)
theorem dX0_keep_11 : decode cX0_keep 11 = .ok (.iconst 0, 1) := dk_3 (dk_at dksX0_keep_0 11 rfl rfl)
theorem dX0_keep_12 : decode cX0_keep 12 = .ok (.ireturn, 1) := dk_172 (dk_at dksX0_keep_0 12 rfl rfl)
abbrev cX0_goBack : ByteArray := method_12_code
def yX0_goBack : MethodName := ⟨RX0, "goBack", "(LOfferSky;I)I"⟩
def dkwX0_goBack_0 : List UInt8 := [42, 27, 182, 0, 48, 167, 0, 9, 77, 4, 172, 77, 5, 172, 3, 172]
abbrev dktX0_goBack_0 : List UInt8 := dkwX0_goBack_0 ++ []
theorem dksX0_goBack_0 : cX0_goBack.data.toList.drop 0 = dktX0_goBack_0 := by decide +kernel
theorem dX0_goBack_0 : decode cX0_goBack 0 = .ok (.aload_n 0, 1) := dk_42 (dk_at dksX0_goBack_0 0 rfl rfl)
theorem dX0_goBack_1 : decode cX0_goBack 1 = .ok (.iload_n 1, 1) := dk_27 (dk_at dksX0_goBack_0 1 rfl rfl)
theorem dX0_goBack_2 : decode cX0_goBack 2 = .ok (.invokevirtual 48, 3) := dk_182 0 48 (dk_at dksX0_goBack_0 2 rfl rfl)
theorem dX0_goBack_5 : decode cX0_goBack 5 = .ok (.goto 9, 3) := dk_167 0 9 (dk_at dksX0_goBack_0 5 rfl rfl)
theorem dX0_goBack_8 : decode cX0_goBack 8 = .ok (.astore_n 2, 1) := dk_77 (dk_at dksX0_goBack_0 8 rfl rfl)
theorem dX0_goBack_9 : decode cX0_goBack 9 = .ok (.iconst 1, 1) := dk_4 (dk_at dksX0_goBack_0 9 rfl rfl)
theorem dX0_goBack_10 : decode cX0_goBack 10 = .ok (.ireturn, 1) := dk_172 (dk_at dksX0_goBack_0 10 rfl rfl)
theorem dX0_goBack_11 : decode cX0_goBack 11 = .ok (.astore_n 2, 1) := dk_77 (dk_at dksX0_goBack_0 11 rfl rfl)
theorem dX0_goBack_12 : decode cX0_goBack 12 = .ok (.iconst 2, 1) := dk_5 (dk_at dksX0_goBack_0 12 rfl rfl)
theorem dX0_goBack_13 : decode cX0_goBack 13 = .ok (.ireturn, 1) := dk_172 (dk_at dksX0_goBack_0 13 rfl rfl)
theorem dX0_goBack_14 : decode cX0_goBack 14 = .ok (.iconst 0, 1) := dk_3 (dk_at dksX0_goBack_0 14 rfl rfl)
theorem dX0_goBack_15 : decode cX0_goBack 15 = .ok (.ireturn, 1) := dk_172 (dk_at dksX0_goBack_0 15 rfl rfl)
abbrev cX0_undo : ByteArray := method_13_code
def yX0_undo : MethodName := ⟨RX0, "undo", "(LOfferSky;)I"⟩
def dkwX0_undo_0 : List UInt8 := [42, 182, 0, 51, 167, 0, 6, 76, 4, 172, 3, 172]
abbrev dktX0_undo_0 : List UInt8 := dkwX0_undo_0 ++ []
theorem dksX0_undo_0 : cX0_undo.data.toList.drop 0 = dktX0_undo_0 := by decide +kernel
theorem dX0_undo_0 : decode cX0_undo 0 = .ok (.aload_n 0, 1) := dk_42 (dk_at dksX0_undo_0 0 rfl rfl)
theorem dX0_undo_1 : decode cX0_undo 1 = .ok (.invokevirtual 51, 3) := dk_182 0 51 (dk_at dksX0_undo_0 1 rfl rfl)
theorem dX0_undo_4 : decode cX0_undo 4 = .ok (.goto 6, 3) := dk_167 0 6 (dk_at dksX0_undo_0 4 rfl rfl)
theorem dX0_undo_7 : decode cX0_undo 7 = .ok (.astore_n 1, 1) := dk_76 (dk_at dksX0_undo_0 7 rfl rfl)
theorem dX0_undo_8 : decode cX0_undo 8 = .ok (.iconst 1, 1) := dk_4 (dk_at dksX0_undo_0 8 rfl rfl)
theorem dX0_undo_9 : decode cX0_undo 9 = .ok (.ireturn, 1) := dk_172 (dk_at dksX0_undo_0 9 rfl rfl)
theorem dX0_undo_10 : decode cX0_undo 10 = .ok (.iconst 0, 1) := dk_3 (dk_at dksX0_undo_0 10 rfl rfl)
theorem dX0_undo_11 : decode cX0_undo 11 = .ok (.ireturn, 1) := dk_172 (dk_at dksX0_undo_0 11 rfl rfl)
abbrev cX0_valueOf : ByteArray := method_14_code
def yX0_valueOf : MethodName := ⟨RX0, "valueOf", "(LOfferSky;II[J)I"⟩
def dkwX0_valueOf_0 : List UInt8 := [45, 3, 42, 27, 28, 182, 0, 54, 133, 80, 167, 0, 7, 58, 4, 4, 172, 3, 172]
abbrev dktX0_valueOf_0 : List UInt8 := dkwX0_valueOf_0 ++ []
theorem dksX0_valueOf_0 : cX0_valueOf.data.toList.drop 0 = dktX0_valueOf_0 := by decide +kernel
theorem dX0_valueOf_0 : decode cX0_valueOf 0 = .ok (.aload_n 3, 1) := dk_45 (dk_at dksX0_valueOf_0 0 rfl rfl)
theorem dX0_valueOf_1 : decode cX0_valueOf 1 = .ok (.iconst 0, 1) := dk_3 (dk_at dksX0_valueOf_0 1 rfl rfl)
theorem dX0_valueOf_2 : decode cX0_valueOf 2 = .ok (.aload_n 0, 1) := dk_42 (dk_at dksX0_valueOf_0 2 rfl rfl)
theorem dX0_valueOf_3 : decode cX0_valueOf 3 = .ok (.iload_n 1, 1) := dk_27 (dk_at dksX0_valueOf_0 3 rfl rfl)
theorem dX0_valueOf_4 : decode cX0_valueOf 4 = .ok (.iload_n 2, 1) := dk_28 (dk_at dksX0_valueOf_0 4 rfl rfl)
theorem dX0_valueOf_5 : decode cX0_valueOf 5 = .ok (.invokevirtual 54, 3) := dk_182 0 54 (dk_at dksX0_valueOf_0 5 rfl rfl)
theorem dX0_valueOf_8 : decode cX0_valueOf 8 = .ok (.i2l, 1) := dk_133 (dk_at dksX0_valueOf_0 8 rfl rfl)
theorem dX0_valueOf_9 : decode cX0_valueOf 9 = .ok (.lastore, 1) := dk_80 (dk_at dksX0_valueOf_0 9 rfl rfl)
theorem dX0_valueOf_10 : decode cX0_valueOf 10 = .ok (.goto 7, 3) := dk_167 0 7 (dk_at dksX0_valueOf_0 10 rfl rfl)
theorem dX0_valueOf_13 : decode cX0_valueOf 13 = .ok (.astore 4, 2) := dk_58 4 (dk_at dksX0_valueOf_0 13 rfl rfl)
theorem dX0_valueOf_15 : decode cX0_valueOf 15 = .ok (.iconst 1, 1) := dk_4 (dk_at dksX0_valueOf_0 15 rfl rfl)
theorem dX0_valueOf_16 : decode cX0_valueOf 16 = .ok (.ireturn, 1) := dk_172 (dk_at dksX0_valueOf_0 16 rfl rfl)
theorem dX0_valueOf_17 : decode cX0_valueOf 17 = .ok (.iconst 0, 1) := dk_3 (dk_at dksX0_valueOf_0 17 rfl rfl)
theorem dX0_valueOf_18 : decode cX0_valueOf 18 = .ok (.ireturn, 1) := dk_172 (dk_at dksX0_valueOf_0 18 rfl rfl)
abbrev cX0_wishOf : ByteArray := method_15_code
def yX0_wishOf : MethodName := ⟨RX0, "wishOf", "(LOfferSky;I[J)I"⟩
def dkwX0_wishOf_0 : List UInt8 := [44, 3, 42, 27, 182, 0, 57, 133, 80, 167, 0, 6, 78, 4, 172, 3, 172]
abbrev dktX0_wishOf_0 : List UInt8 := dkwX0_wishOf_0 ++ []
theorem dksX0_wishOf_0 : cX0_wishOf.data.toList.drop 0 = dktX0_wishOf_0 := by decide +kernel
theorem dX0_wishOf_0 : decode cX0_wishOf 0 = .ok (.aload_n 2, 1) := dk_44 (dk_at dksX0_wishOf_0 0 rfl rfl)
theorem dX0_wishOf_1 : decode cX0_wishOf 1 = .ok (.iconst 0, 1) := dk_3 (dk_at dksX0_wishOf_0 1 rfl rfl)
theorem dX0_wishOf_2 : decode cX0_wishOf 2 = .ok (.aload_n 0, 1) := dk_42 (dk_at dksX0_wishOf_0 2 rfl rfl)
theorem dX0_wishOf_3 : decode cX0_wishOf 3 = .ok (.iload_n 1, 1) := dk_27 (dk_at dksX0_wishOf_0 3 rfl rfl)
theorem dX0_wishOf_4 : decode cX0_wishOf 4 = .ok (.invokevirtual 57, 3) := dk_182 0 57 (dk_at dksX0_wishOf_0 4 rfl rfl)
theorem dX0_wishOf_7 : decode cX0_wishOf 7 = .ok (.i2l, 1) := dk_133 (dk_at dksX0_wishOf_0 7 rfl rfl)
theorem dX0_wishOf_8 : decode cX0_wishOf 8 = .ok (.lastore, 1) := dk_80 (dk_at dksX0_wishOf_0 8 rfl rfl)
theorem dX0_wishOf_9 : decode cX0_wishOf 9 = .ok (.goto 6, 3) := dk_167 0 6 (dk_at dksX0_wishOf_0 9 rfl rfl)
theorem dX0_wishOf_12 : decode cX0_wishOf 12 = .ok (.astore_n 3, 1) := dk_78 (dk_at dksX0_wishOf_0 12 rfl rfl)
theorem dX0_wishOf_13 : decode cX0_wishOf 13 = .ok (.iconst 1, 1) := dk_4 (dk_at dksX0_wishOf_0 13 rfl rfl)
theorem dX0_wishOf_14 : decode cX0_wishOf 14 = .ok (.ireturn, 1) := dk_172 (dk_at dksX0_wishOf_0 14 rfl rfl)
theorem dX0_wishOf_15 : decode cX0_wishOf 15 = .ok (.iconst 0, 1) := dk_3 (dk_at dksX0_wishOf_0 15 rfl rfl)
theorem dX0_wishOf_16 : decode cX0_wishOf 16 = .ok (.ireturn, 1) := dk_172 (dk_at dksX0_wishOf_0 16 rfl rfl)
abbrev cX0_leastOf : ByteArray := method_16_code
def yX0_leastOf : MethodName := ⟨RX0, "leastOf", "(LOfferSky;I[J)I"⟩
def dkwX0_leastOf_0 : List UInt8 := [44, 3, 42, 27, 182, 0, 60, 133, 80, 167, 0, 6, 78, 4, 172, 3, 172]
abbrev dktX0_leastOf_0 : List UInt8 := dkwX0_leastOf_0 ++ []
theorem dksX0_leastOf_0 : cX0_leastOf.data.toList.drop 0 = dktX0_leastOf_0 := by decide +kernel
theorem dX0_leastOf_0 : decode cX0_leastOf 0 = .ok (.aload_n 2, 1) := dk_44 (dk_at dksX0_leastOf_0 0 rfl rfl)
theorem dX0_leastOf_1 : decode cX0_leastOf 1 = .ok (.iconst 0, 1) := dk_3 (dk_at dksX0_leastOf_0 1 rfl rfl)
theorem dX0_leastOf_2 : decode cX0_leastOf 2 = .ok (.aload_n 0, 1) := dk_42 (dk_at dksX0_leastOf_0 2 rfl rfl)
theorem dX0_leastOf_3 : decode cX0_leastOf 3 = .ok (.iload_n 1, 1) := dk_27 (dk_at dksX0_leastOf_0 3 rfl rfl)
theorem dX0_leastOf_4 : decode cX0_leastOf 4 = .ok (.invokevirtual 60, 3) := dk_182 0 60 (dk_at dksX0_leastOf_0 4 rfl rfl)
theorem dX0_leastOf_7 : decode cX0_leastOf 7 = .ok (.i2l, 1) := dk_133 (dk_at dksX0_leastOf_0 7 rfl rfl)
theorem dX0_leastOf_8 : decode cX0_leastOf 8 = .ok (.lastore, 1) := dk_80 (dk_at dksX0_leastOf_0 8 rfl rfl)
theorem dX0_leastOf_9 : decode cX0_leastOf 9 = .ok (.goto 6, 3) := dk_167 0 6 (dk_at dksX0_leastOf_0 9 rfl rfl)
theorem dX0_leastOf_12 : decode cX0_leastOf 12 = .ok (.astore_n 3, 1) := dk_78 (dk_at dksX0_leastOf_0 12 rfl rfl)
theorem dX0_leastOf_13 : decode cX0_leastOf 13 = .ok (.iconst 1, 1) := dk_4 (dk_at dksX0_leastOf_0 13 rfl rfl)
theorem dX0_leastOf_14 : decode cX0_leastOf 14 = .ok (.ireturn, 1) := dk_172 (dk_at dksX0_leastOf_0 14 rfl rfl)
theorem dX0_leastOf_15 : decode cX0_leastOf 15 = .ok (.iconst 0, 1) := dk_3 (dk_at dksX0_leastOf_0 15 rfl rfl)
theorem dX0_leastOf_16 : decode cX0_leastOf 16 = .ok (.ireturn, 1) := dk_172 (dk_at dksX0_leastOf_0 16 rfl rfl)
abbrev cX0_mostOf : ByteArray := method_17_code
def yX0_mostOf : MethodName := ⟨RX0, "mostOf", "(LOfferSky;I[J)I"⟩
def dkwX0_mostOf_0 : List UInt8 := [44, 3, 42, 27, 182, 0, 63, 133, 80, 167, 0, 6, 78, 4, 172, 3, 172]
abbrev dktX0_mostOf_0 : List UInt8 := dkwX0_mostOf_0 ++ []
theorem dksX0_mostOf_0 : cX0_mostOf.data.toList.drop 0 = dktX0_mostOf_0 := by decide +kernel
theorem dX0_mostOf_0 : decode cX0_mostOf 0 = .ok (.aload_n 2, 1) := dk_44 (dk_at dksX0_mostOf_0 0 rfl rfl)
theorem dX0_mostOf_1 : decode cX0_mostOf 1 = .ok (.iconst 0, 1) := dk_3 (dk_at dksX0_mostOf_0 1 rfl rfl)
theorem dX0_mostOf_2 : decode cX0_mostOf 2 = .ok (.aload_n 0, 1) := dk_42 (dk_at dksX0_mostOf_0 2 rfl rfl)
theorem dX0_mostOf_3 : decode cX0_mostOf 3 = .ok (.iload_n 1, 1) := dk_27 (dk_at dksX0_mostOf_0 3 rfl rfl)
theorem dX0_mostOf_4 : decode cX0_mostOf 4 = .ok (.invokevirtual 63, 3) := dk_182 0 63 (dk_at dksX0_mostOf_0 4 rfl rfl)
theorem dX0_mostOf_7 : decode cX0_mostOf 7 = .ok (.i2l, 1) := dk_133 (dk_at dksX0_mostOf_0 7 rfl rfl)
theorem dX0_mostOf_8 : decode cX0_mostOf 8 = .ok (.lastore, 1) := dk_80 (dk_at dksX0_mostOf_0 8 rfl rfl)
theorem dX0_mostOf_9 : decode cX0_mostOf 9 = .ok (.goto 6, 3) := dk_167 0 6 (dk_at dksX0_mostOf_0 9 rfl rfl)
theorem dX0_mostOf_12 : decode cX0_mostOf 12 = .ok (.astore_n 3, 1) := dk_78 (dk_at dksX0_mostOf_0 12 rfl rfl)
theorem dX0_mostOf_13 : decode cX0_mostOf 13 = .ok (.iconst 1, 1) := dk_4 (dk_at dksX0_mostOf_0 13 rfl rfl)
theorem dX0_mostOf_14 : decode cX0_mostOf 14 = .ok (.ireturn, 1) := dk_172 (dk_at dksX0_mostOf_0 14 rfl rfl)
theorem dX0_mostOf_15 : decode cX0_mostOf 15 = .ok (.iconst 0, 1) := dk_3 (dk_at dksX0_mostOf_0 15 rfl rfl)
theorem dX0_mostOf_16 : decode cX0_mostOf 16 = .ok (.ireturn, 1) := dk_172 (dk_at dksX0_mostOf_0 16 rfl rfl)
abbrev cX0_weightOf : ByteArray := method_18_code
def yX0_weightOf : MethodName := ⟨RX0, "weightOf", "(LOfferSky;I[J)I"⟩
def dkwX0_weightOf_0 : List UInt8 := [44, 3, 42, 27, 182, 0, 66, 133, 80, 167, 0, 6, 78, 4, 172, 3, 172]
abbrev dktX0_weightOf_0 : List UInt8 := dkwX0_weightOf_0 ++ []
theorem dksX0_weightOf_0 : cX0_weightOf.data.toList.drop 0 = dktX0_weightOf_0 := by decide +kernel
theorem dX0_weightOf_0 : decode cX0_weightOf 0 = .ok (.aload_n 2, 1) := dk_44 (dk_at dksX0_weightOf_0 0 rfl rfl)
theorem dX0_weightOf_1 : decode cX0_weightOf 1 = .ok (.iconst 0, 1) := dk_3 (dk_at dksX0_weightOf_0 1 rfl rfl)
theorem dX0_weightOf_2 : decode cX0_weightOf 2 = .ok (.aload_n 0, 1) := dk_42 (dk_at dksX0_weightOf_0 2 rfl rfl)
theorem dX0_weightOf_3 : decode cX0_weightOf 3 = .ok (.iload_n 1, 1) := dk_27 (dk_at dksX0_weightOf_0 3 rfl rfl)
theorem dX0_weightOf_4 : decode cX0_weightOf 4 = .ok (.invokevirtual 66, 3) := dk_182 0 66 (dk_at dksX0_weightOf_0 4 rfl rfl)
theorem dX0_weightOf_7 : decode cX0_weightOf 7 = .ok (.i2l, 1) := dk_133 (dk_at dksX0_weightOf_0 7 rfl rfl)
theorem dX0_weightOf_8 : decode cX0_weightOf 8 = .ok (.lastore, 1) := dk_80 (dk_at dksX0_weightOf_0 8 rfl rfl)
theorem dX0_weightOf_9 : decode cX0_weightOf 9 = .ok (.goto 6, 3) := dk_167 0 6 (dk_at dksX0_weightOf_0 9 rfl rfl)
theorem dX0_weightOf_12 : decode cX0_weightOf 12 = .ok (.astore_n 3, 1) := dk_78 (dk_at dksX0_weightOf_0 12 rfl rfl)
theorem dX0_weightOf_13 : decode cX0_weightOf 13 = .ok (.iconst 1, 1) := dk_4 (dk_at dksX0_weightOf_0 13 rfl rfl)
theorem dX0_weightOf_14 : decode cX0_weightOf 14 = .ok (.ireturn, 1) := dk_172 (dk_at dksX0_weightOf_0 14 rfl rfl)
theorem dX0_weightOf_15 : decode cX0_weightOf 15 = .ok (.iconst 0, 1) := dk_3 (dk_at dksX0_weightOf_0 15 rfl rfl)
theorem dX0_weightOf_16 : decode cX0_weightOf 16 = .ok (.ireturn, 1) := dk_172 (dk_at dksX0_weightOf_0 16 rfl rfl)
abbrev cX0_isCounted : ByteArray := method_19_code
def yX0_isCounted : MethodName := ⟨RX0, "isCounted", "(LOfferSky;I[J)I"⟩
def dkwX0_isCounted_0 : List UInt8 := [44, 3, 42, 27, 182, 0, 69, 153, 0, 7, 10, 167, 0, 4, 9, 80, 167, 0, 6, 78, 4, 172, 3, 172]
abbrev dktX0_isCounted_0 : List UInt8 := dkwX0_isCounted_0 ++ []
theorem dksX0_isCounted_0 : cX0_isCounted.data.toList.drop 0 = dktX0_isCounted_0 := by decide +kernel
theorem dX0_isCounted_0 : decode cX0_isCounted 0 = .ok (.aload_n 2, 1) := dk_44 (dk_at dksX0_isCounted_0 0 rfl rfl)
theorem dX0_isCounted_1 : decode cX0_isCounted 1 = .ok (.iconst 0, 1) := dk_3 (dk_at dksX0_isCounted_0 1 rfl rfl)
theorem dX0_isCounted_2 : decode cX0_isCounted 2 = .ok (.aload_n 0, 1) := dk_42 (dk_at dksX0_isCounted_0 2 rfl rfl)
theorem dX0_isCounted_3 : decode cX0_isCounted 3 = .ok (.iload_n 1, 1) := dk_27 (dk_at dksX0_isCounted_0 3 rfl rfl)
theorem dX0_isCounted_4 : decode cX0_isCounted 4 = .ok (.invokevirtual 69, 3) := dk_182 0 69 (dk_at dksX0_isCounted_0 4 rfl rfl)
theorem dX0_isCounted_7 : decode cX0_isCounted 7 = .ok (.ifCond .eq 7, 3) := dk_153 0 7 (dk_at dksX0_isCounted_0 7 rfl rfl)
theorem dX0_isCounted_10 : decode cX0_isCounted 10 = .ok (.lconst 1, 1) := dk_10 (dk_at dksX0_isCounted_0 10 rfl rfl)
theorem dX0_isCounted_11 : decode cX0_isCounted 11 = .ok (.goto 4, 3) := dk_167 0 4 (dk_at dksX0_isCounted_0 11 rfl rfl)
theorem dX0_isCounted_14 : decode cX0_isCounted 14 = .ok (.lconst 0, 1) := dk_9 (dk_at dksX0_isCounted_0 14 rfl rfl)
theorem dX0_isCounted_15 : decode cX0_isCounted 15 = .ok (.lastore, 1) := dk_80 (dk_at dksX0_isCounted_0 15 rfl rfl)
theorem dX0_isCounted_16 : decode cX0_isCounted 16 = .ok (.goto 6, 3) := dk_167 0 6 (dk_at dksX0_isCounted_0 16 rfl rfl)
theorem dX0_isCounted_19 : decode cX0_isCounted 19 = .ok (.astore_n 3, 1) := dk_78 (dk_at dksX0_isCounted_0 19 rfl rfl)
theorem dX0_isCounted_20 : decode cX0_isCounted 20 = .ok (.iconst 1, 1) := dk_4 (dk_at dksX0_isCounted_0 20 rfl rfl)
theorem dX0_isCounted_21 : decode cX0_isCounted 21 = .ok (.ireturn, 1) := dk_172 (dk_at dksX0_isCounted_0 21 rfl rfl)
theorem dX0_isCounted_22 : decode cX0_isCounted 22 = .ok (.iconst 0, 1) := dk_3 (dk_at dksX0_isCounted_0 22 rfl rfl)
theorem dX0_isCounted_23 : decode cX0_isCounted 23 = .ok (.ireturn, 1) := dk_172 (dk_at dksX0_isCounted_0 23 rfl rfl)
abbrev cX0_beats : ByteArray := method_20_code
def yX0_beats : MethodName := ⟨RX0, "beats", "(LOfferSky;II[J)I"⟩
def dkwX0_beats_1 : List UInt8 := [3, 172]
abbrev dktX0_beats_1 : List UInt8 := dkwX0_beats_1 ++ []
def dkwX0_beats_0 : List UInt8 := [45, 3, 42, 27, 28, 182, 0, 73, 153, 0, 7, 10, 167, 0, 4, 9, 80, 167, 0, 7, 58, 4, 4, 172]
abbrev dktX0_beats_0 : List UInt8 := dkwX0_beats_0 ++ dktX0_beats_1
theorem dksX0_beats_0 : cX0_beats.data.toList.drop 0 = dktX0_beats_0 := by decide +kernel
theorem dksX0_beats_1 : cX0_beats.data.toList.drop 24 = dktX0_beats_1 := dk_seg dksX0_beats_0 24 rfl rfl
theorem dX0_beats_0 : decode cX0_beats 0 = .ok (.aload_n 3, 1) := dk_45 (dk_at dksX0_beats_0 0 rfl rfl)
theorem dX0_beats_1 : decode cX0_beats 1 = .ok (.iconst 0, 1) := dk_3 (dk_at dksX0_beats_0 1 rfl rfl)
theorem dX0_beats_2 : decode cX0_beats 2 = .ok (.aload_n 0, 1) := dk_42 (dk_at dksX0_beats_0 2 rfl rfl)
theorem dX0_beats_3 : decode cX0_beats 3 = .ok (.iload_n 1, 1) := dk_27 (dk_at dksX0_beats_0 3 rfl rfl)
theorem dX0_beats_4 : decode cX0_beats 4 = .ok (.iload_n 2, 1) := dk_28 (dk_at dksX0_beats_0 4 rfl rfl)
theorem dX0_beats_5 : decode cX0_beats 5 = .ok (.invokevirtual 73, 3) := dk_182 0 73 (dk_at dksX0_beats_0 5 rfl rfl)
theorem dX0_beats_8 : decode cX0_beats 8 = .ok (.ifCond .eq 7, 3) := dk_153 0 7 (dk_at dksX0_beats_0 8 rfl rfl)
theorem dX0_beats_11 : decode cX0_beats 11 = .ok (.lconst 1, 1) := dk_10 (dk_at dksX0_beats_0 11 rfl rfl)
theorem dX0_beats_12 : decode cX0_beats 12 = .ok (.goto 4, 3) := dk_167 0 4 (dk_at dksX0_beats_0 12 rfl rfl)
theorem dX0_beats_15 : decode cX0_beats 15 = .ok (.lconst 0, 1) := dk_9 (dk_at dksX0_beats_0 15 rfl rfl)
theorem dX0_beats_16 : decode cX0_beats 16 = .ok (.lastore, 1) := dk_80 (dk_at dksX0_beats_0 16 rfl rfl)
theorem dX0_beats_17 : decode cX0_beats 17 = .ok (.goto 7, 3) := dk_167 0 7 (dk_at dksX0_beats_0 17 rfl rfl)
theorem dX0_beats_20 : decode cX0_beats 20 = .ok (.astore 4, 2) := dk_58 4 (dk_at dksX0_beats_0 20 rfl rfl)
theorem dX0_beats_22 : decode cX0_beats 22 = .ok (.iconst 1, 1) := dk_4 (dk_at dksX0_beats_0 22 rfl rfl)
theorem dX0_beats_23 : decode cX0_beats 23 = .ok (.ireturn, 1) := dk_172 (dk_at dksX0_beats_0 23 rfl rfl)
theorem dX0_beats_24 : decode cX0_beats 24 = .ok (.iconst 0, 1) := dk_3 (dk_at dksX0_beats_1 0 rfl rfl)
theorem dX0_beats_25 : decode cX0_beats 25 = .ok (.ireturn, 1) := dk_172 (dk_at dksX0_beats_1 1 rfl rfl)
abbrev cX0_betterOn : ByteArray := method_21_code
def yX0_betterOn : MethodName := ⟨RX0, "betterOn", "(LOfferSky;II[J)I"⟩
def dkwX0_betterOn_0 : List UInt8 := [45, 3, 42, 27, 28, 182, 0, 77, 133, 80, 167, 0, 7, 58, 4, 4, 172, 3, 172]
abbrev dktX0_betterOn_0 : List UInt8 := dkwX0_betterOn_0 ++ []
theorem dksX0_betterOn_0 : cX0_betterOn.data.toList.drop 0 = dktX0_betterOn_0 := by decide +kernel
theorem dX0_betterOn_0 : decode cX0_betterOn 0 = .ok (.aload_n 3, 1) := dk_45 (dk_at dksX0_betterOn_0 0 rfl rfl)
theorem dX0_betterOn_1 : decode cX0_betterOn 1 = .ok (.iconst 0, 1) := dk_3 (dk_at dksX0_betterOn_0 1 rfl rfl)
theorem dX0_betterOn_2 : decode cX0_betterOn 2 = .ok (.aload_n 0, 1) := dk_42 (dk_at dksX0_betterOn_0 2 rfl rfl)
theorem dX0_betterOn_3 : decode cX0_betterOn 3 = .ok (.iload_n 1, 1) := dk_27 (dk_at dksX0_betterOn_0 3 rfl rfl)
theorem dX0_betterOn_4 : decode cX0_betterOn 4 = .ok (.iload_n 2, 1) := dk_28 (dk_at dksX0_betterOn_0 4 rfl rfl)
theorem dX0_betterOn_5 : decode cX0_betterOn 5 = .ok (.invokevirtual 77, 3) := dk_182 0 77 (dk_at dksX0_betterOn_0 5 rfl rfl)
theorem dX0_betterOn_8 : decode cX0_betterOn 8 = .ok (.i2l, 1) := dk_133 (dk_at dksX0_betterOn_0 8 rfl rfl)
theorem dX0_betterOn_9 : decode cX0_betterOn 9 = .ok (.lastore, 1) := dk_80 (dk_at dksX0_betterOn_0 9 rfl rfl)
theorem dX0_betterOn_10 : decode cX0_betterOn 10 = .ok (.goto 7, 3) := dk_167 0 7 (dk_at dksX0_betterOn_0 10 rfl rfl)
theorem dX0_betterOn_13 : decode cX0_betterOn 13 = .ok (.astore 4, 2) := dk_58 4 (dk_at dksX0_betterOn_0 13 rfl rfl)
theorem dX0_betterOn_15 : decode cX0_betterOn 15 = .ok (.iconst 1, 1) := dk_4 (dk_at dksX0_betterOn_0 15 rfl rfl)
theorem dX0_betterOn_16 : decode cX0_betterOn 16 = .ok (.ireturn, 1) := dk_172 (dk_at dksX0_betterOn_0 16 rfl rfl)
theorem dX0_betterOn_17 : decode cX0_betterOn 17 = .ok (.iconst 0, 1) := dk_3 (dk_at dksX0_betterOn_0 17 rfl rfl)
theorem dX0_betterOn_18 : decode cX0_betterOn 18 = .ok (.ireturn, 1) := dk_172 (dk_at dksX0_betterOn_0 18 rfl rfl)
abbrev cX0_beatersOf : ByteArray := method_22_code
def yX0_beatersOf : MethodName := ⟨RX0, "beatersOf", "(LOfferSky;I[J)I"⟩
def dkwX0_beatersOf_0 : List UInt8 := [44, 3, 42, 27, 182, 0, 80, 133, 80, 167, 0, 6, 78, 4, 172, 3, 172]
abbrev dktX0_beatersOf_0 : List UInt8 := dkwX0_beatersOf_0 ++ []
theorem dksX0_beatersOf_0 : cX0_beatersOf.data.toList.drop 0 = dktX0_beatersOf_0 := by decide +kernel
theorem dX0_beatersOf_0 : decode cX0_beatersOf 0 = .ok (.aload_n 2, 1) := dk_44 (dk_at dksX0_beatersOf_0 0 rfl rfl)
theorem dX0_beatersOf_1 : decode cX0_beatersOf 1 = .ok (.iconst 0, 1) := dk_3 (dk_at dksX0_beatersOf_0 1 rfl rfl)
theorem dX0_beatersOf_2 : decode cX0_beatersOf 2 = .ok (.aload_n 0, 1) := dk_42 (dk_at dksX0_beatersOf_0 2 rfl rfl)
theorem dX0_beatersOf_3 : decode cX0_beatersOf 3 = .ok (.iload_n 1, 1) := dk_27 (dk_at dksX0_beatersOf_0 3 rfl rfl)
theorem dX0_beatersOf_4 : decode cX0_beatersOf 4 = .ok (.invokevirtual 80, 3) := dk_182 0 80 (dk_at dksX0_beatersOf_0 4 rfl rfl)
theorem dX0_beatersOf_7 : decode cX0_beatersOf 7 = .ok (.i2l, 1) := dk_133 (dk_at dksX0_beatersOf_0 7 rfl rfl)
theorem dX0_beatersOf_8 : decode cX0_beatersOf 8 = .ok (.lastore, 1) := dk_80 (dk_at dksX0_beatersOf_0 8 rfl rfl)
theorem dX0_beatersOf_9 : decode cX0_beatersOf 9 = .ok (.goto 6, 3) := dk_167 0 6 (dk_at dksX0_beatersOf_0 9 rfl rfl)
theorem dX0_beatersOf_12 : decode cX0_beatersOf 12 = .ok (.astore_n 3, 1) := dk_78 (dk_at dksX0_beatersOf_0 12 rfl rfl)
theorem dX0_beatersOf_13 : decode cX0_beatersOf 13 = .ok (.iconst 1, 1) := dk_4 (dk_at dksX0_beatersOf_0 13 rfl rfl)
theorem dX0_beatersOf_14 : decode cX0_beatersOf 14 = .ok (.ireturn, 1) := dk_172 (dk_at dksX0_beatersOf_0 14 rfl rfl)
theorem dX0_beatersOf_15 : decode cX0_beatersOf 15 = .ok (.iconst 0, 1) := dk_3 (dk_at dksX0_beatersOf_0 15 rfl rfl)
theorem dX0_beatersOf_16 : decode cX0_beatersOf 16 = .ok (.ireturn, 1) := dk_172 (dk_at dksX0_beatersOf_0 16 rfl rfl)
abbrev cX0_beatenBy : ByteArray := method_23_code
def yX0_beatenBy : MethodName := ⟨RX0, "beatenBy", "(LOfferSky;I[J)I"⟩
def dkwX0_beatenBy_0 : List UInt8 := [44, 3, 42, 27, 182, 0, 83, 133, 80, 167, 0, 6, 78, 4, 172, 3, 172]
abbrev dktX0_beatenBy_0 : List UInt8 := dkwX0_beatenBy_0 ++ []
theorem dksX0_beatenBy_0 : cX0_beatenBy.data.toList.drop 0 = dktX0_beatenBy_0 := by decide +kernel
theorem dX0_beatenBy_0 : decode cX0_beatenBy 0 = .ok (.aload_n 2, 1) := dk_44 (dk_at dksX0_beatenBy_0 0 rfl rfl)
theorem dX0_beatenBy_1 : decode cX0_beatenBy 1 = .ok (.iconst 0, 1) := dk_3 (dk_at dksX0_beatenBy_0 1 rfl rfl)
theorem dX0_beatenBy_2 : decode cX0_beatenBy 2 = .ok (.aload_n 0, 1) := dk_42 (dk_at dksX0_beatenBy_0 2 rfl rfl)
theorem dX0_beatenBy_3 : decode cX0_beatenBy 3 = .ok (.iload_n 1, 1) := dk_27 (dk_at dksX0_beatenBy_0 3 rfl rfl)
theorem dX0_beatenBy_4 : decode cX0_beatenBy 4 = .ok (.invokevirtual 83, 3) := dk_182 0 83 (dk_at dksX0_beatenBy_0 4 rfl rfl)
theorem dX0_beatenBy_7 : decode cX0_beatenBy 7 = .ok (.i2l, 1) := dk_133 (dk_at dksX0_beatenBy_0 7 rfl rfl)
theorem dX0_beatenBy_8 : decode cX0_beatenBy 8 = .ok (.lastore, 1) := dk_80 (dk_at dksX0_beatenBy_0 8 rfl rfl)
theorem dX0_beatenBy_9 : decode cX0_beatenBy 9 = .ok (.goto 6, 3) := dk_167 0 6 (dk_at dksX0_beatenBy_0 9 rfl rfl)
theorem dX0_beatenBy_12 : decode cX0_beatenBy 12 = .ok (.astore_n 3, 1) := dk_78 (dk_at dksX0_beatenBy_0 12 rfl rfl)
theorem dX0_beatenBy_13 : decode cX0_beatenBy 13 = .ok (.iconst 1, 1) := dk_4 (dk_at dksX0_beatenBy_0 13 rfl rfl)
theorem dX0_beatenBy_14 : decode cX0_beatenBy 14 = .ok (.ireturn, 1) := dk_172 (dk_at dksX0_beatenBy_0 14 rfl rfl)
theorem dX0_beatenBy_15 : decode cX0_beatenBy 15 = .ok (.iconst 0, 1) := dk_3 (dk_at dksX0_beatenBy_0 15 rfl rfl)
theorem dX0_beatenBy_16 : decode cX0_beatenBy 16 = .ok (.ireturn, 1) := dk_172 (dk_at dksX0_beatenBy_0 16 rfl rfl)
abbrev cX0_isToldByPairs : ByteArray := method_24_code
def yX0_isToldByPairs : MethodName := ⟨RX0, "isToldByPairs", "(LOfferSky;I[J)I"⟩
def dkwX0_isToldByPairs_0 : List UInt8 := [44, 3, 42, 27, 182, 0, 86, 153, 0, 7, 10, 167, 0, 4, 9, 80, 167, 0, 6, 78, 4, 172, 3, 172]
abbrev dktX0_isToldByPairs_0 : List UInt8 := dkwX0_isToldByPairs_0 ++ []
theorem dksX0_isToldByPairs_0 : cX0_isToldByPairs.data.toList.drop 0 = dktX0_isToldByPairs_0 := by decide +kernel
theorem dX0_isToldByPairs_0 : decode cX0_isToldByPairs 0 = .ok (.aload_n 2, 1) := dk_44 (dk_at dksX0_isToldByPairs_0 0 rfl rfl)
theorem dX0_isToldByPairs_1 : decode cX0_isToldByPairs 1 = .ok (.iconst 0, 1) := dk_3 (dk_at dksX0_isToldByPairs_0 1 rfl rfl)
theorem dX0_isToldByPairs_2 : decode cX0_isToldByPairs 2 = .ok (.aload_n 0, 1) := dk_42 (dk_at dksX0_isToldByPairs_0 2 rfl rfl)
theorem dX0_isToldByPairs_3 : decode cX0_isToldByPairs 3 = .ok (.iload_n 1, 1) := dk_27 (dk_at dksX0_isToldByPairs_0 3 rfl rfl)
theorem dX0_isToldByPairs_4 : decode cX0_isToldByPairs 4 = .ok (.invokevirtual 86, 3) := dk_182 0 86 (dk_at dksX0_isToldByPairs_0 4 rfl rfl)
theorem dX0_isToldByPairs_7 : decode cX0_isToldByPairs 7 = .ok (.ifCond .eq 7, 3) := dk_153 0 7 (dk_at dksX0_isToldByPairs_0 7 rfl rfl)
theorem dX0_isToldByPairs_10 : decode cX0_isToldByPairs 10 = .ok (.lconst 1, 1) := dk_10 (dk_at dksX0_isToldByPairs_0 10 rfl rfl)
theorem dX0_isToldByPairs_11 : decode cX0_isToldByPairs 11 = .ok (.goto 4, 3) := dk_167 0 4 (dk_at dksX0_isToldByPairs_0 11 rfl rfl)
theorem dX0_isToldByPairs_14 : decode cX0_isToldByPairs 14 = .ok (.lconst 0, 1) := dk_9 (dk_at dksX0_isToldByPairs_0 14 rfl rfl)
theorem dX0_isToldByPairs_15 : decode cX0_isToldByPairs 15 = .ok (.lastore, 1) := dk_80 (dk_at dksX0_isToldByPairs_0 15 rfl rfl)
theorem dX0_isToldByPairs_16 : decode cX0_isToldByPairs 16 = .ok (.goto 6, 3) := dk_167 0 6 (dk_at dksX0_isToldByPairs_0 16 rfl rfl)
theorem dX0_isToldByPairs_19 : decode cX0_isToldByPairs 19 = .ok (.astore_n 3, 1) := dk_78 (dk_at dksX0_isToldByPairs_0 19 rfl rfl)
theorem dX0_isToldByPairs_20 : decode cX0_isToldByPairs 20 = .ok (.iconst 1, 1) := dk_4 (dk_at dksX0_isToldByPairs_0 20 rfl rfl)
theorem dX0_isToldByPairs_21 : decode cX0_isToldByPairs 21 = .ok (.ireturn, 1) := dk_172 (dk_at dksX0_isToldByPairs_0 21 rfl rfl)
theorem dX0_isToldByPairs_22 : decode cX0_isToldByPairs 22 = .ok (.iconst 0, 1) := dk_3 (dk_at dksX0_isToldByPairs_0 22 rfl rfl)
theorem dX0_isToldByPairs_23 : decode cX0_isToldByPairs 23 = .ok (.ireturn, 1) := dk_172 (dk_at dksX0_isToldByPairs_0 23 rfl rfl)
abbrev cX0_isToldByWindow : ByteArray := method_25_code
def yX0_isToldByWindow : MethodName := ⟨RX0, "isToldByWindow", "(LOfferSky;I[J)I"⟩
def dkwX0_isToldByWindow_0 : List UInt8 := [44, 3, 42, 27, 182, 0, 89, 153, 0, 7, 10, 167, 0, 4, 9, 80, 167, 0, 6, 78, 4, 172, 3, 172]
abbrev dktX0_isToldByWindow_0 : List UInt8 := dkwX0_isToldByWindow_0 ++ []
theorem dksX0_isToldByWindow_0 : cX0_isToldByWindow.data.toList.drop 0 = dktX0_isToldByWindow_0 := by decide +kernel
theorem dX0_isToldByWindow_0 : decode cX0_isToldByWindow 0 = .ok (.aload_n 2, 1) := dk_44 (dk_at dksX0_isToldByWindow_0 0 rfl rfl)
theorem dX0_isToldByWindow_1 : decode cX0_isToldByWindow 1 = .ok (.iconst 0, 1) := dk_3 (dk_at dksX0_isToldByWindow_0 1 rfl rfl)
theorem dX0_isToldByWindow_2 : decode cX0_isToldByWindow 2 = .ok (.aload_n 0, 1) := dk_42 (dk_at dksX0_isToldByWindow_0 2 rfl rfl)
theorem dX0_isToldByWindow_3 : decode cX0_isToldByWindow 3 = .ok (.iload_n 1, 1) := dk_27 (dk_at dksX0_isToldByWindow_0 3 rfl rfl)
theorem dX0_isToldByWindow_4 : decode cX0_isToldByWindow 4 = .ok (.invokevirtual 89, 3) := dk_182 0 89 (dk_at dksX0_isToldByWindow_0 4 rfl rfl)
theorem dX0_isToldByWindow_7 : decode cX0_isToldByWindow 7 = .ok (.ifCond .eq 7, 3) := dk_153 0 7 (dk_at dksX0_isToldByWindow_0 7 rfl rfl)
theorem dX0_isToldByWindow_10 : decode cX0_isToldByWindow 10 = .ok (.lconst 1, 1) := dk_10 (dk_at dksX0_isToldByWindow_0 10 rfl rfl)
theorem dX0_isToldByWindow_11 : decode cX0_isToldByWindow 11 = .ok (.goto 4, 3) := dk_167 0 4 (dk_at dksX0_isToldByWindow_0 11 rfl rfl)
theorem dX0_isToldByWindow_14 : decode cX0_isToldByWindow 14 = .ok (.lconst 0, 1) := dk_9 (dk_at dksX0_isToldByWindow_0 14 rfl rfl)
theorem dX0_isToldByWindow_15 : decode cX0_isToldByWindow 15 = .ok (.lastore, 1) := dk_80 (dk_at dksX0_isToldByWindow_0 15 rfl rfl)
theorem dX0_isToldByWindow_16 : decode cX0_isToldByWindow 16 = .ok (.goto 6, 3) := dk_167 0 6 (dk_at dksX0_isToldByWindow_0 16 rfl rfl)
theorem dX0_isToldByWindow_19 : decode cX0_isToldByWindow 19 = .ok (.astore_n 3, 1) := dk_78 (dk_at dksX0_isToldByWindow_0 19 rfl rfl)
theorem dX0_isToldByWindow_20 : decode cX0_isToldByWindow 20 = .ok (.iconst 1, 1) := dk_4 (dk_at dksX0_isToldByWindow_0 20 rfl rfl)
theorem dX0_isToldByWindow_21 : decode cX0_isToldByWindow 21 = .ok (.ireturn, 1) := dk_172 (dk_at dksX0_isToldByWindow_0 21 rfl rfl)
theorem dX0_isToldByWindow_22 : decode cX0_isToldByWindow 22 = .ok (.iconst 0, 1) := dk_3 (dk_at dksX0_isToldByWindow_0 22 rfl rfl)
theorem dX0_isToldByWindow_23 : decode cX0_isToldByWindow 23 = .ok (.ireturn, 1) := dk_172 (dk_at dksX0_isToldByWindow_0 23 rfl rfl)
abbrev cX0_toldAt : ByteArray := method_26_code
def yX0_toldAt : MethodName := ⟨RX0, "toldAt", "(LOfferSky;I[J)I"⟩
def dkwX0_toldAt_0 : List UInt8 := [44, 3, 42, 27, 182, 0, 92, 133, 80, 167, 0, 6, 78, 4, 172, 3, 172]
abbrev dktX0_toldAt_0 : List UInt8 := dkwX0_toldAt_0 ++ []
theorem dksX0_toldAt_0 : cX0_toldAt.data.toList.drop 0 = dktX0_toldAt_0 := by decide +kernel
theorem dX0_toldAt_0 : decode cX0_toldAt 0 = .ok (.aload_n 2, 1) := dk_44 (dk_at dksX0_toldAt_0 0 rfl rfl)
theorem dX0_toldAt_1 : decode cX0_toldAt 1 = .ok (.iconst 0, 1) := dk_3 (dk_at dksX0_toldAt_0 1 rfl rfl)
theorem dX0_toldAt_2 : decode cX0_toldAt 2 = .ok (.aload_n 0, 1) := dk_42 (dk_at dksX0_toldAt_0 2 rfl rfl)
theorem dX0_toldAt_3 : decode cX0_toldAt 3 = .ok (.iload_n 1, 1) := dk_27 (dk_at dksX0_toldAt_0 3 rfl rfl)
theorem dX0_toldAt_4 : decode cX0_toldAt 4 = .ok (.invokevirtual 92, 3) := dk_182 0 92 (dk_at dksX0_toldAt_0 4 rfl rfl)
theorem dX0_toldAt_7 : decode cX0_toldAt 7 = .ok (.i2l, 1) := dk_133 (dk_at dksX0_toldAt_0 7 rfl rfl)
theorem dX0_toldAt_8 : decode cX0_toldAt 8 = .ok (.lastore, 1) := dk_80 (dk_at dksX0_toldAt_0 8 rfl rfl)
theorem dX0_toldAt_9 : decode cX0_toldAt 9 = .ok (.goto 6, 3) := dk_167 0 6 (dk_at dksX0_toldAt_0 9 rfl rfl)
theorem dX0_toldAt_12 : decode cX0_toldAt 12 = .ok (.astore_n 3, 1) := dk_78 (dk_at dksX0_toldAt_0 12 rfl rfl)
theorem dX0_toldAt_13 : decode cX0_toldAt 13 = .ok (.iconst 1, 1) := dk_4 (dk_at dksX0_toldAt_0 13 rfl rfl)
theorem dX0_toldAt_14 : decode cX0_toldAt 14 = .ok (.ireturn, 1) := dk_172 (dk_at dksX0_toldAt_0 14 rfl rfl)
theorem dX0_toldAt_15 : decode cX0_toldAt 15 = .ok (.iconst 0, 1) := dk_3 (dk_at dksX0_toldAt_0 15 rfl rfl)
theorem dX0_toldAt_16 : decode cX0_toldAt 16 = .ok (.ireturn, 1) := dk_172 (dk_at dksX0_toldAt_0 16 rfl rfl)
abbrev cX0_layerByPeeling : ByteArray := method_27_code
def yX0_layerByPeeling : MethodName := ⟨RX0, "layerByPeeling", "(LOfferSky;I[J)I"⟩
def dkwX0_layerByPeeling_0 : List UInt8 := [44, 3, 42, 27, 182, 0, 95, 133, 80, 167, 0, 6, 78, 4, 172, 3, 172]
abbrev dktX0_layerByPeeling_0 : List UInt8 := dkwX0_layerByPeeling_0 ++ []
theorem dksX0_layerByPeeling_0 : cX0_layerByPeeling.data.toList.drop 0 = dktX0_layerByPeeling_0 := by decide +kernel
theorem dX0_layerByPeeling_0 : decode cX0_layerByPeeling 0 = .ok (.aload_n 2, 1) := dk_44 (dk_at dksX0_layerByPeeling_0 0 rfl rfl)
theorem dX0_layerByPeeling_1 : decode cX0_layerByPeeling 1 = .ok (.iconst 0, 1) := dk_3 (dk_at dksX0_layerByPeeling_0 1 rfl rfl)
theorem dX0_layerByPeeling_2 : decode cX0_layerByPeeling 2 = .ok (.aload_n 0, 1) := dk_42 (dk_at dksX0_layerByPeeling_0 2 rfl rfl)
theorem dX0_layerByPeeling_3 : decode cX0_layerByPeeling 3 = .ok (.iload_n 1, 1) := dk_27 (dk_at dksX0_layerByPeeling_0 3 rfl rfl)
theorem dX0_layerByPeeling_4 : decode cX0_layerByPeeling 4 = .ok (.invokevirtual 95, 3) := dk_182 0 95 (dk_at dksX0_layerByPeeling_0 4 rfl rfl)
theorem dX0_layerByPeeling_7 : decode cX0_layerByPeeling 7 = .ok (.i2l, 1) := dk_133 (dk_at dksX0_layerByPeeling_0 7 rfl rfl)
theorem dX0_layerByPeeling_8 : decode cX0_layerByPeeling 8 = .ok (.lastore, 1) := dk_80 (dk_at dksX0_layerByPeeling_0 8 rfl rfl)
theorem dX0_layerByPeeling_9 : decode cX0_layerByPeeling 9 = .ok (.goto 6, 3) := dk_167 0 6 (dk_at dksX0_layerByPeeling_0 9 rfl rfl)
theorem dX0_layerByPeeling_12 : decode cX0_layerByPeeling 12 = .ok (.astore_n 3, 1) := dk_78 (dk_at dksX0_layerByPeeling_0 12 rfl rfl)
theorem dX0_layerByPeeling_13 : decode cX0_layerByPeeling 13 = .ok (.iconst 1, 1) := dk_4 (dk_at dksX0_layerByPeeling_0 13 rfl rfl)
theorem dX0_layerByPeeling_14 : decode cX0_layerByPeeling 14 = .ok (.ireturn, 1) := dk_172 (dk_at dksX0_layerByPeeling_0 14 rfl rfl)
theorem dX0_layerByPeeling_15 : decode cX0_layerByPeeling 15 = .ok (.iconst 0, 1) := dk_3 (dk_at dksX0_layerByPeeling_0 15 rfl rfl)
theorem dX0_layerByPeeling_16 : decode cX0_layerByPeeling 16 = .ok (.ireturn, 1) := dk_172 (dk_at dksX0_layerByPeeling_0 16 rfl rfl)
abbrev cX0_layerByRows : ByteArray := method_28_code
def yX0_layerByRows : MethodName := ⟨RX0, "layerByRows", "(LOfferSky;I[J)I"⟩
def dkwX0_layerByRows_0 : List UInt8 := [44, 3, 42, 27, 182, 0, 98, 133, 80, 167, 0, 6, 78, 4, 172, 3, 172]
abbrev dktX0_layerByRows_0 : List UInt8 := dkwX0_layerByRows_0 ++ []
theorem dksX0_layerByRows_0 : cX0_layerByRows.data.toList.drop 0 = dktX0_layerByRows_0 := by decide +kernel
theorem dX0_layerByRows_0 : decode cX0_layerByRows 0 = .ok (.aload_n 2, 1) := dk_44 (dk_at dksX0_layerByRows_0 0 rfl rfl)
theorem dX0_layerByRows_1 : decode cX0_layerByRows 1 = .ok (.iconst 0, 1) := dk_3 (dk_at dksX0_layerByRows_0 1 rfl rfl)
theorem dX0_layerByRows_2 : decode cX0_layerByRows 2 = .ok (.aload_n 0, 1) := dk_42 (dk_at dksX0_layerByRows_0 2 rfl rfl)
theorem dX0_layerByRows_3 : decode cX0_layerByRows 3 = .ok (.iload_n 1, 1) := dk_27 (dk_at dksX0_layerByRows_0 3 rfl rfl)
theorem dX0_layerByRows_4 : decode cX0_layerByRows 4 = .ok (.invokevirtual 98, 3) := dk_182 0 98 (dk_at dksX0_layerByRows_0 4 rfl rfl)
theorem dX0_layerByRows_7 : decode cX0_layerByRows 7 = .ok (.i2l, 1) := dk_133 (dk_at dksX0_layerByRows_0 7 rfl rfl)
theorem dX0_layerByRows_8 : decode cX0_layerByRows 8 = .ok (.lastore, 1) := dk_80 (dk_at dksX0_layerByRows_0 8 rfl rfl)
theorem dX0_layerByRows_9 : decode cX0_layerByRows 9 = .ok (.goto 6, 3) := dk_167 0 6 (dk_at dksX0_layerByRows_0 9 rfl rfl)
theorem dX0_layerByRows_12 : decode cX0_layerByRows 12 = .ok (.astore_n 3, 1) := dk_78 (dk_at dksX0_layerByRows_0 12 rfl rfl)
theorem dX0_layerByRows_13 : decode cX0_layerByRows 13 = .ok (.iconst 1, 1) := dk_4 (dk_at dksX0_layerByRows_0 13 rfl rfl)
theorem dX0_layerByRows_14 : decode cX0_layerByRows 14 = .ok (.ireturn, 1) := dk_172 (dk_at dksX0_layerByRows_0 14 rfl rfl)
theorem dX0_layerByRows_15 : decode cX0_layerByRows 15 = .ok (.iconst 0, 1) := dk_3 (dk_at dksX0_layerByRows_0 15 rfl rfl)
theorem dX0_layerByRows_16 : decode cX0_layerByRows 16 = .ok (.ireturn, 1) := dk_172 (dk_at dksX0_layerByRows_0 16 rfl rfl)
abbrev cX0_inLayer : ByteArray := method_29_code
def yX0_inLayer : MethodName := ⟨RX0, "inLayer", "(LOfferSky;I[J)I"⟩
def dkwX0_inLayer_0 : List UInt8 := [44, 3, 42, 27, 182, 0, 101, 133, 80, 167, 0, 6, 78, 4, 172, 3, 172]
abbrev dktX0_inLayer_0 : List UInt8 := dkwX0_inLayer_0 ++ []
theorem dksX0_inLayer_0 : cX0_inLayer.data.toList.drop 0 = dktX0_inLayer_0 := by decide +kernel
theorem dX0_inLayer_0 : decode cX0_inLayer 0 = .ok (.aload_n 2, 1) := dk_44 (dk_at dksX0_inLayer_0 0 rfl rfl)
theorem dX0_inLayer_1 : decode cX0_inLayer 1 = .ok (.iconst 0, 1) := dk_3 (dk_at dksX0_inLayer_0 1 rfl rfl)
theorem dX0_inLayer_2 : decode cX0_inLayer 2 = .ok (.aload_n 0, 1) := dk_42 (dk_at dksX0_inLayer_0 2 rfl rfl)
theorem dX0_inLayer_3 : decode cX0_inLayer 3 = .ok (.iload_n 1, 1) := dk_27 (dk_at dksX0_inLayer_0 3 rfl rfl)
theorem dX0_inLayer_4 : decode cX0_inLayer 4 = .ok (.invokevirtual 101, 3) := dk_182 0 101 (dk_at dksX0_inLayer_0 4 rfl rfl)
theorem dX0_inLayer_7 : decode cX0_inLayer 7 = .ok (.i2l, 1) := dk_133 (dk_at dksX0_inLayer_0 7 rfl rfl)
theorem dX0_inLayer_8 : decode cX0_inLayer 8 = .ok (.lastore, 1) := dk_80 (dk_at dksX0_inLayer_0 8 rfl rfl)
theorem dX0_inLayer_9 : decode cX0_inLayer 9 = .ok (.goto 6, 3) := dk_167 0 6 (dk_at dksX0_inLayer_0 9 rfl rfl)
theorem dX0_inLayer_12 : decode cX0_inLayer 12 = .ok (.astore_n 3, 1) := dk_78 (dk_at dksX0_inLayer_0 12 rfl rfl)
theorem dX0_inLayer_13 : decode cX0_inLayer 13 = .ok (.iconst 1, 1) := dk_4 (dk_at dksX0_inLayer_0 13 rfl rfl)
theorem dX0_inLayer_14 : decode cX0_inLayer 14 = .ok (.ireturn, 1) := dk_172 (dk_at dksX0_inLayer_0 14 rfl rfl)
theorem dX0_inLayer_15 : decode cX0_inLayer 15 = .ok (.iconst 0, 1) := dk_3 (dk_at dksX0_inLayer_0 15 rfl rfl)
theorem dX0_inLayer_16 : decode cX0_inLayer 16 = .ok (.ireturn, 1) := dk_172 (dk_at dksX0_inLayer_0 16 rfl rfl)
abbrev cX0_toldOn : ByteArray := method_30_code
def yX0_toldOn : MethodName := ⟨RX0, "toldOn", "(LOfferSky;I[J)I"⟩
def dkwX0_toldOn_0 : List UInt8 := [44, 3, 42, 27, 182, 0, 104, 133, 80, 167, 0, 6, 78, 4, 172, 3, 172]
abbrev dktX0_toldOn_0 : List UInt8 := dkwX0_toldOn_0 ++ []
theorem dksX0_toldOn_0 : cX0_toldOn.data.toList.drop 0 = dktX0_toldOn_0 := by decide +kernel
theorem dX0_toldOn_0 : decode cX0_toldOn 0 = .ok (.aload_n 2, 1) := dk_44 (dk_at dksX0_toldOn_0 0 rfl rfl)
theorem dX0_toldOn_1 : decode cX0_toldOn 1 = .ok (.iconst 0, 1) := dk_3 (dk_at dksX0_toldOn_0 1 rfl rfl)
theorem dX0_toldOn_2 : decode cX0_toldOn 2 = .ok (.aload_n 0, 1) := dk_42 (dk_at dksX0_toldOn_0 2 rfl rfl)
theorem dX0_toldOn_3 : decode cX0_toldOn 3 = .ok (.iload_n 1, 1) := dk_27 (dk_at dksX0_toldOn_0 3 rfl rfl)
theorem dX0_toldOn_4 : decode cX0_toldOn 4 = .ok (.invokevirtual 104, 3) := dk_182 0 104 (dk_at dksX0_toldOn_0 4 rfl rfl)
theorem dX0_toldOn_7 : decode cX0_toldOn 7 = .ok (.i2l, 1) := dk_133 (dk_at dksX0_toldOn_0 7 rfl rfl)
theorem dX0_toldOn_8 : decode cX0_toldOn 8 = .ok (.lastore, 1) := dk_80 (dk_at dksX0_toldOn_0 8 rfl rfl)
theorem dX0_toldOn_9 : decode cX0_toldOn 9 = .ok (.goto 6, 3) := dk_167 0 6 (dk_at dksX0_toldOn_0 9 rfl rfl)
theorem dX0_toldOn_12 : decode cX0_toldOn 12 = .ok (.astore_n 3, 1) := dk_78 (dk_at dksX0_toldOn_0 12 rfl rfl)
theorem dX0_toldOn_13 : decode cX0_toldOn 13 = .ok (.iconst 1, 1) := dk_4 (dk_at dksX0_toldOn_0 13 rfl rfl)
theorem dX0_toldOn_14 : decode cX0_toldOn 14 = .ok (.ireturn, 1) := dk_172 (dk_at dksX0_toldOn_0 14 rfl rfl)
theorem dX0_toldOn_15 : decode cX0_toldOn 15 = .ok (.iconst 0, 1) := dk_3 (dk_at dksX0_toldOn_0 15 rfl rfl)
theorem dX0_toldOn_16 : decode cX0_toldOn 16 = .ok (.ireturn, 1) := dk_172 (dk_at dksX0_toldOn_0 16 rfl rfl)
abbrev cX0_setsFor : ByteArray := method_31_code
def yX0_setsFor : MethodName := ⟨RX0, "setsFor", "(LOfferSky;I[J)I"⟩
def dkwX0_setsFor_0 : List UInt8 := [44, 3, 42, 27, 182, 0, 107, 133, 80, 167, 0, 6, 78, 4, 172, 3, 172]
abbrev dktX0_setsFor_0 : List UInt8 := dkwX0_setsFor_0 ++ []
theorem dksX0_setsFor_0 : cX0_setsFor.data.toList.drop 0 = dktX0_setsFor_0 := by decide +kernel
theorem dX0_setsFor_0 : decode cX0_setsFor 0 = .ok (.aload_n 2, 1) := dk_44 (dk_at dksX0_setsFor_0 0 rfl rfl)
theorem dX0_setsFor_1 : decode cX0_setsFor 1 = .ok (.iconst 0, 1) := dk_3 (dk_at dksX0_setsFor_0 1 rfl rfl)
theorem dX0_setsFor_2 : decode cX0_setsFor 2 = .ok (.aload_n 0, 1) := dk_42 (dk_at dksX0_setsFor_0 2 rfl rfl)
theorem dX0_setsFor_3 : decode cX0_setsFor 3 = .ok (.iload_n 1, 1) := dk_27 (dk_at dksX0_setsFor_0 3 rfl rfl)
theorem dX0_setsFor_4 : decode cX0_setsFor 4 = .ok (.invokevirtual 107, 3) := dk_182 0 107 (dk_at dksX0_setsFor_0 4 rfl rfl)
theorem dX0_setsFor_7 : decode cX0_setsFor 7 = .ok (.i2l, 1) := dk_133 (dk_at dksX0_setsFor_0 7 rfl rfl)
theorem dX0_setsFor_8 : decode cX0_setsFor 8 = .ok (.lastore, 1) := dk_80 (dk_at dksX0_setsFor_0 8 rfl rfl)
theorem dX0_setsFor_9 : decode cX0_setsFor 9 = .ok (.goto 6, 3) := dk_167 0 6 (dk_at dksX0_setsFor_0 9 rfl rfl)
theorem dX0_setsFor_12 : decode cX0_setsFor 12 = .ok (.astore_n 3, 1) := dk_78 (dk_at dksX0_setsFor_0 12 rfl rfl)
theorem dX0_setsFor_13 : decode cX0_setsFor 13 = .ok (.iconst 1, 1) := dk_4 (dk_at dksX0_setsFor_0 13 rfl rfl)
theorem dX0_setsFor_14 : decode cX0_setsFor 14 = .ok (.ireturn, 1) := dk_172 (dk_at dksX0_setsFor_0 14 rfl rfl)
theorem dX0_setsFor_15 : decode cX0_setsFor 15 = .ok (.iconst 0, 1) := dk_3 (dk_at dksX0_setsFor_0 15 rfl rfl)
theorem dX0_setsFor_16 : decode cX0_setsFor 16 = .ok (.ireturn, 1) := dk_172 (dk_at dksX0_setsFor_0 16 rfl rfl)
abbrev cX0_toldWeakly : ByteArray := method_32_code
def yX0_toldWeakly : MethodName := ⟨RX0, "toldWeakly", "(LOfferSky;I[J)I"⟩
def dkwX0_toldWeakly_0 : List UInt8 := [44, 3, 42, 27, 182, 0, 110, 133, 80, 167, 0, 6, 78, 4, 172, 3, 172]
abbrev dktX0_toldWeakly_0 : List UInt8 := dkwX0_toldWeakly_0 ++ []
theorem dksX0_toldWeakly_0 : cX0_toldWeakly.data.toList.drop 0 = dktX0_toldWeakly_0 := by decide +kernel
theorem dX0_toldWeakly_0 : decode cX0_toldWeakly 0 = .ok (.aload_n 2, 1) := dk_44 (dk_at dksX0_toldWeakly_0 0 rfl rfl)
theorem dX0_toldWeakly_1 : decode cX0_toldWeakly 1 = .ok (.iconst 0, 1) := dk_3 (dk_at dksX0_toldWeakly_0 1 rfl rfl)
theorem dX0_toldWeakly_2 : decode cX0_toldWeakly 2 = .ok (.aload_n 0, 1) := dk_42 (dk_at dksX0_toldWeakly_0 2 rfl rfl)
theorem dX0_toldWeakly_3 : decode cX0_toldWeakly 3 = .ok (.iload_n 1, 1) := dk_27 (dk_at dksX0_toldWeakly_0 3 rfl rfl)
theorem dX0_toldWeakly_4 : decode cX0_toldWeakly 4 = .ok (.invokevirtual 110, 3) := dk_182 0 110 (dk_at dksX0_toldWeakly_0 4 rfl rfl)
theorem dX0_toldWeakly_7 : decode cX0_toldWeakly 7 = .ok (.i2l, 1) := dk_133 (dk_at dksX0_toldWeakly_0 7 rfl rfl)
theorem dX0_toldWeakly_8 : decode cX0_toldWeakly 8 = .ok (.lastore, 1) := dk_80 (dk_at dksX0_toldWeakly_0 8 rfl rfl)
theorem dX0_toldWeakly_9 : decode cX0_toldWeakly 9 = .ok (.goto 6, 3) := dk_167 0 6 (dk_at dksX0_toldWeakly_0 9 rfl rfl)
theorem dX0_toldWeakly_12 : decode cX0_toldWeakly 12 = .ok (.astore_n 3, 1) := dk_78 (dk_at dksX0_toldWeakly_0 12 rfl rfl)
theorem dX0_toldWeakly_13 : decode cX0_toldWeakly 13 = .ok (.iconst 1, 1) := dk_4 (dk_at dksX0_toldWeakly_0 13 rfl rfl)
theorem dX0_toldWeakly_14 : decode cX0_toldWeakly 14 = .ok (.ireturn, 1) := dk_172 (dk_at dksX0_toldWeakly_0 14 rfl rfl)
theorem dX0_toldWeakly_15 : decode cX0_toldWeakly 15 = .ok (.iconst 0, 1) := dk_3 (dk_at dksX0_toldWeakly_0 15 rfl rfl)
theorem dX0_toldWeakly_16 : decode cX0_toldWeakly 16 = .ok (.ireturn, 1) := dk_172 (dk_at dksX0_toldWeakly_0 16 rfl rfl)
abbrev cX0_wouldBeTold : ByteArray := method_33_code
def yX0_wouldBeTold : MethodName := ⟨RX0, "wouldBeTold", "(LOfferSky;IIII[J)I"⟩
def dkwX0_wouldBeTold_1 : List UInt8 := [58, 6, 4, 172, 3, 172]
abbrev dktX0_wouldBeTold_1 : List UInt8 := dkwX0_wouldBeTold_1 ++ []
def dkwX0_wouldBeTold_0 : List UInt8 := [25, 5, 3, 42, 27, 28, 29, 21, 4, 182, 0, 113, 153, 0, 7, 10, 167, 0, 4, 9, 80, 167, 0, 7]
abbrev dktX0_wouldBeTold_0 : List UInt8 := dkwX0_wouldBeTold_0 ++ dktX0_wouldBeTold_1
theorem dksX0_wouldBeTold_0 : cX0_wouldBeTold.data.toList.drop 0 = dktX0_wouldBeTold_0 := by decide +kernel
theorem dksX0_wouldBeTold_1 : cX0_wouldBeTold.data.toList.drop 24 = dktX0_wouldBeTold_1 := dk_seg dksX0_wouldBeTold_0 24 rfl rfl
theorem dX0_wouldBeTold_0 : decode cX0_wouldBeTold 0 = .ok (.aload 5, 2) := dk_25 5 (dk_at dksX0_wouldBeTold_0 0 rfl rfl)
theorem dX0_wouldBeTold_2 : decode cX0_wouldBeTold 2 = .ok (.iconst 0, 1) := dk_3 (dk_at dksX0_wouldBeTold_0 2 rfl rfl)
theorem dX0_wouldBeTold_3 : decode cX0_wouldBeTold 3 = .ok (.aload_n 0, 1) := dk_42 (dk_at dksX0_wouldBeTold_0 3 rfl rfl)
theorem dX0_wouldBeTold_4 : decode cX0_wouldBeTold 4 = .ok (.iload_n 1, 1) := dk_27 (dk_at dksX0_wouldBeTold_0 4 rfl rfl)
theorem dX0_wouldBeTold_5 : decode cX0_wouldBeTold 5 = .ok (.iload_n 2, 1) := dk_28 (dk_at dksX0_wouldBeTold_0 5 rfl rfl)
theorem dX0_wouldBeTold_6 : decode cX0_wouldBeTold 6 = .ok (.iload_n 3, 1) := dk_29 (dk_at dksX0_wouldBeTold_0 6 rfl rfl)
theorem dX0_wouldBeTold_7 : decode cX0_wouldBeTold 7 = .ok (.iload 4, 2) := dk_21 4 (dk_at dksX0_wouldBeTold_0 7 rfl rfl)
theorem dX0_wouldBeTold_9 : decode cX0_wouldBeTold 9 = .ok (.invokevirtual 113, 3) := dk_182 0 113 (dk_at dksX0_wouldBeTold_0 9 rfl rfl)
theorem dX0_wouldBeTold_12 : decode cX0_wouldBeTold 12 = .ok (.ifCond .eq 7, 3) := dk_153 0 7 (dk_at dksX0_wouldBeTold_0 12 rfl rfl)
theorem dX0_wouldBeTold_15 : decode cX0_wouldBeTold 15 = .ok (.lconst 1, 1) := dk_10 (dk_at dksX0_wouldBeTold_0 15 rfl rfl)
theorem dX0_wouldBeTold_16 : decode cX0_wouldBeTold 16 = .ok (.goto 4, 3) := dk_167 0 4 (dk_at dksX0_wouldBeTold_0 16 rfl rfl)
theorem dX0_wouldBeTold_19 : decode cX0_wouldBeTold 19 = .ok (.lconst 0, 1) := dk_9 (dk_at dksX0_wouldBeTold_0 19 rfl rfl)
theorem dX0_wouldBeTold_20 : decode cX0_wouldBeTold 20 = .ok (.lastore, 1) := dk_80 (dk_at dksX0_wouldBeTold_0 20 rfl rfl)
theorem dX0_wouldBeTold_21 : decode cX0_wouldBeTold 21 = .ok (.goto 7, 3) := dk_167 0 7 (dk_at dksX0_wouldBeTold_0 21 rfl rfl)
theorem dX0_wouldBeTold_24 : decode cX0_wouldBeTold 24 = .ok (.astore 6, 2) := dk_58 6 (dk_at dksX0_wouldBeTold_1 0 rfl rfl)
theorem dX0_wouldBeTold_26 : decode cX0_wouldBeTold 26 = .ok (.iconst 1, 1) := dk_4 (dk_at dksX0_wouldBeTold_1 2 rfl rfl)
theorem dX0_wouldBeTold_27 : decode cX0_wouldBeTold 27 = .ok (.ireturn, 1) := dk_172 (dk_at dksX0_wouldBeTold_1 3 rfl rfl)
theorem dX0_wouldBeTold_28 : decode cX0_wouldBeTold 28 = .ok (.iconst 0, 1) := dk_3 (dk_at dksX0_wouldBeTold_1 4 rfl rfl)
theorem dX0_wouldBeTold_29 : decode cX0_wouldBeTold 29 = .ok (.ireturn, 1) := dk_172 (dk_at dksX0_wouldBeTold_1 5 rfl rfl)
abbrev cX0_wouldBeat : ByteArray := method_34_code
def yX0_wouldBeat : MethodName := ⟨RX0, "wouldBeat", "(LOfferSky;IIII[J)I"⟩
def dkwX0_wouldBeat_0 : List UInt8 := [25, 5, 3, 42, 27, 28, 29, 21, 4, 182, 0, 117, 133, 80, 167, 0, 7, 58, 6, 4, 172, 3, 172]
abbrev dktX0_wouldBeat_0 : List UInt8 := dkwX0_wouldBeat_0 ++ []
theorem dksX0_wouldBeat_0 : cX0_wouldBeat.data.toList.drop 0 = dktX0_wouldBeat_0 := by decide +kernel
theorem dX0_wouldBeat_0 : decode cX0_wouldBeat 0 = .ok (.aload 5, 2) := dk_25 5 (dk_at dksX0_wouldBeat_0 0 rfl rfl)
theorem dX0_wouldBeat_2 : decode cX0_wouldBeat 2 = .ok (.iconst 0, 1) := dk_3 (dk_at dksX0_wouldBeat_0 2 rfl rfl)
theorem dX0_wouldBeat_3 : decode cX0_wouldBeat 3 = .ok (.aload_n 0, 1) := dk_42 (dk_at dksX0_wouldBeat_0 3 rfl rfl)
theorem dX0_wouldBeat_4 : decode cX0_wouldBeat 4 = .ok (.iload_n 1, 1) := dk_27 (dk_at dksX0_wouldBeat_0 4 rfl rfl)
theorem dX0_wouldBeat_5 : decode cX0_wouldBeat 5 = .ok (.iload_n 2, 1) := dk_28 (dk_at dksX0_wouldBeat_0 5 rfl rfl)
theorem dX0_wouldBeat_6 : decode cX0_wouldBeat 6 = .ok (.iload_n 3, 1) := dk_29 (dk_at dksX0_wouldBeat_0 6 rfl rfl)
theorem dX0_wouldBeat_7 : decode cX0_wouldBeat 7 = .ok (.iload 4, 2) := dk_21 4 (dk_at dksX0_wouldBeat_0 7 rfl rfl)
theorem dX0_wouldBeat_9 : decode cX0_wouldBeat 9 = .ok (.invokevirtual 117, 3) := dk_182 0 117 (dk_at dksX0_wouldBeat_0 9 rfl rfl)
theorem dX0_wouldBeat_12 : decode cX0_wouldBeat 12 = .ok (.i2l, 1) := dk_133 (dk_at dksX0_wouldBeat_0 12 rfl rfl)
theorem dX0_wouldBeat_13 : decode cX0_wouldBeat 13 = .ok (.lastore, 1) := dk_80 (dk_at dksX0_wouldBeat_0 13 rfl rfl)
theorem dX0_wouldBeat_14 : decode cX0_wouldBeat 14 = .ok (.goto 7, 3) := dk_167 0 7 (dk_at dksX0_wouldBeat_0 14 rfl rfl)
theorem dX0_wouldBeat_17 : decode cX0_wouldBeat 17 = .ok (.astore 6, 2) := dk_58 6 (dk_at dksX0_wouldBeat_0 17 rfl rfl)
theorem dX0_wouldBeat_19 : decode cX0_wouldBeat 19 = .ok (.iconst 1, 1) := dk_4 (dk_at dksX0_wouldBeat_0 19 rfl rfl)
theorem dX0_wouldBeat_20 : decode cX0_wouldBeat 20 = .ok (.ireturn, 1) := dk_172 (dk_at dksX0_wouldBeat_0 20 rfl rfl)
theorem dX0_wouldBeat_21 : decode cX0_wouldBeat 21 = .ok (.iconst 0, 1) := dk_3 (dk_at dksX0_wouldBeat_0 21 rfl rfl)
theorem dX0_wouldBeat_22 : decode cX0_wouldBeat 22 = .ok (.ireturn, 1) := dk_172 (dk_at dksX0_wouldBeat_0 22 rfl rfl)
abbrev cX0_raiseByTrying : ByteArray := method_35_code
def yX0_raiseByTrying : MethodName := ⟨RX0, "raiseByTrying", "(LOfferSky;II[J)I"⟩
def dkwX0_raiseByTrying_0 : List UInt8 := [45, 3, 42, 27, 28, 182, 0, 120, 133, 80, 167, 0, 11, 58, 4, 4, 172, 58, 4, 5, 172, 3, 172]
abbrev dktX0_raiseByTrying_0 : List UInt8 := dkwX0_raiseByTrying_0 ++ []
theorem dksX0_raiseByTrying_0 : cX0_raiseByTrying.data.toList.drop 0 = dktX0_raiseByTrying_0 := by decide +kernel
theorem dX0_raiseByTrying_0 : decode cX0_raiseByTrying 0 = .ok (.aload_n 3, 1) := dk_45 (dk_at dksX0_raiseByTrying_0 0 rfl rfl)
theorem dX0_raiseByTrying_1 : decode cX0_raiseByTrying 1 = .ok (.iconst 0, 1) := dk_3 (dk_at dksX0_raiseByTrying_0 1 rfl rfl)
theorem dX0_raiseByTrying_2 : decode cX0_raiseByTrying 2 = .ok (.aload_n 0, 1) := dk_42 (dk_at dksX0_raiseByTrying_0 2 rfl rfl)
theorem dX0_raiseByTrying_3 : decode cX0_raiseByTrying 3 = .ok (.iload_n 1, 1) := dk_27 (dk_at dksX0_raiseByTrying_0 3 rfl rfl)
theorem dX0_raiseByTrying_4 : decode cX0_raiseByTrying 4 = .ok (.iload_n 2, 1) := dk_28 (dk_at dksX0_raiseByTrying_0 4 rfl rfl)
theorem dX0_raiseByTrying_5 : decode cX0_raiseByTrying 5 = .ok (.invokevirtual 120, 3) := dk_182 0 120 (dk_at dksX0_raiseByTrying_0 5 rfl rfl)
theorem dX0_raiseByTrying_8 : decode cX0_raiseByTrying 8 = .ok (.i2l, 1) := dk_133 (dk_at dksX0_raiseByTrying_0 8 rfl rfl)
theorem dX0_raiseByTrying_9 : decode cX0_raiseByTrying 9 = .ok (.lastore, 1) := dk_80 (dk_at dksX0_raiseByTrying_0 9 rfl rfl)
theorem dX0_raiseByTrying_10 : decode cX0_raiseByTrying 10 = .ok (.goto 11, 3) := dk_167 0 11 (dk_at dksX0_raiseByTrying_0 10 rfl rfl)
theorem dX0_raiseByTrying_13 : decode cX0_raiseByTrying 13 = .ok (.astore 4, 2) := dk_58 4 (dk_at dksX0_raiseByTrying_0 13 rfl rfl)
theorem dX0_raiseByTrying_15 : decode cX0_raiseByTrying 15 = .ok (.iconst 1, 1) := dk_4 (dk_at dksX0_raiseByTrying_0 15 rfl rfl)
theorem dX0_raiseByTrying_16 : decode cX0_raiseByTrying 16 = .ok (.ireturn, 1) := dk_172 (dk_at dksX0_raiseByTrying_0 16 rfl rfl)
theorem dX0_raiseByTrying_17 : decode cX0_raiseByTrying 17 = .ok (.astore 4, 2) := dk_58 4 (dk_at dksX0_raiseByTrying_0 17 rfl rfl)
theorem dX0_raiseByTrying_19 : decode cX0_raiseByTrying 19 = .ok (.iconst 2, 1) := dk_5 (dk_at dksX0_raiseByTrying_0 19 rfl rfl)
theorem dX0_raiseByTrying_20 : decode cX0_raiseByTrying 20 = .ok (.ireturn, 1) := dk_172 (dk_at dksX0_raiseByTrying_0 20 rfl rfl)
theorem dX0_raiseByTrying_21 : decode cX0_raiseByTrying 21 = .ok (.iconst 0, 1) := dk_3 (dk_at dksX0_raiseByTrying_0 21 rfl rfl)
theorem dX0_raiseByTrying_22 : decode cX0_raiseByTrying 22 = .ok (.ireturn, 1) := dk_172 (dk_at dksX0_raiseByTrying_0 22 rfl rfl)
abbrev cX0_raiseByBeaters : ByteArray := method_36_code
def yX0_raiseByBeaters : MethodName := ⟨RX0, "raiseByBeaters", "(LOfferSky;II[J)I"⟩
def dkwX0_raiseByBeaters_0 : List UInt8 := [45, 3, 42, 27, 28, 182, 0, 123, 133, 80, 167, 0, 11, 58, 4, 4, 172, 58, 4, 5, 172, 3, 172]
abbrev dktX0_raiseByBeaters_0 : List UInt8 := dkwX0_raiseByBeaters_0 ++ []
theorem dksX0_raiseByBeaters_0 : cX0_raiseByBeaters.data.toList.drop 0 = dktX0_raiseByBeaters_0 := by decide +kernel
theorem dX0_raiseByBeaters_0 : decode cX0_raiseByBeaters 0 = .ok (.aload_n 3, 1) := dk_45 (dk_at dksX0_raiseByBeaters_0 0 rfl rfl)
theorem dX0_raiseByBeaters_1 : decode cX0_raiseByBeaters 1 = .ok (.iconst 0, 1) := dk_3 (dk_at dksX0_raiseByBeaters_0 1 rfl rfl)
theorem dX0_raiseByBeaters_2 : decode cX0_raiseByBeaters 2 = .ok (.aload_n 0, 1) := dk_42 (dk_at dksX0_raiseByBeaters_0 2 rfl rfl)
theorem dX0_raiseByBeaters_3 : decode cX0_raiseByBeaters 3 = .ok (.iload_n 1, 1) := dk_27 (dk_at dksX0_raiseByBeaters_0 3 rfl rfl)
theorem dX0_raiseByBeaters_4 : decode cX0_raiseByBeaters 4 = .ok (.iload_n 2, 1) := dk_28 (dk_at dksX0_raiseByBeaters_0 4 rfl rfl)
theorem dX0_raiseByBeaters_5 : decode cX0_raiseByBeaters 5 = .ok (.invokevirtual 123, 3) := dk_182 0 123 (dk_at dksX0_raiseByBeaters_0 5 rfl rfl)
theorem dX0_raiseByBeaters_8 : decode cX0_raiseByBeaters 8 = .ok (.i2l, 1) := dk_133 (dk_at dksX0_raiseByBeaters_0 8 rfl rfl)
theorem dX0_raiseByBeaters_9 : decode cX0_raiseByBeaters 9 = .ok (.lastore, 1) := dk_80 (dk_at dksX0_raiseByBeaters_0 9 rfl rfl)
theorem dX0_raiseByBeaters_10 : decode cX0_raiseByBeaters 10 = .ok (.goto 11, 3) := dk_167 0 11 (dk_at dksX0_raiseByBeaters_0 10 rfl rfl)
theorem dX0_raiseByBeaters_13 : decode cX0_raiseByBeaters 13 = .ok (.astore 4, 2) := dk_58 4 (dk_at dksX0_raiseByBeaters_0 13 rfl rfl)
theorem dX0_raiseByBeaters_15 : decode cX0_raiseByBeaters 15 = .ok (.iconst 1, 1) := dk_4 (dk_at dksX0_raiseByBeaters_0 15 rfl rfl)
theorem dX0_raiseByBeaters_16 : decode cX0_raiseByBeaters 16 = .ok (.ireturn, 1) := dk_172 (dk_at dksX0_raiseByBeaters_0 16 rfl rfl)
theorem dX0_raiseByBeaters_17 : decode cX0_raiseByBeaters 17 = .ok (.astore 4, 2) := dk_58 4 (dk_at dksX0_raiseByBeaters_0 17 rfl rfl)
theorem dX0_raiseByBeaters_19 : decode cX0_raiseByBeaters 19 = .ok (.iconst 2, 1) := dk_5 (dk_at dksX0_raiseByBeaters_0 19 rfl rfl)
theorem dX0_raiseByBeaters_20 : decode cX0_raiseByBeaters 20 = .ok (.ireturn, 1) := dk_172 (dk_at dksX0_raiseByBeaters_0 20 rfl rfl)
theorem dX0_raiseByBeaters_21 : decode cX0_raiseByBeaters 21 = .ok (.iconst 0, 1) := dk_3 (dk_at dksX0_raiseByBeaters_0 21 rfl rfl)
theorem dX0_raiseByBeaters_22 : decode cX0_raiseByBeaters 22 = .ok (.ireturn, 1) := dk_172 (dk_at dksX0_raiseByBeaters_0 22 rfl rfl)
abbrev cX0_coveredGreedily : ByteArray := method_37_code
def yX0_coveredGreedily : MethodName := ⟨RX0, "coveredGreedily", "(LOfferSky;I[J)I"⟩
def dkwX0_coveredGreedily_0 : List UInt8 := [44, 3, 42, 27, 182, 0, 126, 133, 80, 167, 0, 6, 78, 4, 172, 3, 172]
abbrev dktX0_coveredGreedily_0 : List UInt8 := dkwX0_coveredGreedily_0 ++ []
theorem dksX0_coveredGreedily_0 : cX0_coveredGreedily.data.toList.drop 0 = dktX0_coveredGreedily_0 := by decide +kernel
theorem dX0_coveredGreedily_0 : decode cX0_coveredGreedily 0 = .ok (.aload_n 2, 1) := dk_44 (dk_at dksX0_coveredGreedily_0 0 rfl rfl)
theorem dX0_coveredGreedily_1 : decode cX0_coveredGreedily 1 = .ok (.iconst 0, 1) := dk_3 (dk_at dksX0_coveredGreedily_0 1 rfl rfl)
theorem dX0_coveredGreedily_2 : decode cX0_coveredGreedily 2 = .ok (.aload_n 0, 1) := dk_42 (dk_at dksX0_coveredGreedily_0 2 rfl rfl)
theorem dX0_coveredGreedily_3 : decode cX0_coveredGreedily 3 = .ok (.iload_n 1, 1) := dk_27 (dk_at dksX0_coveredGreedily_0 3 rfl rfl)
theorem dX0_coveredGreedily_4 : decode cX0_coveredGreedily 4 = .ok (.invokevirtual 126, 3) := dk_182 0 126 (dk_at dksX0_coveredGreedily_0 4 rfl rfl)
theorem dX0_coveredGreedily_7 : decode cX0_coveredGreedily 7 = .ok (.i2l, 1) := dk_133 (dk_at dksX0_coveredGreedily_0 7 rfl rfl)
theorem dX0_coveredGreedily_8 : decode cX0_coveredGreedily 8 = .ok (.lastore, 1) := dk_80 (dk_at dksX0_coveredGreedily_0 8 rfl rfl)
theorem dX0_coveredGreedily_9 : decode cX0_coveredGreedily 9 = .ok (.goto 6, 3) := dk_167 0 6 (dk_at dksX0_coveredGreedily_0 9 rfl rfl)
theorem dX0_coveredGreedily_12 : decode cX0_coveredGreedily 12 = .ok (.astore_n 3, 1) := dk_78 (dk_at dksX0_coveredGreedily_0 12 rfl rfl)
theorem dX0_coveredGreedily_13 : decode cX0_coveredGreedily 13 = .ok (.iconst 1, 1) := dk_4 (dk_at dksX0_coveredGreedily_0 13 rfl rfl)
theorem dX0_coveredGreedily_14 : decode cX0_coveredGreedily 14 = .ok (.ireturn, 1) := dk_172 (dk_at dksX0_coveredGreedily_0 14 rfl rfl)
theorem dX0_coveredGreedily_15 : decode cX0_coveredGreedily 15 = .ok (.iconst 0, 1) := dk_3 (dk_at dksX0_coveredGreedily_0 15 rfl rfl)
theorem dX0_coveredGreedily_16 : decode cX0_coveredGreedily 16 = .ok (.ireturn, 1) := dk_172 (dk_at dksX0_coveredGreedily_0 16 rfl rfl)
abbrev cX0_takenAt : ByteArray := method_38_code
def yX0_takenAt : MethodName := ⟨RX0, "takenAt", "(LOfferSky;I[J)I"⟩
def dkwX0_takenAt_0 : List UInt8 := [44, 3, 42, 27, 182, 0, 129, 133, 80, 167, 0, 6, 78, 4, 172, 3, 172]
abbrev dktX0_takenAt_0 : List UInt8 := dkwX0_takenAt_0 ++ []
theorem dksX0_takenAt_0 : cX0_takenAt.data.toList.drop 0 = dktX0_takenAt_0 := by decide +kernel
theorem dX0_takenAt_0 : decode cX0_takenAt 0 = .ok (.aload_n 2, 1) := dk_44 (dk_at dksX0_takenAt_0 0 rfl rfl)
theorem dX0_takenAt_1 : decode cX0_takenAt 1 = .ok (.iconst 0, 1) := dk_3 (dk_at dksX0_takenAt_0 1 rfl rfl)
theorem dX0_takenAt_2 : decode cX0_takenAt 2 = .ok (.aload_n 0, 1) := dk_42 (dk_at dksX0_takenAt_0 2 rfl rfl)
theorem dX0_takenAt_3 : decode cX0_takenAt 3 = .ok (.iload_n 1, 1) := dk_27 (dk_at dksX0_takenAt_0 3 rfl rfl)
theorem dX0_takenAt_4 : decode cX0_takenAt 4 = .ok (.invokevirtual 129, 3) := dk_182 0 129 (dk_at dksX0_takenAt_0 4 rfl rfl)
theorem dX0_takenAt_7 : decode cX0_takenAt 7 = .ok (.i2l, 1) := dk_133 (dk_at dksX0_takenAt_0 7 rfl rfl)
theorem dX0_takenAt_8 : decode cX0_takenAt 8 = .ok (.lastore, 1) := dk_80 (dk_at dksX0_takenAt_0 8 rfl rfl)
theorem dX0_takenAt_9 : decode cX0_takenAt 9 = .ok (.goto 6, 3) := dk_167 0 6 (dk_at dksX0_takenAt_0 9 rfl rfl)
theorem dX0_takenAt_12 : decode cX0_takenAt 12 = .ok (.astore_n 3, 1) := dk_78 (dk_at dksX0_takenAt_0 12 rfl rfl)
theorem dX0_takenAt_13 : decode cX0_takenAt 13 = .ok (.iconst 1, 1) := dk_4 (dk_at dksX0_takenAt_0 13 rfl rfl)
theorem dX0_takenAt_14 : decode cX0_takenAt 14 = .ok (.ireturn, 1) := dk_172 (dk_at dksX0_takenAt_0 14 rfl rfl)
theorem dX0_takenAt_15 : decode cX0_takenAt 15 = .ok (.iconst 0, 1) := dk_3 (dk_at dksX0_takenAt_0 15 rfl rfl)
theorem dX0_takenAt_16 : decode cX0_takenAt 16 = .ok (.ireturn, 1) := dk_172 (dk_at dksX0_takenAt_0 16 rfl rfl)
abbrev cX0_scoreOf : ByteArray := method_39_code
def yX0_scoreOf : MethodName := ⟨RX0, "scoreOf", "(LOfferSky;I[J)I"⟩
def dkwX0_scoreOf_0 : List UInt8 := [44, 3, 42, 27, 182, 0, 132, 133, 80, 167, 0, 6, 78, 4, 172, 3, 172]
abbrev dktX0_scoreOf_0 : List UInt8 := dkwX0_scoreOf_0 ++ []
theorem dksX0_scoreOf_0 : cX0_scoreOf.data.toList.drop 0 = dktX0_scoreOf_0 := by decide +kernel
theorem dX0_scoreOf_0 : decode cX0_scoreOf 0 = .ok (.aload_n 2, 1) := dk_44 (dk_at dksX0_scoreOf_0 0 rfl rfl)
theorem dX0_scoreOf_1 : decode cX0_scoreOf 1 = .ok (.iconst 0, 1) := dk_3 (dk_at dksX0_scoreOf_0 1 rfl rfl)
theorem dX0_scoreOf_2 : decode cX0_scoreOf 2 = .ok (.aload_n 0, 1) := dk_42 (dk_at dksX0_scoreOf_0 2 rfl rfl)
theorem dX0_scoreOf_3 : decode cX0_scoreOf 3 = .ok (.iload_n 1, 1) := dk_27 (dk_at dksX0_scoreOf_0 3 rfl rfl)
theorem dX0_scoreOf_4 : decode cX0_scoreOf 4 = .ok (.invokevirtual 132, 3) := dk_182 0 132 (dk_at dksX0_scoreOf_0 4 rfl rfl)
theorem dX0_scoreOf_7 : decode cX0_scoreOf 7 = .ok (.i2l, 1) := dk_133 (dk_at dksX0_scoreOf_0 7 rfl rfl)
theorem dX0_scoreOf_8 : decode cX0_scoreOf 8 = .ok (.lastore, 1) := dk_80 (dk_at dksX0_scoreOf_0 8 rfl rfl)
theorem dX0_scoreOf_9 : decode cX0_scoreOf 9 = .ok (.goto 6, 3) := dk_167 0 6 (dk_at dksX0_scoreOf_0 9 rfl rfl)
theorem dX0_scoreOf_12 : decode cX0_scoreOf 12 = .ok (.astore_n 3, 1) := dk_78 (dk_at dksX0_scoreOf_0 12 rfl rfl)
theorem dX0_scoreOf_13 : decode cX0_scoreOf 13 = .ok (.iconst 1, 1) := dk_4 (dk_at dksX0_scoreOf_0 13 rfl rfl)
theorem dX0_scoreOf_14 : decode cX0_scoreOf 14 = .ok (.ireturn, 1) := dk_172 (dk_at dksX0_scoreOf_0 14 rfl rfl)
theorem dX0_scoreOf_15 : decode cX0_scoreOf 15 = .ok (.iconst 0, 1) := dk_3 (dk_at dksX0_scoreOf_0 15 rfl rfl)
theorem dX0_scoreOf_16 : decode cX0_scoreOf 16 = .ok (.ireturn, 1) := dk_172 (dk_at dksX0_scoreOf_0 16 rfl rfl)
abbrev cX0_byScore : ByteArray := method_40_code
def yX0_byScore : MethodName := ⟨RX0, "byScore", "(LOfferSky;I[J)I"⟩
def dkwX0_byScore_0 : List UInt8 := [44, 3, 42, 27, 182, 0, 135, 133, 80, 167, 0, 6, 78, 4, 172, 3, 172]
abbrev dktX0_byScore_0 : List UInt8 := dkwX0_byScore_0 ++ []
theorem dksX0_byScore_0 : cX0_byScore.data.toList.drop 0 = dktX0_byScore_0 := by decide +kernel
theorem dX0_byScore_0 : decode cX0_byScore 0 = .ok (.aload_n 2, 1) := dk_44 (dk_at dksX0_byScore_0 0 rfl rfl)
theorem dX0_byScore_1 : decode cX0_byScore 1 = .ok (.iconst 0, 1) := dk_3 (dk_at dksX0_byScore_0 1 rfl rfl)
theorem dX0_byScore_2 : decode cX0_byScore 2 = .ok (.aload_n 0, 1) := dk_42 (dk_at dksX0_byScore_0 2 rfl rfl)
theorem dX0_byScore_3 : decode cX0_byScore 3 = .ok (.iload_n 1, 1) := dk_27 (dk_at dksX0_byScore_0 3 rfl rfl)
theorem dX0_byScore_4 : decode cX0_byScore 4 = .ok (.invokevirtual 135, 3) := dk_182 0 135 (dk_at dksX0_byScore_0 4 rfl rfl)
theorem dX0_byScore_7 : decode cX0_byScore 7 = .ok (.i2l, 1) := dk_133 (dk_at dksX0_byScore_0 7 rfl rfl)
theorem dX0_byScore_8 : decode cX0_byScore 8 = .ok (.lastore, 1) := dk_80 (dk_at dksX0_byScore_0 8 rfl rfl)
theorem dX0_byScore_9 : decode cX0_byScore 9 = .ok (.goto 6, 3) := dk_167 0 6 (dk_at dksX0_byScore_0 9 rfl rfl)
theorem dX0_byScore_12 : decode cX0_byScore 12 = .ok (.astore_n 3, 1) := dk_78 (dk_at dksX0_byScore_0 12 rfl rfl)
theorem dX0_byScore_13 : decode cX0_byScore 13 = .ok (.iconst 1, 1) := dk_4 (dk_at dksX0_byScore_0 13 rfl rfl)
theorem dX0_byScore_14 : decode cX0_byScore 14 = .ok (.ireturn, 1) := dk_172 (dk_at dksX0_byScore_0 14 rfl rfl)
theorem dX0_byScore_15 : decode cX0_byScore 15 = .ok (.iconst 0, 1) := dk_3 (dk_at dksX0_byScore_0 15 rfl rfl)
theorem dX0_byScore_16 : decode cX0_byScore 16 = .ok (.ireturn, 1) := dk_172 (dk_at dksX0_byScore_0 16 rfl rfl)
abbrev cX0_reachByPairs : ByteArray := method_41_code
def yX0_reachByPairs : MethodName := ⟨RX0, "reachByPairs", "(LOfferSky;II[J)I"⟩
def dkwX0_reachByPairs_0 : List UInt8 := [45, 3, 42, 27, 28, 182, 0, 138, 133, 80, 167, 0, 11, 58, 4, 4, 172, 58, 4, 5, 172, 3, 172]
abbrev dktX0_reachByPairs_0 : List UInt8 := dkwX0_reachByPairs_0 ++ []
theorem dksX0_reachByPairs_0 : cX0_reachByPairs.data.toList.drop 0 = dktX0_reachByPairs_0 := by decide +kernel
theorem dX0_reachByPairs_0 : decode cX0_reachByPairs 0 = .ok (.aload_n 3, 1) := dk_45 (dk_at dksX0_reachByPairs_0 0 rfl rfl)
theorem dX0_reachByPairs_1 : decode cX0_reachByPairs 1 = .ok (.iconst 0, 1) := dk_3 (dk_at dksX0_reachByPairs_0 1 rfl rfl)
theorem dX0_reachByPairs_2 : decode cX0_reachByPairs 2 = .ok (.aload_n 0, 1) := dk_42 (dk_at dksX0_reachByPairs_0 2 rfl rfl)
theorem dX0_reachByPairs_3 : decode cX0_reachByPairs 3 = .ok (.iload_n 1, 1) := dk_27 (dk_at dksX0_reachByPairs_0 3 rfl rfl)
theorem dX0_reachByPairs_4 : decode cX0_reachByPairs 4 = .ok (.iload_n 2, 1) := dk_28 (dk_at dksX0_reachByPairs_0 4 rfl rfl)
theorem dX0_reachByPairs_5 : decode cX0_reachByPairs 5 = .ok (.invokevirtual 138, 3) := dk_182 0 138 (dk_at dksX0_reachByPairs_0 5 rfl rfl)
theorem dX0_reachByPairs_8 : decode cX0_reachByPairs 8 = .ok (.i2l, 1) := dk_133 (dk_at dksX0_reachByPairs_0 8 rfl rfl)
theorem dX0_reachByPairs_9 : decode cX0_reachByPairs 9 = .ok (.lastore, 1) := dk_80 (dk_at dksX0_reachByPairs_0 9 rfl rfl)
theorem dX0_reachByPairs_10 : decode cX0_reachByPairs 10 = .ok (.goto 11, 3) := dk_167 0 11 (dk_at dksX0_reachByPairs_0 10 rfl rfl)
theorem dX0_reachByPairs_13 : decode cX0_reachByPairs 13 = .ok (.astore 4, 2) := dk_58 4 (dk_at dksX0_reachByPairs_0 13 rfl rfl)
theorem dX0_reachByPairs_15 : decode cX0_reachByPairs 15 = .ok (.iconst 1, 1) := dk_4 (dk_at dksX0_reachByPairs_0 15 rfl rfl)
theorem dX0_reachByPairs_16 : decode cX0_reachByPairs 16 = .ok (.ireturn, 1) := dk_172 (dk_at dksX0_reachByPairs_0 16 rfl rfl)
theorem dX0_reachByPairs_17 : decode cX0_reachByPairs 17 = .ok (.astore 4, 2) := dk_58 4 (dk_at dksX0_reachByPairs_0 17 rfl rfl)
theorem dX0_reachByPairs_19 : decode cX0_reachByPairs 19 = .ok (.iconst 2, 1) := dk_5 (dk_at dksX0_reachByPairs_0 19 rfl rfl)
theorem dX0_reachByPairs_20 : decode cX0_reachByPairs 20 = .ok (.ireturn, 1) := dk_172 (dk_at dksX0_reachByPairs_0 20 rfl rfl)
theorem dX0_reachByPairs_21 : decode cX0_reachByPairs 21 = .ok (.iconst 0, 1) := dk_3 (dk_at dksX0_reachByPairs_0 21 rfl rfl)
theorem dX0_reachByPairs_22 : decode cX0_reachByPairs 22 = .ok (.ireturn, 1) := dk_172 (dk_at dksX0_reachByPairs_0 22 rfl rfl)
abbrev cX0_reachBySteps : ByteArray := method_42_code
def yX0_reachBySteps : MethodName := ⟨RX0, "reachBySteps", "(LOfferSky;II[J)I"⟩
def dkwX0_reachBySteps_0 : List UInt8 := [45, 3, 42, 27, 28, 182, 0, 141, 133, 80, 167, 0, 11, 58, 4, 4, 172, 58, 4, 5, 172, 3, 172]
abbrev dktX0_reachBySteps_0 : List UInt8 := dkwX0_reachBySteps_0 ++ []
theorem dksX0_reachBySteps_0 : cX0_reachBySteps.data.toList.drop 0 = dktX0_reachBySteps_0 := by decide +kernel
theorem dX0_reachBySteps_0 : decode cX0_reachBySteps 0 = .ok (.aload_n 3, 1) := dk_45 (dk_at dksX0_reachBySteps_0 0 rfl rfl)
theorem dX0_reachBySteps_1 : decode cX0_reachBySteps 1 = .ok (.iconst 0, 1) := dk_3 (dk_at dksX0_reachBySteps_0 1 rfl rfl)
theorem dX0_reachBySteps_2 : decode cX0_reachBySteps 2 = .ok (.aload_n 0, 1) := dk_42 (dk_at dksX0_reachBySteps_0 2 rfl rfl)
theorem dX0_reachBySteps_3 : decode cX0_reachBySteps 3 = .ok (.iload_n 1, 1) := dk_27 (dk_at dksX0_reachBySteps_0 3 rfl rfl)
theorem dX0_reachBySteps_4 : decode cX0_reachBySteps 4 = .ok (.iload_n 2, 1) := dk_28 (dk_at dksX0_reachBySteps_0 4 rfl rfl)
theorem dX0_reachBySteps_5 : decode cX0_reachBySteps 5 = .ok (.invokevirtual 141, 3) := dk_182 0 141 (dk_at dksX0_reachBySteps_0 5 rfl rfl)
theorem dX0_reachBySteps_8 : decode cX0_reachBySteps 8 = .ok (.i2l, 1) := dk_133 (dk_at dksX0_reachBySteps_0 8 rfl rfl)
theorem dX0_reachBySteps_9 : decode cX0_reachBySteps 9 = .ok (.lastore, 1) := dk_80 (dk_at dksX0_reachBySteps_0 9 rfl rfl)
theorem dX0_reachBySteps_10 : decode cX0_reachBySteps 10 = .ok (.goto 11, 3) := dk_167 0 11 (dk_at dksX0_reachBySteps_0 10 rfl rfl)
theorem dX0_reachBySteps_13 : decode cX0_reachBySteps 13 = .ok (.astore 4, 2) := dk_58 4 (dk_at dksX0_reachBySteps_0 13 rfl rfl)
theorem dX0_reachBySteps_15 : decode cX0_reachBySteps 15 = .ok (.iconst 1, 1) := dk_4 (dk_at dksX0_reachBySteps_0 15 rfl rfl)
theorem dX0_reachBySteps_16 : decode cX0_reachBySteps 16 = .ok (.ireturn, 1) := dk_172 (dk_at dksX0_reachBySteps_0 16 rfl rfl)
theorem dX0_reachBySteps_17 : decode cX0_reachBySteps 17 = .ok (.astore 4, 2) := dk_58 4 (dk_at dksX0_reachBySteps_0 17 rfl rfl)
theorem dX0_reachBySteps_19 : decode cX0_reachBySteps 19 = .ok (.iconst 2, 1) := dk_5 (dk_at dksX0_reachBySteps_0 19 rfl rfl)
theorem dX0_reachBySteps_20 : decode cX0_reachBySteps 20 = .ok (.ireturn, 1) := dk_172 (dk_at dksX0_reachBySteps_0 20 rfl rfl)
theorem dX0_reachBySteps_21 : decode cX0_reachBySteps 21 = .ok (.iconst 0, 1) := dk_3 (dk_at dksX0_reachBySteps_0 21 rfl rfl)
theorem dX0_reachBySteps_22 : decode cX0_reachBySteps 22 = .ok (.ireturn, 1) := dk_172 (dk_at dksX0_reachBySteps_0 22 rfl rfl)
theorem q98 : (Jvm.Cond.initialized "OfferSkyLaw") ∈ lw_all := lw_g (lw_at lw_m1 0 rfl) rfl
theorem q132 : (Jvm.Cond.classLink "OfferSkyLaw" (8 : Nat) "OfferSky") ∈ lw_all := lw_g (lw_at lw_m1 34 rfl) rfl
theorem q134 : (Jvm.Cond.methodLink "OfferSkyLaw" (144 : Nat) ({ cls := "OfferSky", name := "<init>", desc := "()V" } : Jvm.MethodName)) ∈ lw_all := lw_g (lw_at lw_m1 36 rfl) rfl
theorem q297 : (Jvm.Cond.methodLink "OfferSkyLaw" (165 : Nat) ({ cls := "OfferSky", name := "prune", desc := "()I" } : Jvm.MethodName)) ∈ lw_all := lw_g (lw_at lw_m1 199 rfl) rfl
theorem q617 : (Jvm.Cond.methodLink "OfferSkyLaw" (182 : Nat) ({ cls := "OfferSky", name := "clearBuffer", desc := "()I" } : Jvm.MethodName)) ∈ lw_all := lw_g (lw_at lw_m3 39 rfl) rfl
theorem q897 : (Jvm.Cond.methodLink "OfferSkyLaw" (186 : Nat) ({ cls := "OfferSky", name := "firstError", desc := "()I" } : Jvm.MethodName)) ∈ lw_all := lw_g (lw_at lw_m4 79 rfl) rfl
theorem q985 : (Jvm.Cond.methodLink "OfferSkyLaw" (205 : Nat) ({ cls := "OfferSky", name := "savedStates", desc := "()I" } : Jvm.MethodName)) ∈ lw_all := lw_g (lw_at lw_m4 167 rfl) rfl
theorem q989 : (Jvm.Cond.methodLink "OfferSkyLaw" (209 : Nat) ({ cls := "OfferSky", name := "offers", desc := "()I" } : Jvm.MethodName)) ∈ lw_all := lw_g (lw_at lw_m4 171 rfl) rfl
theorem q994 : (Jvm.Cond.methodLink "OfferSkyLaw" (231 : Nat) ({ cls := "OfferSky", name := "counting", desc := "()I" } : Jvm.MethodName)) ∈ lw_all := lw_g (lw_at lw_m4 176 rfl) rfl
theorem q999 : (Jvm.Cond.methodLink "OfferSkyLaw" (253 : Nat) ({ cls := "OfferSky", name := "toldByPairs", desc := "()I" } : Jvm.MethodName)) ∈ lw_all := lw_g (lw_at lw_m4 181 rfl) rfl
theorem q1008 : (Jvm.Cond.methodLink "OfferSkyLaw" (257 : Nat) ({ cls := "OfferSky", name := "toldBySums", desc := "()I" } : Jvm.MethodName)) ∈ lw_all := lw_g (lw_at lw_m4 190 rfl) rfl
theorem q1065 : (Jvm.Cond.methodLink "OfferSkyLaw" (270 : Nat) ({ cls := "OfferSky", name := "layers", desc := "()I" } : Jvm.MethodName)) ∈ lw_all := lw_g (lw_at lw_m5 7 rfl) rfl
theorem q1086 : (Jvm.Cond.methodLink "OfferSkyLaw" (301 : Nat) ({ cls := "OfferSky", name := "coveredByTwo", desc := "()I" } : Jvm.MethodName)) ∈ lw_all := lw_g (lw_at lw_m5 28 rfl) rfl
theorem q1103 : (Jvm.Cond.methodLink "OfferSkyLaw" (320 : Nat) ({ cls := "OfferSky", name := "added", desc := "()I" } : Jvm.MethodName)) ∈ lw_all := lw_g (lw_at lw_m5 45 rfl) rfl
theorem q1107 : (Jvm.Cond.methodLink "OfferSkyLaw" (324 : Nat) ({ cls := "OfferSky", name := "removed", desc := "()I" } : Jvm.MethodName)) ∈ lw_all := lw_g (lw_at lw_m5 49 rfl) rfl
theorem q1111 : (Jvm.Cond.methodLink "OfferSkyLaw" (328 : Nat) ({ cls := "OfferSky", name := "beatings", desc := "()I" } : Jvm.MethodName)) ∈ lw_all := lw_g (lw_at lw_m5 53 rfl) rfl
theorem q1131 : (Jvm.Cond.methodLink "OfferSkyLaw" (332 : Nat) ({ cls := "OfferSky", name := "toldShare", desc := "()D" } : Jvm.MethodName)) ∈ lw_all := lw_g (lw_at lw_m5 73 rfl) rfl
theorem q1139 : (Jvm.Cond.methodLink "OfferSkyLaw" (337 : Nat) ({ cls := "OfferSky", name := "digest", desc := "()J" } : Jvm.MethodName)) ∈ lw_all := lw_g (lw_at lw_m5 81 rfl) rfl
theorem q1307 : (Jvm.Cond.methodLink "OfferSkyLaw" (148 : Nat) ({ cls := "OfferSkyLaw", name := "add", desc := "(LOfferSky;IIII[J)I" } : Jvm.MethodName)) ∈ lw_all := lw_g (lw_at lw_m6 9 rfl) rfl
theorem q1308 : (Jvm.Cond.static ({ cls := "OfferSkyLaw", name := "add", desc := "(LOfferSky;IIII[J)I" } : Jvm.MethodName)) ∈ lw_all := lw_g (lw_at lw_m6 10 rfl) rfl
theorem q1309 : (Jvm.Cond.codeWith ({ cls := "OfferSkyLaw", name := "add", desc := "(LOfferSky;IIII[J)I" } : Jvm.MethodName) method_3_code (7 : Nat) (Option.some Jvm.ClassFile.FieldType.int) [((0 : Nat), (14 : Nat), (17 : Nat), (13 : Nat)), ((0 : Nat), (14 : Nat), (21 : Nat), (15 : Nat))]) ∈ lw_all := lw_g (lw_at lw_m6 11 rfl) rfl
theorem q1310 : (Jvm.Cond.classLink "OfferSkyLaw" (13 : Nat) "java/lang/IllegalArgumentException") ∈ lw_all := lw_g (lw_at lw_m6 12 rfl) rfl
theorem q1311 : (Jvm.Cond.classLink "OfferSkyLaw" (15 : Nat) "java/lang/IllegalStateException") ∈ lw_all := lw_g (lw_at lw_m6 13 rfl) rfl
theorem q1312 : (Jvm.Cond.methodLink "OfferSkyLaw" (7 : Nat) ({ cls := "OfferSky", name := "add", desc := "(IIII)I" } : Jvm.MethodName)) ∈ lw_all := lw_g (lw_at lw_m6 14 rfl) rfl
theorem q1365 : (Jvm.Cond.methodLink "OfferSkyLaw" (157 : Nat) ({ cls := "OfferSkyLaw", name := "remove", desc := "(LOfferSky;I[J)I" } : Jvm.MethodName)) ∈ lw_all := lw_g (lw_at lw_m6 67 rfl) rfl
theorem q1366 : (Jvm.Cond.static ({ cls := "OfferSkyLaw", name := "remove", desc := "(LOfferSky;I[J)I" } : Jvm.MethodName)) ∈ lw_all := lw_g (lw_at lw_m6 68 rfl) rfl
theorem q1367 : (Jvm.Cond.codeWith ({ cls := "OfferSkyLaw", name := "remove", desc := "(LOfferSky;I[J)I" } : Jvm.MethodName) method_4_code (4 : Nat) (Option.some Jvm.ClassFile.FieldType.int) [((0 : Nat), (9 : Nat), (12 : Nat), (21 : Nat))]) ∈ lw_all := lw_g (lw_at lw_m6 69 rfl) rfl
theorem q1368 : (Jvm.Cond.classLink "OfferSkyLaw" (21 : Nat) "java/lang/IndexOutOfBoundsException") ∈ lw_all := lw_g (lw_at lw_m6 70 rfl) rfl
theorem q1371 : (Jvm.Cond.methodLink "OfferSkyLaw" (17 : Nat) ({ cls := "OfferSky", name := "remove", desc := "(I)I" } : Jvm.MethodName)) ∈ lw_all := lw_g (lw_at lw_m6 73 rfl) rfl
theorem q1396 : (Jvm.Cond.methodLink "OfferSkyLaw" (161 : Nat) ({ cls := "OfferSkyLaw", name := "change", desc := "(LOfferSky;III[J)I" } : Jvm.MethodName)) ∈ lw_all := lw_g (lw_at lw_m6 98 rfl) rfl
theorem q1397 : (Jvm.Cond.static ({ cls := "OfferSkyLaw", name := "change", desc := "(LOfferSky;III[J)I" } : Jvm.MethodName)) ∈ lw_all := lw_g (lw_at lw_m6 99 rfl) rfl
theorem q1398 : (Jvm.Cond.codeWith ({ cls := "OfferSkyLaw", name := "change", desc := "(LOfferSky;III[J)I" } : Jvm.MethodName) method_5_code (6 : Nat) (Option.some Jvm.ClassFile.FieldType.int) [((0 : Nat), (12 : Nat), (15 : Nat), (21 : Nat)), ((0 : Nat), (12 : Nat), (19 : Nat), (13 : Nat))]) ∈ lw_all := lw_g (lw_at lw_m6 100 rfl) rfl
theorem q1399 : (Jvm.Cond.methodLink "OfferSkyLaw" (23 : Nat) ({ cls := "OfferSky", name := "change", desc := "(III)I" } : Jvm.MethodName)) ∈ lw_all := lw_g (lw_at lw_m6 101 rfl) rfl
theorem q1426 : (Jvm.Cond.methodLink "OfferSkyLaw" (169 : Nat) ({ cls := "OfferSkyLaw", name := "setWish", desc := "(LOfferSky;II[J)I" } : Jvm.MethodName)) ∈ lw_all := lw_g (lw_at lw_m6 128 rfl) rfl
theorem q1427 : (Jvm.Cond.static ({ cls := "OfferSkyLaw", name := "setWish", desc := "(LOfferSky;II[J)I" } : Jvm.MethodName)) ∈ lw_all := lw_g (lw_at lw_m6 129 rfl) rfl
theorem q1428 : (Jvm.Cond.codeWith ({ cls := "OfferSkyLaw", name := "setWish", desc := "(LOfferSky;II[J)I" } : Jvm.MethodName) method_6_code (5 : Nat) (Option.some Jvm.ClassFile.FieldType.int) [((0 : Nat), (10 : Nat), (13 : Nat), (21 : Nat)), ((0 : Nat), (10 : Nat), (17 : Nat), (13 : Nat))]) ∈ lw_all := lw_g (lw_at lw_m6 130 rfl) rfl
theorem q1429 : (Jvm.Cond.methodLink "OfferSkyLaw" (27 : Nat) ({ cls := "OfferSky", name := "setWish", desc := "(II)I" } : Jvm.MethodName)) ∈ lw_all := lw_g (lw_at lw_m6 131 rfl) rfl
theorem q1437 : (Jvm.Cond.methodLink "OfferSkyLaw" (173 : Nat) ({ cls := "OfferSkyLaw", name := "setBounds", desc := "(LOfferSky;III[J)I" } : Jvm.MethodName)) ∈ lw_all := lw_g (lw_at lw_m6 139 rfl) rfl
theorem q1438 : (Jvm.Cond.static ({ cls := "OfferSkyLaw", name := "setBounds", desc := "(LOfferSky;III[J)I" } : Jvm.MethodName)) ∈ lw_all := lw_g (lw_at lw_m6 140 rfl) rfl
theorem q1439 : (Jvm.Cond.codeWith ({ cls := "OfferSkyLaw", name := "setBounds", desc := "(LOfferSky;III[J)I" } : Jvm.MethodName) method_7_code (6 : Nat) (Option.some Jvm.ClassFile.FieldType.int) [((0 : Nat), (12 : Nat), (15 : Nat), (21 : Nat)), ((0 : Nat), (12 : Nat), (19 : Nat), (13 : Nat))]) ∈ lw_all := lw_g (lw_at lw_m6 141 rfl) rfl
theorem q1440 : (Jvm.Cond.methodLink "OfferSkyLaw" (31 : Nat) ({ cls := "OfferSky", name := "setBounds", desc := "(III)I" } : Jvm.MethodName)) ∈ lw_all := lw_g (lw_at lw_m6 142 rfl) rfl
theorem q1448 : (Jvm.Cond.methodLink "OfferSkyLaw" (176 : Nat) ({ cls := "OfferSkyLaw", name := "setWeight", desc := "(LOfferSky;II[J)I" } : Jvm.MethodName)) ∈ lw_all := lw_g (lw_at lw_m6 150 rfl) rfl
theorem q1449 : (Jvm.Cond.static ({ cls := "OfferSkyLaw", name := "setWeight", desc := "(LOfferSky;II[J)I" } : Jvm.MethodName)) ∈ lw_all := lw_g (lw_at lw_m6 151 rfl) rfl
theorem q1450 : (Jvm.Cond.codeWith ({ cls := "OfferSkyLaw", name := "setWeight", desc := "(LOfferSky;II[J)I" } : Jvm.MethodName) method_8_code (5 : Nat) (Option.some Jvm.ClassFile.FieldType.int) [((0 : Nat), (10 : Nat), (13 : Nat), (21 : Nat)), ((0 : Nat), (10 : Nat), (17 : Nat), (13 : Nat))]) ∈ lw_all := lw_g (lw_at lw_m6 152 rfl) rfl
theorem q1451 : (Jvm.Cond.methodLink "OfferSkyLaw" (34 : Nat) ({ cls := "OfferSky", name := "setWeight", desc := "(II)I" } : Jvm.MethodName)) ∈ lw_all := lw_g (lw_at lw_m6 153 rfl) rfl
theorem q1455 : (Jvm.Cond.methodLink "OfferSkyLaw" (179 : Nat) ({ cls := "OfferSkyLaw", name := "append", desc := "(LOfferSky;I[J)I" } : Jvm.MethodName)) ∈ lw_all := lw_g (lw_at lw_m6 157 rfl) rfl
theorem q1456 : (Jvm.Cond.static ({ cls := "OfferSkyLaw", name := "append", desc := "(LOfferSky;I[J)I" } : Jvm.MethodName)) ∈ lw_all := lw_g (lw_at lw_m6 158 rfl) rfl
theorem q1457 : (Jvm.Cond.codeWith ({ cls := "OfferSkyLaw", name := "append", desc := "(LOfferSky;I[J)I" } : Jvm.MethodName) method_9_code (4 : Nat) (Option.some Jvm.ClassFile.FieldType.int) [((0 : Nat), (9 : Nat), (12 : Nat), (13 : Nat)), ((0 : Nat), (9 : Nat), (15 : Nat), (15 : Nat))]) ∈ lw_all := lw_g (lw_at lw_m6 159 rfl) rfl
theorem q1458 : (Jvm.Cond.methodLink "OfferSkyLaw" (37 : Nat) ({ cls := "OfferSky", name := "append", desc := "(I)I" } : Jvm.MethodName)) ∈ lw_all := lw_g (lw_at lw_m6 160 rfl) rfl
theorem q1479 : (Jvm.Cond.methodLink "OfferSkyLaw" (190 : Nat) ({ cls := "OfferSkyLaw", name := "follow", desc := "(LOfferSky;[J)I" } : Jvm.MethodName)) ∈ lw_all := lw_g (lw_at lw_m6 181 rfl) rfl
theorem q1480 : (Jvm.Cond.static ({ cls := "OfferSkyLaw", name := "follow", desc := "(LOfferSky;[J)I" } : Jvm.MethodName)) ∈ lw_all := lw_g (lw_at lw_m6 182 rfl) rfl
theorem q1481 : (Jvm.Cond.codeWith ({ cls := "OfferSkyLaw", name := "follow", desc := "(LOfferSky;[J)I" } : Jvm.MethodName) method_10_code (3 : Nat) (Option.some Jvm.ClassFile.FieldType.int) [((0 : Nat), (8 : Nat), (11 : Nat), (13 : Nat)), ((0 : Nat), (8 : Nat), (14 : Nat), (15 : Nat))]) ∈ lw_all := lw_g (lw_at lw_m6 183 rfl) rfl
theorem q1482 : (Jvm.Cond.methodLink "OfferSkyLaw" (40 : Nat) ({ cls := "OfferSky", name := "follow", desc := "()I" } : Jvm.MethodName)) ∈ lw_all := lw_g (lw_at lw_m6 184 rfl) rfl
theorem q1509 : (Jvm.Cond.methodLink "OfferSkyLaw" (194 : Nat) ({ cls := "OfferSkyLaw", name := "keep", desc := "(LOfferSky;I)I" } : Jvm.MethodName)) ∈ lw_all := lw_g (lw_at lw_m6 211 rfl) rfl
theorem q1510 : (Jvm.Cond.static ({ cls := "OfferSkyLaw", name := "keep", desc := "(LOfferSky;I)I" } : Jvm.MethodName)) ∈ lw_all := lw_g (lw_at lw_m6 212 rfl) rfl
theorem q1511 : (Jvm.Cond.codeWith ({ cls := "OfferSkyLaw", name := "keep", desc := "(LOfferSky;I)I" } : Jvm.MethodName) method_11_code (3 : Nat) (Option.some Jvm.ClassFile.FieldType.int) [((0 : Nat), (5 : Nat), (8 : Nat), (13 : Nat))]) ∈ lw_all := lw_g (lw_at lw_m6 213 rfl) rfl
theorem q1512 : (Jvm.Cond.methodLink "OfferSkyLaw" (44 : Nat) ({ cls := "OfferSky", name := "keep", desc := "(I)V" } : Jvm.MethodName)) ∈ lw_all := lw_g (lw_at lw_m6 214 rfl) rfl
theorem q1519 : (Jvm.Cond.methodLink "OfferSkyLaw" (198 : Nat) ({ cls := "OfferSkyLaw", name := "goBack", desc := "(LOfferSky;I)I" } : Jvm.MethodName)) ∈ lw_all := lw_g (lw_at lw_m6 221 rfl) rfl
theorem q1520 : (Jvm.Cond.static ({ cls := "OfferSkyLaw", name := "goBack", desc := "(LOfferSky;I)I" } : Jvm.MethodName)) ∈ lw_all := lw_g (lw_at lw_m6 222 rfl) rfl
theorem q1521 : (Jvm.Cond.codeWith ({ cls := "OfferSkyLaw", name := "goBack", desc := "(LOfferSky;I)I" } : Jvm.MethodName) method_12_code (3 : Nat) (Option.some Jvm.ClassFile.FieldType.int) [((0 : Nat), (5 : Nat), (8 : Nat), (13 : Nat)), ((0 : Nat), (5 : Nat), (11 : Nat), (15 : Nat))]) ∈ lw_all := lw_g (lw_at lw_m6 223 rfl) rfl
theorem q1522 : (Jvm.Cond.methodLink "OfferSkyLaw" (48 : Nat) ({ cls := "OfferSky", name := "goBack", desc := "(I)V" } : Jvm.MethodName)) ∈ lw_all := lw_g (lw_at lw_m6 224 rfl) rfl
theorem q1526 : (Jvm.Cond.methodLink "OfferSkyLaw" (201 : Nat) ({ cls := "OfferSkyLaw", name := "undo", desc := "(LOfferSky;)I" } : Jvm.MethodName)) ∈ lw_all := lw_g (lw_at lw_m6 228 rfl) rfl
theorem q1527 : (Jvm.Cond.static ({ cls := "OfferSkyLaw", name := "undo", desc := "(LOfferSky;)I" } : Jvm.MethodName)) ∈ lw_all := lw_g (lw_at lw_m6 229 rfl) rfl
theorem q1528 : (Jvm.Cond.codeWith ({ cls := "OfferSkyLaw", name := "undo", desc := "(LOfferSky;)I" } : Jvm.MethodName) method_13_code (2 : Nat) (Option.some Jvm.ClassFile.FieldType.int) [((0 : Nat), (4 : Nat), (7 : Nat), (15 : Nat))]) ∈ lw_all := lw_g (lw_at lw_m6 230 rfl) rfl
theorem q1529 : (Jvm.Cond.methodLink "OfferSkyLaw" (51 : Nat) ({ cls := "OfferSky", name := "undo", desc := "()V" } : Jvm.MethodName)) ∈ lw_all := lw_g (lw_at lw_m6 231 rfl) rfl
theorem q1552 : (Jvm.Cond.methodLink "OfferSkyLaw" (213 : Nat) ({ cls := "OfferSkyLaw", name := "valueOf", desc := "(LOfferSky;II[J)I" } : Jvm.MethodName)) ∈ lw_all := lw_g (lw_at lw_m7 14 rfl) rfl
theorem q1553 : (Jvm.Cond.static ({ cls := "OfferSkyLaw", name := "valueOf", desc := "(LOfferSky;II[J)I" } : Jvm.MethodName)) ∈ lw_all := lw_g (lw_at lw_m7 15 rfl) rfl
theorem q1554 : (Jvm.Cond.codeWith ({ cls := "OfferSkyLaw", name := "valueOf", desc := "(LOfferSky;II[J)I" } : Jvm.MethodName) method_14_code (5 : Nat) (Option.some Jvm.ClassFile.FieldType.int) [((0 : Nat), (10 : Nat), (13 : Nat), (21 : Nat))]) ∈ lw_all := lw_g (lw_at lw_m7 16 rfl) rfl
theorem q1555 : (Jvm.Cond.methodLink "OfferSkyLaw" (54 : Nat) ({ cls := "OfferSky", name := "valueOf", desc := "(II)I" } : Jvm.MethodName)) ∈ lw_all := lw_g (lw_at lw_m7 17 rfl) rfl
theorem q1563 : (Jvm.Cond.methodLink "OfferSkyLaw" (216 : Nat) ({ cls := "OfferSkyLaw", name := "wishOf", desc := "(LOfferSky;I[J)I" } : Jvm.MethodName)) ∈ lw_all := lw_g (lw_at lw_m7 25 rfl) rfl
theorem q1564 : (Jvm.Cond.static ({ cls := "OfferSkyLaw", name := "wishOf", desc := "(LOfferSky;I[J)I" } : Jvm.MethodName)) ∈ lw_all := lw_g (lw_at lw_m7 26 rfl) rfl
theorem q1565 : (Jvm.Cond.codeWith ({ cls := "OfferSkyLaw", name := "wishOf", desc := "(LOfferSky;I[J)I" } : Jvm.MethodName) method_15_code (4 : Nat) (Option.some Jvm.ClassFile.FieldType.int) [((0 : Nat), (9 : Nat), (12 : Nat), (21 : Nat))]) ∈ lw_all := lw_g (lw_at lw_m7 27 rfl) rfl
theorem q1566 : (Jvm.Cond.methodLink "OfferSkyLaw" (57 : Nat) ({ cls := "OfferSky", name := "wishOf", desc := "(I)I" } : Jvm.MethodName)) ∈ lw_all := lw_g (lw_at lw_m7 28 rfl) rfl
theorem q1570 : (Jvm.Cond.methodLink "OfferSkyLaw" (219 : Nat) ({ cls := "OfferSkyLaw", name := "leastOf", desc := "(LOfferSky;I[J)I" } : Jvm.MethodName)) ∈ lw_all := lw_g (lw_at lw_m7 32 rfl) rfl
theorem q1571 : (Jvm.Cond.static ({ cls := "OfferSkyLaw", name := "leastOf", desc := "(LOfferSky;I[J)I" } : Jvm.MethodName)) ∈ lw_all := lw_g (lw_at lw_m7 33 rfl) rfl
theorem q1572 : (Jvm.Cond.codeWith ({ cls := "OfferSkyLaw", name := "leastOf", desc := "(LOfferSky;I[J)I" } : Jvm.MethodName) method_16_code (4 : Nat) (Option.some Jvm.ClassFile.FieldType.int) [((0 : Nat), (9 : Nat), (12 : Nat), (21 : Nat))]) ∈ lw_all := lw_g (lw_at lw_m7 34 rfl) rfl
theorem q1573 : (Jvm.Cond.methodLink "OfferSkyLaw" (60 : Nat) ({ cls := "OfferSky", name := "leastOf", desc := "(I)I" } : Jvm.MethodName)) ∈ lw_all := lw_g (lw_at lw_m7 35 rfl) rfl
theorem q1577 : (Jvm.Cond.methodLink "OfferSkyLaw" (222 : Nat) ({ cls := "OfferSkyLaw", name := "mostOf", desc := "(LOfferSky;I[J)I" } : Jvm.MethodName)) ∈ lw_all := lw_g (lw_at lw_m7 39 rfl) rfl
theorem q1578 : (Jvm.Cond.static ({ cls := "OfferSkyLaw", name := "mostOf", desc := "(LOfferSky;I[J)I" } : Jvm.MethodName)) ∈ lw_all := lw_g (lw_at lw_m7 40 rfl) rfl
theorem q1579 : (Jvm.Cond.codeWith ({ cls := "OfferSkyLaw", name := "mostOf", desc := "(LOfferSky;I[J)I" } : Jvm.MethodName) method_17_code (4 : Nat) (Option.some Jvm.ClassFile.FieldType.int) [((0 : Nat), (9 : Nat), (12 : Nat), (21 : Nat))]) ∈ lw_all := lw_g (lw_at lw_m7 41 rfl) rfl
theorem q1580 : (Jvm.Cond.methodLink "OfferSkyLaw" (63 : Nat) ({ cls := "OfferSky", name := "mostOf", desc := "(I)I" } : Jvm.MethodName)) ∈ lw_all := lw_g (lw_at lw_m7 42 rfl) rfl
theorem q1584 : (Jvm.Cond.methodLink "OfferSkyLaw" (225 : Nat) ({ cls := "OfferSkyLaw", name := "weightOf", desc := "(LOfferSky;I[J)I" } : Jvm.MethodName)) ∈ lw_all := lw_g (lw_at lw_m7 46 rfl) rfl
theorem q1585 : (Jvm.Cond.static ({ cls := "OfferSkyLaw", name := "weightOf", desc := "(LOfferSky;I[J)I" } : Jvm.MethodName)) ∈ lw_all := lw_g (lw_at lw_m7 47 rfl) rfl
theorem q1586 : (Jvm.Cond.codeWith ({ cls := "OfferSkyLaw", name := "weightOf", desc := "(LOfferSky;I[J)I" } : Jvm.MethodName) method_18_code (4 : Nat) (Option.some Jvm.ClassFile.FieldType.int) [((0 : Nat), (9 : Nat), (12 : Nat), (21 : Nat))]) ∈ lw_all := lw_g (lw_at lw_m7 48 rfl) rfl
theorem q1587 : (Jvm.Cond.methodLink "OfferSkyLaw" (66 : Nat) ({ cls := "OfferSky", name := "weightOf", desc := "(I)I" } : Jvm.MethodName)) ∈ lw_all := lw_g (lw_at lw_m7 49 rfl) rfl
theorem q1591 : (Jvm.Cond.methodLink "OfferSkyLaw" (228 : Nat) ({ cls := "OfferSkyLaw", name := "isCounted", desc := "(LOfferSky;I[J)I" } : Jvm.MethodName)) ∈ lw_all := lw_g (lw_at lw_m7 53 rfl) rfl
theorem q1592 : (Jvm.Cond.static ({ cls := "OfferSkyLaw", name := "isCounted", desc := "(LOfferSky;I[J)I" } : Jvm.MethodName)) ∈ lw_all := lw_g (lw_at lw_m7 54 rfl) rfl
theorem q1593 : (Jvm.Cond.codeWith ({ cls := "OfferSkyLaw", name := "isCounted", desc := "(LOfferSky;I[J)I" } : Jvm.MethodName) method_19_code (4 : Nat) (Option.some Jvm.ClassFile.FieldType.int) [((0 : Nat), (16 : Nat), (19 : Nat), (21 : Nat))]) ∈ lw_all := lw_g (lw_at lw_m7 55 rfl) rfl
theorem q1594 : (Jvm.Cond.methodLink "OfferSkyLaw" (69 : Nat) ({ cls := "OfferSky", name := "isCounted", desc := "(I)Z" } : Jvm.MethodName)) ∈ lw_all := lw_g (lw_at lw_m7 56 rfl) rfl
theorem q1598 : (Jvm.Cond.methodLink "OfferSkyLaw" (235 : Nat) ({ cls := "OfferSkyLaw", name := "beats", desc := "(LOfferSky;II[J)I" } : Jvm.MethodName)) ∈ lw_all := lw_g (lw_at lw_m7 60 rfl) rfl
theorem q1599 : (Jvm.Cond.static ({ cls := "OfferSkyLaw", name := "beats", desc := "(LOfferSky;II[J)I" } : Jvm.MethodName)) ∈ lw_all := lw_g (lw_at lw_m7 61 rfl) rfl
theorem q1600 : (Jvm.Cond.codeWith ({ cls := "OfferSkyLaw", name := "beats", desc := "(LOfferSky;II[J)I" } : Jvm.MethodName) method_20_code (5 : Nat) (Option.some Jvm.ClassFile.FieldType.int) [((0 : Nat), (17 : Nat), (20 : Nat), (21 : Nat))]) ∈ lw_all := lw_g (lw_at lw_m7 62 rfl) rfl
theorem q1601 : (Jvm.Cond.methodLink "OfferSkyLaw" (73 : Nat) ({ cls := "OfferSky", name := "beats", desc := "(II)Z" } : Jvm.MethodName)) ∈ lw_all := lw_g (lw_at lw_m7 63 rfl) rfl
theorem q1606 : (Jvm.Cond.methodLink "OfferSkyLaw" (238 : Nat) ({ cls := "OfferSkyLaw", name := "betterOn", desc := "(LOfferSky;II[J)I" } : Jvm.MethodName)) ∈ lw_all := lw_g (lw_at lw_m7 68 rfl) rfl
theorem q1607 : (Jvm.Cond.static ({ cls := "OfferSkyLaw", name := "betterOn", desc := "(LOfferSky;II[J)I" } : Jvm.MethodName)) ∈ lw_all := lw_g (lw_at lw_m7 69 rfl) rfl
theorem q1608 : (Jvm.Cond.codeWith ({ cls := "OfferSkyLaw", name := "betterOn", desc := "(LOfferSky;II[J)I" } : Jvm.MethodName) method_21_code (5 : Nat) (Option.some Jvm.ClassFile.FieldType.int) [((0 : Nat), (10 : Nat), (13 : Nat), (21 : Nat))]) ∈ lw_all := lw_g (lw_at lw_m7 70 rfl) rfl
theorem q1609 : (Jvm.Cond.methodLink "OfferSkyLaw" (77 : Nat) ({ cls := "OfferSky", name := "betterOn", desc := "(II)I" } : Jvm.MethodName)) ∈ lw_all := lw_g (lw_at lw_m7 71 rfl) rfl
theorem q1614 : (Jvm.Cond.methodLink "OfferSkyLaw" (241 : Nat) ({ cls := "OfferSkyLaw", name := "beatersOf", desc := "(LOfferSky;I[J)I" } : Jvm.MethodName)) ∈ lw_all := lw_g (lw_at lw_m7 76 rfl) rfl
theorem q1615 : (Jvm.Cond.static ({ cls := "OfferSkyLaw", name := "beatersOf", desc := "(LOfferSky;I[J)I" } : Jvm.MethodName)) ∈ lw_all := lw_g (lw_at lw_m7 77 rfl) rfl
theorem q1616 : (Jvm.Cond.codeWith ({ cls := "OfferSkyLaw", name := "beatersOf", desc := "(LOfferSky;I[J)I" } : Jvm.MethodName) method_22_code (4 : Nat) (Option.some Jvm.ClassFile.FieldType.int) [((0 : Nat), (9 : Nat), (12 : Nat), (21 : Nat))]) ∈ lw_all := lw_g (lw_at lw_m7 78 rfl) rfl
theorem q1617 : (Jvm.Cond.methodLink "OfferSkyLaw" (80 : Nat) ({ cls := "OfferSky", name := "beatersOf", desc := "(I)I" } : Jvm.MethodName)) ∈ lw_all := lw_g (lw_at lw_m7 79 rfl) rfl
theorem q1621 : (Jvm.Cond.methodLink "OfferSkyLaw" (244 : Nat) ({ cls := "OfferSkyLaw", name := "beatenBy", desc := "(LOfferSky;I[J)I" } : Jvm.MethodName)) ∈ lw_all := lw_g (lw_at lw_m7 83 rfl) rfl
theorem q1622 : (Jvm.Cond.static ({ cls := "OfferSkyLaw", name := "beatenBy", desc := "(LOfferSky;I[J)I" } : Jvm.MethodName)) ∈ lw_all := lw_g (lw_at lw_m7 84 rfl) rfl
theorem q1623 : (Jvm.Cond.codeWith ({ cls := "OfferSkyLaw", name := "beatenBy", desc := "(LOfferSky;I[J)I" } : Jvm.MethodName) method_23_code (4 : Nat) (Option.some Jvm.ClassFile.FieldType.int) [((0 : Nat), (9 : Nat), (12 : Nat), (21 : Nat))]) ∈ lw_all := lw_g (lw_at lw_m7 85 rfl) rfl
theorem q1624 : (Jvm.Cond.methodLink "OfferSkyLaw" (83 : Nat) ({ cls := "OfferSky", name := "beatenBy", desc := "(I)I" } : Jvm.MethodName)) ∈ lw_all := lw_g (lw_at lw_m7 86 rfl) rfl
theorem q1628 : (Jvm.Cond.methodLink "OfferSkyLaw" (247 : Nat) ({ cls := "OfferSkyLaw", name := "isToldByPairs", desc := "(LOfferSky;I[J)I" } : Jvm.MethodName)) ∈ lw_all := lw_g (lw_at lw_m7 90 rfl) rfl
theorem q1629 : (Jvm.Cond.static ({ cls := "OfferSkyLaw", name := "isToldByPairs", desc := "(LOfferSky;I[J)I" } : Jvm.MethodName)) ∈ lw_all := lw_g (lw_at lw_m7 91 rfl) rfl
theorem q1630 : (Jvm.Cond.codeWith ({ cls := "OfferSkyLaw", name := "isToldByPairs", desc := "(LOfferSky;I[J)I" } : Jvm.MethodName) method_24_code (4 : Nat) (Option.some Jvm.ClassFile.FieldType.int) [((0 : Nat), (16 : Nat), (19 : Nat), (21 : Nat))]) ∈ lw_all := lw_g (lw_at lw_m7 92 rfl) rfl
theorem q1631 : (Jvm.Cond.methodLink "OfferSkyLaw" (86 : Nat) ({ cls := "OfferSky", name := "isToldByPairs", desc := "(I)Z" } : Jvm.MethodName)) ∈ lw_all := lw_g (lw_at lw_m7 93 rfl) rfl
theorem q1635 : (Jvm.Cond.methodLink "OfferSkyLaw" (250 : Nat) ({ cls := "OfferSkyLaw", name := "isToldByWindow", desc := "(LOfferSky;I[J)I" } : Jvm.MethodName)) ∈ lw_all := lw_g (lw_at lw_m7 97 rfl) rfl
theorem q1636 : (Jvm.Cond.static ({ cls := "OfferSkyLaw", name := "isToldByWindow", desc := "(LOfferSky;I[J)I" } : Jvm.MethodName)) ∈ lw_all := lw_g (lw_at lw_m7 98 rfl) rfl
theorem q1637 : (Jvm.Cond.codeWith ({ cls := "OfferSkyLaw", name := "isToldByWindow", desc := "(LOfferSky;I[J)I" } : Jvm.MethodName) method_25_code (4 : Nat) (Option.some Jvm.ClassFile.FieldType.int) [((0 : Nat), (16 : Nat), (19 : Nat), (21 : Nat))]) ∈ lw_all := lw_g (lw_at lw_m7 99 rfl) rfl
theorem q1638 : (Jvm.Cond.methodLink "OfferSkyLaw" (89 : Nat) ({ cls := "OfferSky", name := "isToldByWindow", desc := "(I)Z" } : Jvm.MethodName)) ∈ lw_all := lw_g (lw_at lw_m7 100 rfl) rfl
theorem q1642 : (Jvm.Cond.methodLink "OfferSkyLaw" (261 : Nat) ({ cls := "OfferSkyLaw", name := "toldAt", desc := "(LOfferSky;I[J)I" } : Jvm.MethodName)) ∈ lw_all := lw_g (lw_at lw_m7 104 rfl) rfl
theorem q1643 : (Jvm.Cond.static ({ cls := "OfferSkyLaw", name := "toldAt", desc := "(LOfferSky;I[J)I" } : Jvm.MethodName)) ∈ lw_all := lw_g (lw_at lw_m7 105 rfl) rfl
theorem q1644 : (Jvm.Cond.codeWith ({ cls := "OfferSkyLaw", name := "toldAt", desc := "(LOfferSky;I[J)I" } : Jvm.MethodName) method_26_code (4 : Nat) (Option.some Jvm.ClassFile.FieldType.int) [((0 : Nat), (9 : Nat), (12 : Nat), (21 : Nat))]) ∈ lw_all := lw_g (lw_at lw_m7 106 rfl) rfl
theorem q1645 : (Jvm.Cond.methodLink "OfferSkyLaw" (92 : Nat) ({ cls := "OfferSky", name := "toldAt", desc := "(I)I" } : Jvm.MethodName)) ∈ lw_all := lw_g (lw_at lw_m7 107 rfl) rfl
theorem q1649 : (Jvm.Cond.methodLink "OfferSkyLaw" (264 : Nat) ({ cls := "OfferSkyLaw", name := "layerByPeeling", desc := "(LOfferSky;I[J)I" } : Jvm.MethodName)) ∈ lw_all := lw_g (lw_at lw_m7 111 rfl) rfl
theorem q1650 : (Jvm.Cond.static ({ cls := "OfferSkyLaw", name := "layerByPeeling", desc := "(LOfferSky;I[J)I" } : Jvm.MethodName)) ∈ lw_all := lw_g (lw_at lw_m7 112 rfl) rfl
theorem q1651 : (Jvm.Cond.codeWith ({ cls := "OfferSkyLaw", name := "layerByPeeling", desc := "(LOfferSky;I[J)I" } : Jvm.MethodName) method_27_code (4 : Nat) (Option.some Jvm.ClassFile.FieldType.int) [((0 : Nat), (9 : Nat), (12 : Nat), (21 : Nat))]) ∈ lw_all := lw_g (lw_at lw_m7 113 rfl) rfl
theorem q1652 : (Jvm.Cond.methodLink "OfferSkyLaw" (95 : Nat) ({ cls := "OfferSky", name := "layerByPeeling", desc := "(I)I" } : Jvm.MethodName)) ∈ lw_all := lw_g (lw_at lw_m7 114 rfl) rfl
theorem q1656 : (Jvm.Cond.methodLink "OfferSkyLaw" (267 : Nat) ({ cls := "OfferSkyLaw", name := "layerByRows", desc := "(LOfferSky;I[J)I" } : Jvm.MethodName)) ∈ lw_all := lw_g (lw_at lw_m7 118 rfl) rfl
theorem q1657 : (Jvm.Cond.static ({ cls := "OfferSkyLaw", name := "layerByRows", desc := "(LOfferSky;I[J)I" } : Jvm.MethodName)) ∈ lw_all := lw_g (lw_at lw_m7 119 rfl) rfl
theorem q1658 : (Jvm.Cond.codeWith ({ cls := "OfferSkyLaw", name := "layerByRows", desc := "(LOfferSky;I[J)I" } : Jvm.MethodName) method_28_code (4 : Nat) (Option.some Jvm.ClassFile.FieldType.int) [((0 : Nat), (9 : Nat), (12 : Nat), (21 : Nat))]) ∈ lw_all := lw_g (lw_at lw_m7 120 rfl) rfl
theorem q1659 : (Jvm.Cond.methodLink "OfferSkyLaw" (98 : Nat) ({ cls := "OfferSky", name := "layerByRows", desc := "(I)I" } : Jvm.MethodName)) ∈ lw_all := lw_g (lw_at lw_m7 121 rfl) rfl
theorem q1663 : (Jvm.Cond.methodLink "OfferSkyLaw" (274 : Nat) ({ cls := "OfferSkyLaw", name := "inLayer", desc := "(LOfferSky;I[J)I" } : Jvm.MethodName)) ∈ lw_all := lw_g (lw_at lw_m7 125 rfl) rfl
theorem q1664 : (Jvm.Cond.static ({ cls := "OfferSkyLaw", name := "inLayer", desc := "(LOfferSky;I[J)I" } : Jvm.MethodName)) ∈ lw_all := lw_g (lw_at lw_m7 126 rfl) rfl
theorem q1665 : (Jvm.Cond.codeWith ({ cls := "OfferSkyLaw", name := "inLayer", desc := "(LOfferSky;I[J)I" } : Jvm.MethodName) method_29_code (4 : Nat) (Option.some Jvm.ClassFile.FieldType.int) [((0 : Nat), (9 : Nat), (12 : Nat), (13 : Nat))]) ∈ lw_all := lw_g (lw_at lw_m7 127 rfl) rfl
theorem q1666 : (Jvm.Cond.methodLink "OfferSkyLaw" (101 : Nat) ({ cls := "OfferSky", name := "inLayer", desc := "(I)I" } : Jvm.MethodName)) ∈ lw_all := lw_g (lw_at lw_m7 128 rfl) rfl
theorem q1673 : (Jvm.Cond.methodLink "OfferSkyLaw" (277 : Nat) ({ cls := "OfferSkyLaw", name := "toldOn", desc := "(LOfferSky;I[J)I" } : Jvm.MethodName)) ∈ lw_all := lw_g (lw_at lw_m7 135 rfl) rfl
theorem q1674 : (Jvm.Cond.static ({ cls := "OfferSkyLaw", name := "toldOn", desc := "(LOfferSky;I[J)I" } : Jvm.MethodName)) ∈ lw_all := lw_g (lw_at lw_m7 136 rfl) rfl
theorem q1675 : (Jvm.Cond.codeWith ({ cls := "OfferSkyLaw", name := "toldOn", desc := "(LOfferSky;I[J)I" } : Jvm.MethodName) method_30_code (4 : Nat) (Option.some Jvm.ClassFile.FieldType.int) [((0 : Nat), (9 : Nat), (12 : Nat), (13 : Nat))]) ∈ lw_all := lw_g (lw_at lw_m7 137 rfl) rfl
theorem q1676 : (Jvm.Cond.methodLink "OfferSkyLaw" (104 : Nat) ({ cls := "OfferSky", name := "toldOn", desc := "(I)I" } : Jvm.MethodName)) ∈ lw_all := lw_g (lw_at lw_m7 138 rfl) rfl
theorem q1680 : (Jvm.Cond.methodLink "OfferSkyLaw" (280 : Nat) ({ cls := "OfferSkyLaw", name := "setsFor", desc := "(LOfferSky;I[J)I" } : Jvm.MethodName)) ∈ lw_all := lw_g (lw_at lw_m7 142 rfl) rfl
theorem q1681 : (Jvm.Cond.static ({ cls := "OfferSkyLaw", name := "setsFor", desc := "(LOfferSky;I[J)I" } : Jvm.MethodName)) ∈ lw_all := lw_g (lw_at lw_m7 143 rfl) rfl
theorem q1682 : (Jvm.Cond.codeWith ({ cls := "OfferSkyLaw", name := "setsFor", desc := "(LOfferSky;I[J)I" } : Jvm.MethodName) method_31_code (4 : Nat) (Option.some Jvm.ClassFile.FieldType.int) [((0 : Nat), (9 : Nat), (12 : Nat), (21 : Nat))]) ∈ lw_all := lw_g (lw_at lw_m7 144 rfl) rfl
theorem q1683 : (Jvm.Cond.methodLink "OfferSkyLaw" (107 : Nat) ({ cls := "OfferSky", name := "setsFor", desc := "(I)I" } : Jvm.MethodName)) ∈ lw_all := lw_g (lw_at lw_m7 145 rfl) rfl
theorem q1691 : (Jvm.Cond.methodLink "OfferSkyLaw" (283 : Nat) ({ cls := "OfferSkyLaw", name := "toldWeakly", desc := "(LOfferSky;I[J)I" } : Jvm.MethodName)) ∈ lw_all := lw_g (lw_at lw_m7 153 rfl) rfl
theorem q1692 : (Jvm.Cond.static ({ cls := "OfferSkyLaw", name := "toldWeakly", desc := "(LOfferSky;I[J)I" } : Jvm.MethodName)) ∈ lw_all := lw_g (lw_at lw_m7 154 rfl) rfl
theorem q1693 : (Jvm.Cond.codeWith ({ cls := "OfferSkyLaw", name := "toldWeakly", desc := "(LOfferSky;I[J)I" } : Jvm.MethodName) method_32_code (4 : Nat) (Option.some Jvm.ClassFile.FieldType.int) [((0 : Nat), (9 : Nat), (12 : Nat), (13 : Nat))]) ∈ lw_all := lw_g (lw_at lw_m7 155 rfl) rfl
theorem q1694 : (Jvm.Cond.methodLink "OfferSkyLaw" (110 : Nat) ({ cls := "OfferSky", name := "toldWeakly", desc := "(I)I" } : Jvm.MethodName)) ∈ lw_all := lw_g (lw_at lw_m7 156 rfl) rfl
theorem q1698 : (Jvm.Cond.methodLink "OfferSkyLaw" (286 : Nat) ({ cls := "OfferSkyLaw", name := "wouldBeTold", desc := "(LOfferSky;IIII[J)I" } : Jvm.MethodName)) ∈ lw_all := lw_g (lw_at lw_m7 160 rfl) rfl
theorem q1699 : (Jvm.Cond.static ({ cls := "OfferSkyLaw", name := "wouldBeTold", desc := "(LOfferSky;IIII[J)I" } : Jvm.MethodName)) ∈ lw_all := lw_g (lw_at lw_m7 161 rfl) rfl
theorem q1700 : (Jvm.Cond.codeWith ({ cls := "OfferSkyLaw", name := "wouldBeTold", desc := "(LOfferSky;IIII[J)I" } : Jvm.MethodName) method_33_code (7 : Nat) (Option.some Jvm.ClassFile.FieldType.int) [((0 : Nat), (21 : Nat), (24 : Nat), (13 : Nat))]) ∈ lw_all := lw_g (lw_at lw_m7 162 rfl) rfl
theorem q1701 : (Jvm.Cond.methodLink "OfferSkyLaw" (113 : Nat) ({ cls := "OfferSky", name := "wouldBeTold", desc := "(IIII)Z" } : Jvm.MethodName)) ∈ lw_all := lw_g (lw_at lw_m7 163 rfl) rfl
theorem q1709 : (Jvm.Cond.methodLink "OfferSkyLaw" (289 : Nat) ({ cls := "OfferSkyLaw", name := "wouldBeat", desc := "(LOfferSky;IIII[J)I" } : Jvm.MethodName)) ∈ lw_all := lw_g (lw_at lw_m7 171 rfl) rfl
theorem q1710 : (Jvm.Cond.static ({ cls := "OfferSkyLaw", name := "wouldBeat", desc := "(LOfferSky;IIII[J)I" } : Jvm.MethodName)) ∈ lw_all := lw_g (lw_at lw_m7 172 rfl) rfl
theorem q1711 : (Jvm.Cond.codeWith ({ cls := "OfferSkyLaw", name := "wouldBeat", desc := "(LOfferSky;IIII[J)I" } : Jvm.MethodName) method_34_code (7 : Nat) (Option.some Jvm.ClassFile.FieldType.int) [((0 : Nat), (14 : Nat), (17 : Nat), (13 : Nat))]) ∈ lw_all := lw_g (lw_at lw_m7 173 rfl) rfl
theorem q1712 : (Jvm.Cond.methodLink "OfferSkyLaw" (117 : Nat) ({ cls := "OfferSky", name := "wouldBeat", desc := "(IIII)I" } : Jvm.MethodName)) ∈ lw_all := lw_g (lw_at lw_m7 174 rfl) rfl
theorem q1723 : (Jvm.Cond.methodLink "OfferSkyLaw" (292 : Nat) ({ cls := "OfferSkyLaw", name := "raiseByTrying", desc := "(LOfferSky;II[J)I" } : Jvm.MethodName)) ∈ lw_all := lw_g (lw_at lw_m7 185 rfl) rfl
theorem q1724 : (Jvm.Cond.static ({ cls := "OfferSkyLaw", name := "raiseByTrying", desc := "(LOfferSky;II[J)I" } : Jvm.MethodName)) ∈ lw_all := lw_g (lw_at lw_m7 186 rfl) rfl
theorem q1725 : (Jvm.Cond.codeWith ({ cls := "OfferSkyLaw", name := "raiseByTrying", desc := "(LOfferSky;II[J)I" } : Jvm.MethodName) method_35_code (5 : Nat) (Option.some Jvm.ClassFile.FieldType.int) [((0 : Nat), (10 : Nat), (13 : Nat), (21 : Nat)), ((0 : Nat), (10 : Nat), (17 : Nat), (15 : Nat))]) ∈ lw_all := lw_g (lw_at lw_m7 187 rfl) rfl
theorem q1726 : (Jvm.Cond.methodLink "OfferSkyLaw" (120 : Nat) ({ cls := "OfferSky", name := "raiseByTrying", desc := "(II)I" } : Jvm.MethodName)) ∈ lw_all := lw_g (lw_at lw_m7 188 rfl) rfl
theorem q1752 : (Jvm.Cond.methodLink "OfferSkyLaw" (295 : Nat) ({ cls := "OfferSkyLaw", name := "raiseByBeaters", desc := "(LOfferSky;II[J)I" } : Jvm.MethodName)) ∈ lw_all := lw_g (lw_at lw_m7 214 rfl) rfl
theorem q1753 : (Jvm.Cond.static ({ cls := "OfferSkyLaw", name := "raiseByBeaters", desc := "(LOfferSky;II[J)I" } : Jvm.MethodName)) ∈ lw_all := lw_g (lw_at lw_m7 215 rfl) rfl
theorem q1754 : (Jvm.Cond.codeWith ({ cls := "OfferSkyLaw", name := "raiseByBeaters", desc := "(LOfferSky;II[J)I" } : Jvm.MethodName) method_36_code (5 : Nat) (Option.some Jvm.ClassFile.FieldType.int) [((0 : Nat), (10 : Nat), (13 : Nat), (21 : Nat)), ((0 : Nat), (10 : Nat), (17 : Nat), (15 : Nat))]) ∈ lw_all := lw_g (lw_at lw_m7 216 rfl) rfl
theorem q1755 : (Jvm.Cond.methodLink "OfferSkyLaw" (123 : Nat) ({ cls := "OfferSky", name := "raiseByBeaters", desc := "(II)I" } : Jvm.MethodName)) ∈ lw_all := lw_g (lw_at lw_m7 217 rfl) rfl
theorem q1768 : (Jvm.Cond.methodLink "OfferSkyLaw" (298 : Nat) ({ cls := "OfferSkyLaw", name := "coveredGreedily", desc := "(LOfferSky;I[J)I" } : Jvm.MethodName)) ∈ lw_all := lw_g (lw_at lw_m7 230 rfl) rfl
theorem q1769 : (Jvm.Cond.static ({ cls := "OfferSkyLaw", name := "coveredGreedily", desc := "(LOfferSky;I[J)I" } : Jvm.MethodName)) ∈ lw_all := lw_g (lw_at lw_m7 231 rfl) rfl
theorem q1770 : (Jvm.Cond.codeWith ({ cls := "OfferSkyLaw", name := "coveredGreedily", desc := "(LOfferSky;I[J)I" } : Jvm.MethodName) method_37_code (4 : Nat) (Option.some Jvm.ClassFile.FieldType.int) [((0 : Nat), (9 : Nat), (12 : Nat), (13 : Nat))]) ∈ lw_all := lw_g (lw_at lw_m7 232 rfl) rfl
theorem q1771 : (Jvm.Cond.methodLink "OfferSkyLaw" (126 : Nat) ({ cls := "OfferSky", name := "coveredGreedily", desc := "(I)I" } : Jvm.MethodName)) ∈ lw_all := lw_g (lw_at lw_m7 233 rfl) rfl
theorem q1775 : (Jvm.Cond.methodLink "OfferSkyLaw" (305 : Nat) ({ cls := "OfferSkyLaw", name := "takenAt", desc := "(LOfferSky;I[J)I" } : Jvm.MethodName)) ∈ lw_all := lw_g (lw_at lw_m7 237 rfl) rfl
theorem q1776 : (Jvm.Cond.static ({ cls := "OfferSkyLaw", name := "takenAt", desc := "(LOfferSky;I[J)I" } : Jvm.MethodName)) ∈ lw_all := lw_g (lw_at lw_m7 238 rfl) rfl
theorem q1777 : (Jvm.Cond.codeWith ({ cls := "OfferSkyLaw", name := "takenAt", desc := "(LOfferSky;I[J)I" } : Jvm.MethodName) method_38_code (4 : Nat) (Option.some Jvm.ClassFile.FieldType.int) [((0 : Nat), (9 : Nat), (12 : Nat), (21 : Nat))]) ∈ lw_all := lw_g (lw_at lw_m7 239 rfl) rfl
theorem q1778 : (Jvm.Cond.methodLink "OfferSkyLaw" (129 : Nat) ({ cls := "OfferSky", name := "takenAt", desc := "(I)I" } : Jvm.MethodName)) ∈ lw_all := lw_g (lw_at lw_m8 0 rfl) rfl
theorem q1782 : (Jvm.Cond.methodLink "OfferSkyLaw" (308 : Nat) ({ cls := "OfferSkyLaw", name := "scoreOf", desc := "(LOfferSky;I[J)I" } : Jvm.MethodName)) ∈ lw_all := lw_g (lw_at lw_m8 4 rfl) rfl
theorem q1783 : (Jvm.Cond.static ({ cls := "OfferSkyLaw", name := "scoreOf", desc := "(LOfferSky;I[J)I" } : Jvm.MethodName)) ∈ lw_all := lw_g (lw_at lw_m8 5 rfl) rfl
theorem q1784 : (Jvm.Cond.codeWith ({ cls := "OfferSkyLaw", name := "scoreOf", desc := "(LOfferSky;I[J)I" } : Jvm.MethodName) method_39_code (4 : Nat) (Option.some Jvm.ClassFile.FieldType.int) [((0 : Nat), (9 : Nat), (12 : Nat), (21 : Nat))]) ∈ lw_all := lw_g (lw_at lw_m8 6 rfl) rfl
theorem q1785 : (Jvm.Cond.methodLink "OfferSkyLaw" (132 : Nat) ({ cls := "OfferSky", name := "scoreOf", desc := "(I)I" } : Jvm.MethodName)) ∈ lw_all := lw_g (lw_at lw_m8 7 rfl) rfl
theorem q1789 : (Jvm.Cond.methodLink "OfferSkyLaw" (311 : Nat) ({ cls := "OfferSkyLaw", name := "byScore", desc := "(LOfferSky;I[J)I" } : Jvm.MethodName)) ∈ lw_all := lw_g (lw_at lw_m8 11 rfl) rfl
theorem q1790 : (Jvm.Cond.static ({ cls := "OfferSkyLaw", name := "byScore", desc := "(LOfferSky;I[J)I" } : Jvm.MethodName)) ∈ lw_all := lw_g (lw_at lw_m8 12 rfl) rfl
theorem q1791 : (Jvm.Cond.codeWith ({ cls := "OfferSkyLaw", name := "byScore", desc := "(LOfferSky;I[J)I" } : Jvm.MethodName) method_40_code (4 : Nat) (Option.some Jvm.ClassFile.FieldType.int) [((0 : Nat), (9 : Nat), (12 : Nat), (21 : Nat))]) ∈ lw_all := lw_g (lw_at lw_m8 13 rfl) rfl
theorem q1792 : (Jvm.Cond.methodLink "OfferSkyLaw" (135 : Nat) ({ cls := "OfferSky", name := "byScore", desc := "(I)I" } : Jvm.MethodName)) ∈ lw_all := lw_g (lw_at lw_m8 14 rfl) rfl
theorem q1796 : (Jvm.Cond.methodLink "OfferSkyLaw" (314 : Nat) ({ cls := "OfferSkyLaw", name := "reachByPairs", desc := "(LOfferSky;II[J)I" } : Jvm.MethodName)) ∈ lw_all := lw_g (lw_at lw_m8 18 rfl) rfl
theorem q1797 : (Jvm.Cond.static ({ cls := "OfferSkyLaw", name := "reachByPairs", desc := "(LOfferSky;II[J)I" } : Jvm.MethodName)) ∈ lw_all := lw_g (lw_at lw_m8 19 rfl) rfl
theorem q1798 : (Jvm.Cond.codeWith ({ cls := "OfferSkyLaw", name := "reachByPairs", desc := "(LOfferSky;II[J)I" } : Jvm.MethodName) method_41_code (5 : Nat) (Option.some Jvm.ClassFile.FieldType.int) [((0 : Nat), (10 : Nat), (13 : Nat), (21 : Nat)), ((0 : Nat), (10 : Nat), (17 : Nat), (13 : Nat))]) ∈ lw_all := lw_g (lw_at lw_m8 20 rfl) rfl
theorem q1799 : (Jvm.Cond.methodLink "OfferSkyLaw" (138 : Nat) ({ cls := "OfferSky", name := "reachByPairs", desc := "(II)I" } : Jvm.MethodName)) ∈ lw_all := lw_g (lw_at lw_m8 21 rfl) rfl
theorem q1806 : (Jvm.Cond.methodLink "OfferSkyLaw" (317 : Nat) ({ cls := "OfferSkyLaw", name := "reachBySteps", desc := "(LOfferSky;II[J)I" } : Jvm.MethodName)) ∈ lw_all := lw_g (lw_at lw_m8 28 rfl) rfl
theorem q1807 : (Jvm.Cond.static ({ cls := "OfferSkyLaw", name := "reachBySteps", desc := "(LOfferSky;II[J)I" } : Jvm.MethodName)) ∈ lw_all := lw_g (lw_at lw_m8 29 rfl) rfl
theorem q1808 : (Jvm.Cond.codeWith ({ cls := "OfferSkyLaw", name := "reachBySteps", desc := "(LOfferSky;II[J)I" } : Jvm.MethodName) method_42_code (5 : Nat) (Option.some Jvm.ClassFile.FieldType.int) [((0 : Nat), (10 : Nat), (13 : Nat), (21 : Nat)), ((0 : Nat), (10 : Nat), (17 : Nat), (13 : Nat))]) ∈ lw_all := lw_g (lw_at lw_m8 30 rfl) rfl
theorem q1809 : (Jvm.Cond.methodLink "OfferSkyLaw" (141 : Nat) ({ cls := "OfferSky", name := "reachBySteps", desc := "(II)I" } : Jvm.MethodName)) ∈ lw_all := lw_g (lw_at lw_m8 31 rfl) rfl
theorem q1813 : (Jvm.Cond.classLink "OfferSkyLaw" (145 : Nat) "OfferSkyModel") ∈ lw_all := lw_g (lw_at lw_m8 35 rfl) rfl
theorem q1815 : (Jvm.Cond.methodLink "OfferSkyLaw" (147 : Nat) ({ cls := "OfferSkyModel", name := "<init>", desc := "()V" } : Jvm.MethodName)) ∈ lw_all := lw_g (lw_at lw_m8 37 rfl) rfl
theorem q1871 : (Jvm.Cond.methodLink "OfferSkyLaw" (154 : Nat) ({ cls := "OfferSkyModel", name := "thrown", desc := "()I" } : Jvm.MethodName)) ∈ lw_all := lw_g (lw_at lw_m8 93 rfl) rfl
theorem q1875 : (Jvm.Cond.methodLink "OfferSkyLaw" (153 : Nat) ({ cls := "OfferSkyModel", name := "add", desc := "(IIII)I" } : Jvm.MethodName)) ∈ lw_all := lw_g (lw_at lw_m8 97 rfl) rfl
theorem q1896 : (Jvm.Cond.methodLink "OfferSkyLaw" (160 : Nat) ({ cls := "OfferSkyModel", name := "remove", desc := "(I)I" } : Jvm.MethodName)) ∈ lw_all := lw_g (lw_at lw_m8 118 rfl) rfl
theorem q1912 : (Jvm.Cond.methodLink "OfferSkyLaw" (164 : Nat) ({ cls := "OfferSkyModel", name := "change", desc := "(III)I" } : Jvm.MethodName)) ∈ lw_all := lw_g (lw_at lw_m8 134 rfl) rfl
theorem q1923 : (Jvm.Cond.methodLink "OfferSkyLaw" (168 : Nat) ({ cls := "OfferSkyModel", name := "prune", desc := "()I" } : Jvm.MethodName)) ∈ lw_all := lw_g (lw_at lw_m8 145 rfl) rfl
theorem q1955 : (Jvm.Cond.methodLink "OfferSkyLaw" (172 : Nat) ({ cls := "OfferSkyModel", name := "setWish", desc := "(II)I" } : Jvm.MethodName)) ∈ lw_all := lw_g (lw_at lw_m8 177 rfl) rfl
theorem q1959 : (Jvm.Cond.methodLink "OfferSkyLaw" (175 : Nat) ({ cls := "OfferSkyModel", name := "setBounds", desc := "(III)I" } : Jvm.MethodName)) ∈ lw_all := lw_g (lw_at lw_m8 181 rfl) rfl
theorem q1967 : (Jvm.Cond.methodLink "OfferSkyLaw" (178 : Nat) ({ cls := "OfferSkyModel", name := "setWeight", desc := "(II)I" } : Jvm.MethodName)) ∈ lw_all := lw_g (lw_at lw_m8 189 rfl) rfl
theorem q1971 : (Jvm.Cond.methodLink "OfferSkyLaw" (181 : Nat) ({ cls := "OfferSkyModel", name := "append", desc := "(I)I" } : Jvm.MethodName)) ∈ lw_all := lw_g (lw_at lw_m8 193 rfl) rfl
theorem q1975 : (Jvm.Cond.methodLink "OfferSkyLaw" (185 : Nat) ({ cls := "OfferSkyModel", name := "clearBuffer", desc := "()I" } : Jvm.MethodName)) ∈ lw_all := lw_g (lw_at lw_m8 197 rfl) rfl
theorem q1979 : (Jvm.Cond.methodLink "OfferSkyLaw" (189 : Nat) ({ cls := "OfferSkyModel", name := "firstError", desc := "()I" } : Jvm.MethodName)) ∈ lw_all := lw_g (lw_at lw_m8 201 rfl) rfl
theorem q2011 : (Jvm.Cond.methodLink "OfferSkyLaw" (193 : Nat) ({ cls := "OfferSkyModel", name := "follow", desc := "()I" } : Jvm.MethodName)) ∈ lw_all := lw_g (lw_at lw_m8 233 rfl) rfl
theorem q2027 : (Jvm.Cond.methodLink "OfferSkyLaw" (197 : Nat) ({ cls := "OfferSkyModel", name := "keep", desc := "(I)V" } : Jvm.MethodName)) ∈ lw_all := lw_g (lw_at lw_m9 9 rfl) rfl
theorem q2031 : (Jvm.Cond.methodLink "OfferSkyLaw" (200 : Nat) ({ cls := "OfferSkyModel", name := "goBack", desc := "(I)V" } : Jvm.MethodName)) ∈ lw_all := lw_g (lw_at lw_m9 13 rfl) rfl
theorem q2035 : (Jvm.Cond.methodLink "OfferSkyLaw" (204 : Nat) ({ cls := "OfferSkyModel", name := "undo", desc := "()V" } : Jvm.MethodName)) ∈ lw_all := lw_g (lw_at lw_m9 17 rfl) rfl
theorem q2039 : (Jvm.Cond.methodLink "OfferSkyLaw" (208 : Nat) ({ cls := "OfferSkyModel", name := "savedStates", desc := "()I" } : Jvm.MethodName)) ∈ lw_all := lw_g (lw_at lw_m9 21 rfl) rfl
theorem q2043 : (Jvm.Cond.methodLink "OfferSkyLaw" (212 : Nat) ({ cls := "OfferSkyModel", name := "offers", desc := "()I" } : Jvm.MethodName)) ∈ lw_all := lw_g (lw_at lw_m9 25 rfl) rfl
theorem q2047 : (Jvm.Cond.methodLink "OfferSkyLaw" (215 : Nat) ({ cls := "OfferSkyModel", name := "valueOf", desc := "(II)I" } : Jvm.MethodName)) ∈ lw_all := lw_g (lw_at lw_m9 29 rfl) rfl
theorem q2051 : (Jvm.Cond.methodLink "OfferSkyLaw" (218 : Nat) ({ cls := "OfferSkyModel", name := "wishOf", desc := "(I)I" } : Jvm.MethodName)) ∈ lw_all := lw_g (lw_at lw_m9 33 rfl) rfl
theorem q2059 : (Jvm.Cond.methodLink "OfferSkyLaw" (221 : Nat) ({ cls := "OfferSkyModel", name := "leastOf", desc := "(I)I" } : Jvm.MethodName)) ∈ lw_all := lw_g (lw_at lw_m9 41 rfl) rfl
theorem q2063 : (Jvm.Cond.methodLink "OfferSkyLaw" (224 : Nat) ({ cls := "OfferSkyModel", name := "mostOf", desc := "(I)I" } : Jvm.MethodName)) ∈ lw_all := lw_g (lw_at lw_m9 45 rfl) rfl
theorem q2067 : (Jvm.Cond.methodLink "OfferSkyLaw" (227 : Nat) ({ cls := "OfferSkyModel", name := "weightOf", desc := "(I)I" } : Jvm.MethodName)) ∈ lw_all := lw_g (lw_at lw_m9 49 rfl) rfl
theorem q2071 : (Jvm.Cond.methodLink "OfferSkyLaw" (230 : Nat) ({ cls := "OfferSkyModel", name := "isCounted", desc := "(I)Z" } : Jvm.MethodName)) ∈ lw_all := lw_g (lw_at lw_m9 53 rfl) rfl
theorem q2075 : (Jvm.Cond.methodLink "OfferSkyLaw" (234 : Nat) ({ cls := "OfferSkyModel", name := "counting", desc := "()I" } : Jvm.MethodName)) ∈ lw_all := lw_g (lw_at lw_m9 57 rfl) rfl
theorem q2079 : (Jvm.Cond.methodLink "OfferSkyLaw" (237 : Nat) ({ cls := "OfferSkyModel", name := "beats", desc := "(II)Z" } : Jvm.MethodName)) ∈ lw_all := lw_g (lw_at lw_m9 61 rfl) rfl
theorem q2087 : (Jvm.Cond.methodLink "OfferSkyLaw" (240 : Nat) ({ cls := "OfferSkyModel", name := "betterOn", desc := "(II)I" } : Jvm.MethodName)) ∈ lw_all := lw_g (lw_at lw_m9 69 rfl) rfl
theorem q2091 : (Jvm.Cond.methodLink "OfferSkyLaw" (243 : Nat) ({ cls := "OfferSkyModel", name := "beatersOf", desc := "(I)I" } : Jvm.MethodName)) ∈ lw_all := lw_g (lw_at lw_m9 73 rfl) rfl
theorem q2099 : (Jvm.Cond.methodLink "OfferSkyLaw" (246 : Nat) ({ cls := "OfferSkyModel", name := "beatenBy", desc := "(I)I" } : Jvm.MethodName)) ∈ lw_all := lw_g (lw_at lw_m9 81 rfl) rfl
theorem q2107 : (Jvm.Cond.methodLink "OfferSkyLaw" (249 : Nat) ({ cls := "OfferSkyModel", name := "isToldByPairs", desc := "(I)Z" } : Jvm.MethodName)) ∈ lw_all := lw_g (lw_at lw_m9 89 rfl) rfl
theorem q2115 : (Jvm.Cond.methodLink "OfferSkyLaw" (252 : Nat) ({ cls := "OfferSkyModel", name := "isToldByWindow", desc := "(I)Z" } : Jvm.MethodName)) ∈ lw_all := lw_g (lw_at lw_m9 97 rfl) rfl
theorem q2119 : (Jvm.Cond.methodLink "OfferSkyLaw" (256 : Nat) ({ cls := "OfferSkyModel", name := "toldByPairs", desc := "()I" } : Jvm.MethodName)) ∈ lw_all := lw_g (lw_at lw_m9 101 rfl) rfl
theorem q2123 : (Jvm.Cond.methodLink "OfferSkyLaw" (260 : Nat) ({ cls := "OfferSkyModel", name := "toldBySums", desc := "()I" } : Jvm.MethodName)) ∈ lw_all := lw_g (lw_at lw_m9 105 rfl) rfl
theorem q2127 : (Jvm.Cond.methodLink "OfferSkyLaw" (263 : Nat) ({ cls := "OfferSkyModel", name := "toldAt", desc := "(I)I" } : Jvm.MethodName)) ∈ lw_all := lw_g (lw_at lw_m9 109 rfl) rfl
theorem q2131 : (Jvm.Cond.methodLink "OfferSkyLaw" (266 : Nat) ({ cls := "OfferSkyModel", name := "layerByPeeling", desc := "(I)I" } : Jvm.MethodName)) ∈ lw_all := lw_g (lw_at lw_m9 113 rfl) rfl
theorem q2139 : (Jvm.Cond.methodLink "OfferSkyLaw" (269 : Nat) ({ cls := "OfferSkyModel", name := "layerByRows", desc := "(I)I" } : Jvm.MethodName)) ∈ lw_all := lw_g (lw_at lw_m9 121 rfl) rfl
theorem q2144 : (Jvm.Cond.methodLink "OfferSkyLaw" (273 : Nat) ({ cls := "OfferSkyModel", name := "layers", desc := "()I" } : Jvm.MethodName)) ∈ lw_all := lw_g (lw_at lw_m9 126 rfl) rfl
theorem q2148 : (Jvm.Cond.methodLink "OfferSkyLaw" (276 : Nat) ({ cls := "OfferSkyModel", name := "inLayer", desc := "(I)I" } : Jvm.MethodName)) ∈ lw_all := lw_g (lw_at lw_m9 130 rfl) rfl
theorem q2152 : (Jvm.Cond.methodLink "OfferSkyLaw" (279 : Nat) ({ cls := "OfferSkyModel", name := "toldOn", desc := "(I)I" } : Jvm.MethodName)) ∈ lw_all := lw_g (lw_at lw_m9 134 rfl) rfl
theorem q2156 : (Jvm.Cond.methodLink "OfferSkyLaw" (282 : Nat) ({ cls := "OfferSkyModel", name := "setsFor", desc := "(I)I" } : Jvm.MethodName)) ∈ lw_all := lw_g (lw_at lw_m9 138 rfl) rfl
theorem q2160 : (Jvm.Cond.methodLink "OfferSkyLaw" (285 : Nat) ({ cls := "OfferSkyModel", name := "toldWeakly", desc := "(I)I" } : Jvm.MethodName)) ∈ lw_all := lw_g (lw_at lw_m9 142 rfl) rfl
theorem q2168 : (Jvm.Cond.methodLink "OfferSkyLaw" (288 : Nat) ({ cls := "OfferSkyModel", name := "wouldBeTold", desc := "(IIII)Z" } : Jvm.MethodName)) ∈ lw_all := lw_g (lw_at lw_m9 150 rfl) rfl
theorem q2191 : (Jvm.Cond.methodLink "OfferSkyLaw" (291 : Nat) ({ cls := "OfferSkyModel", name := "wouldBeat", desc := "(IIII)I" } : Jvm.MethodName)) ∈ lw_all := lw_g (lw_at lw_m9 173 rfl) rfl
theorem q2195 : (Jvm.Cond.methodLink "OfferSkyLaw" (294 : Nat) ({ cls := "OfferSkyModel", name := "raiseByTrying", desc := "(II)I" } : Jvm.MethodName)) ∈ lw_all := lw_g (lw_at lw_m9 177 rfl) rfl
theorem q2203 : (Jvm.Cond.methodLink "OfferSkyLaw" (297 : Nat) ({ cls := "OfferSkyModel", name := "raiseByBeaters", desc := "(II)I" } : Jvm.MethodName)) ∈ lw_all := lw_g (lw_at lw_m9 185 rfl) rfl
theorem q2208 : (Jvm.Cond.methodLink "OfferSkyLaw" (300 : Nat) ({ cls := "OfferSkyModel", name := "coveredGreedily", desc := "(I)I" } : Jvm.MethodName)) ∈ lw_all := lw_g (lw_at lw_m9 190 rfl) rfl
theorem q2216 : (Jvm.Cond.methodLink "OfferSkyLaw" (304 : Nat) ({ cls := "OfferSkyModel", name := "coveredByTwo", desc := "()I" } : Jvm.MethodName)) ∈ lw_all := lw_g (lw_at lw_m9 198 rfl) rfl
theorem q2224 : (Jvm.Cond.methodLink "OfferSkyLaw" (307 : Nat) ({ cls := "OfferSkyModel", name := "takenAt", desc := "(I)I" } : Jvm.MethodName)) ∈ lw_all := lw_g (lw_at lw_m9 206 rfl) rfl
theorem q2228 : (Jvm.Cond.methodLink "OfferSkyLaw" (310 : Nat) ({ cls := "OfferSkyModel", name := "scoreOf", desc := "(I)I" } : Jvm.MethodName)) ∈ lw_all := lw_g (lw_at lw_m9 210 rfl) rfl
theorem q2236 : (Jvm.Cond.methodLink "OfferSkyLaw" (313 : Nat) ({ cls := "OfferSkyModel", name := "byScore", desc := "(I)I" } : Jvm.MethodName)) ∈ lw_all := lw_g (lw_at lw_m9 218 rfl) rfl
theorem q2244 : (Jvm.Cond.methodLink "OfferSkyLaw" (316 : Nat) ({ cls := "OfferSkyModel", name := "reachByPairs", desc := "(II)I" } : Jvm.MethodName)) ∈ lw_all := lw_g (lw_at lw_m9 226 rfl) rfl
theorem q2252 : (Jvm.Cond.methodLink "OfferSkyLaw" (319 : Nat) ({ cls := "OfferSkyModel", name := "reachBySteps", desc := "(II)I" } : Jvm.MethodName)) ∈ lw_all := lw_g (lw_at lw_m9 234 rfl) rfl
theorem q2257 : (Jvm.Cond.methodLink "OfferSkyLaw" (323 : Nat) ({ cls := "OfferSkyModel", name := "added", desc := "()I" } : Jvm.MethodName)) ∈ lw_all := lw_g (lw_at lw_m9 239 rfl) rfl
theorem q2261 : (Jvm.Cond.methodLink "OfferSkyLaw" (327 : Nat) ({ cls := "OfferSkyModel", name := "removed", desc := "()I" } : Jvm.MethodName)) ∈ lw_all := lw_g (lw_at lw_m10 3 rfl) rfl
theorem q2265 : (Jvm.Cond.methodLink "OfferSkyLaw" (331 : Nat) ({ cls := "OfferSkyModel", name := "beatings", desc := "()I" } : Jvm.MethodName)) ∈ lw_all := lw_g (lw_at lw_m10 7 rfl) rfl
theorem q2273 : (Jvm.Cond.methodLink "OfferSkyLaw" (336 : Nat) ({ cls := "OfferSkyModel", name := "toldShare", desc := "()D" } : Jvm.MethodName)) ∈ lw_all := lw_g (lw_at lw_m10 15 rfl) rfl
theorem q2277 : (Jvm.Cond.methodLink "OfferSkyLaw" (341 : Nat) ({ cls := "OfferSkyModel", name := "digest", desc := "()J" } : Jvm.MethodName)) ∈ lw_all := lw_g (lw_at lw_m10 19 rfl) rfl
