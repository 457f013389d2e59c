/-! OfferSkyModel -/
set_option maxRecDepth 100000
def RX5 : String := "OfferSkyModel"
def TX5 : u_T := fun k => match k with
  | 0 => ("OfferSkyModel", "row", "[I", true)
  | 1 => ("OfferSkyModel", "trial", "[I", true)
  | 2 => ("OfferSkyModel", "past", "[I", true)
  | 3 => ("OfferSkyModel", "slots", "[I", true)
  | 4 => ("OfferSkyModel", "buffer", "[I", true)
  | 5 => ("OfferSkyModel", "told", "[Z", true)
  | 6 => ("OfferSkyModel", "covered", "[Z", true)
  | 7 => ("OfferSkyModel", "layer", "[I", true)
  | 8 => ("OfferSkyModel", "taken", "[I", true)
  | 9 => ("OfferSkyModel", "takenMany", "I", false)
  | 10 => ("OfferSkyModel", "hasFirst", "Z", false)
  | 11 => ("OfferSkyModel", "hasSecond", "Z", false)
  | 12 => ("OfferSkyModel", "states", "I", false)
  | 13 => ("OfferSkyModel", "length", "I", false)
  | 14 => ("OfferSkyModel", "at", "I", false)
  | 15 => ("OfferSkyModel", "thrown", "I", false)
  | _ => ("OfferSkyModel", "hash", "J", false)
def tyX5 : Nat → FieldType := fun k => match k with
  | 0 => .array .int
  | 1 => .array .int
  | 2 => .array .int
  | 3 => .array .int
  | 4 => .array .int
  | 5 => .array .boolean
  | 6 => .array .boolean
  | 7 => .array .int
  | 8 => .array .int
  | 9 => .int
  | 10 => .boolean
  | 11 => .boolean
  | 12 => .int
  | 13 => .int
  | 14 => .int
  | 15 => .int
  | _ => .long
abbrev wsX50 : List Cond := u_ws RX5 TX5 17
set_option maxRecDepth 100000 in
theorem nmX5 : ∀ a, a < 17 → ∀ b, b < 17 → a ≠ b → (TX5 a).2.1 ≠ (TX5 b).2.1 := by decide +kernel
set_option maxRecDepth 100000 in
theorem tyX5_ok : ∀ k, k < 17 → parseFieldDescriptor (TX5 k).2.2.1 = some (tyX5 k) := by decide +kernel
abbrev cX5_init : ByteArray := prog_10_method_1_code
def yX5_init : MethodName := ⟨RX5, "<init>", "()V"⟩
def dkwX5_init_5 : List UInt8 := [167, 255, 225, 177]
abbrev dktX5_init_5 : List UInt8 := dkwX5_init_5 ++ []
def dkwX5_init_4 : List UInt8 := [17, 0, 169, 27, 96, 16, 99, 79, 42, 180, 0, 7, 17, 0, 173, 27, 96, 4, 79, 132, 1, 1]
abbrev dktX5_init_4 : List UInt8 := dkwX5_init_4 ++ dktX5_init_5
def dkwX5_init_3 : List UInt8 := [181, 0, 32, 42, 16, 40, 188, 10, 181, 0, 35, 3, 60, 27, 7, 162, 0, 32, 42, 180, 0, 7]
abbrev dktX5_init_3 : List UInt8 := dkwX5_init_3 ++ dktX5_init_4
def dkwX5_init_2 : List UInt8 := [181, 0, 22, 42, 16, 41, 188, 4, 181, 0, 25, 42, 16, 40, 188, 4, 181, 0, 29, 42, 16, 40, 188, 10]
abbrev dktX5_init_2 : List UInt8 := dkwX5_init_2 ++ dktX5_init_3
def dkwX5_init_1 : List UInt8 := [17, 4, 50, 188, 10, 181, 0, 16, 42, 17, 1, 102, 188, 10, 181, 0, 19, 42, 16, 60, 188, 10]
abbrev dktX5_init_1 : List UInt8 := dkwX5_init_1 ++ dktX5_init_2
def dkwX5_init_0 : List UInt8 := [42, 183, 0, 1, 42, 17, 0, 179, 188, 10, 181, 0, 7, 42, 17, 0, 179, 188, 10, 181, 0, 13, 42]
abbrev dktX5_init_0 : List UInt8 := dkwX5_init_0 ++ dktX5_init_1
theorem dksX5_init_0 : cX5_init.data.toList.drop 0 = dktX5_init_0 := by decide +kernel
theorem dksX5_init_1 : cX5_init.data.toList.drop 23 = dktX5_init_1 := dk_seg dksX5_init_0 23 rfl rfl
theorem dksX5_init_2 : cX5_init.data.toList.drop 45 = dktX5_init_2 := dk_seg dksX5_init_1 22 rfl rfl
theorem dksX5_init_3 : cX5_init.data.toList.drop 69 = dktX5_init_3 := dk_seg dksX5_init_2 24 rfl rfl
theorem dksX5_init_4 : cX5_init.data.toList.drop 91 = dktX5_init_4 := dk_seg dksX5_init_3 22 rfl rfl
theorem dksX5_init_5 : cX5_init.data.toList.drop 113 = dktX5_init_5 := dk_seg dksX5_init_4 22 rfl rfl
theorem dX5_init_0 : decode cX5_init 0 = .ok (.aload_n 0, 1) := dk_42 (dk_at dksX5_init_0 0 rfl rfl)
theorem dX5_init_1 : decode cX5_init 1 = .ok (.invokespecial 1, 3) := dk_183 0 1 (dk_at dksX5_init_0 1 rfl rfl)
theorem dX5_init_4 : decode cX5_init 4 = .ok (.aload_n 0, 1) := dk_42 (dk_at dksX5_init_0 4 rfl rfl)
theorem dX5_init_5 : decode cX5_init 5 = .ok (.sipush 179, 3) := dk_17 0 179 (dk_at dksX5_init_0 5 rfl rfl)
theorem dX5_init_8 : decode cX5_init 8 = .ok (.newarray .int, 2) := dk_188_10 (dk_at dksX5_init_0 8 rfl rfl)
theorem dX5_init_10 : decode cX5_init 10 = .ok (.putfield 7, 3) := dk_181 0 7 (dk_at dksX5_init_0 10 rfl rfl)
theorem dX5_init_13 : decode cX5_init 13 = .ok (.aload_n 0, 1) := dk_42 (dk_at dksX5_init_0 13 rfl rfl)
theorem dX5_init_14 : decode cX5_init 14 = .ok (.sipush 179, 3) := dk_17 0 179 (dk_at dksX5_init_0 14 rfl rfl)
theorem dX5_init_17 : decode cX5_init 17 = .ok (.newarray .int, 2) := dk_188_10 (dk_at dksX5_init_0 17 rfl rfl)
theorem dX5_init_19 : decode cX5_init 19 = .ok (.putfield 13, 3) := dk_181 0 13 (dk_at dksX5_init_0 19 rfl rfl)
theorem dX5_init_22 : decode cX5_init 22 = .ok (.aload_n 0, 1) := dk_42 (dk_at dksX5_init_0 22 rfl rfl)
theorem dX5_init_23 : decode cX5_init 23 = .ok (.sipush 1074, 3) := dk_17 4 50 (dk_at dksX5_init_1 0 rfl rfl)
theorem dX5_init_26 : decode cX5_init 26 = .ok (.newarray .int, 2) := dk_188_10 (dk_at dksX5_init_1 3 rfl rfl)
theorem dX5_init_28 : decode cX5_init 28 = .ok (.putfield 16, 3) := dk_181 0 16 (dk_at dksX5_init_1 5 rfl rfl)
theorem dX5_init_31 : decode cX5_init 31 = .ok (.aload_n 0, 1) := dk_42 (dk_at dksX5_init_1 8 rfl rfl)
theorem dX5_init_32 : decode cX5_init 32 = .ok (.sipush 358, 3) := dk_17 1 102 (dk_at dksX5_init_1 9 rfl rfl)
theorem dX5_init_35 : decode cX5_init 35 = .ok (.newarray .int, 2) := dk_188_10 (dk_at dksX5_init_1 12 rfl rfl)
theorem dX5_init_37 : decode cX5_init 37 = .ok (.putfield 19, 3) := dk_181 0 19 (dk_at dksX5_init_1 14 rfl rfl)
theorem dX5_init_40 : decode cX5_init 40 = .ok (.aload_n 0, 1) := dk_42 (dk_at dksX5_init_1 17 rfl rfl)
theorem dX5_init_41 : decode cX5_init 41 = .ok (.bipush 60, 2) := dk_16 60 (dk_at dksX5_init_1 18 rfl rfl)
theorem dX5_init_43 : decode cX5_init 43 = .ok (.newarray .int, 2) := dk_188_10 (dk_at dksX5_init_1 20 rfl rfl)
theorem dX5_init_45 : decode cX5_init 45 = .ok (.putfield 22, 3) := dk_181 0 22 (dk_at dksX5_init_2 0 rfl rfl)
theorem dX5_init_48 : decode cX5_init 48 = .ok (.aload_n 0, 1) := dk_42 (dk_at dksX5_init_2 3 rfl rfl)
theorem dX5_init_49 : decode cX5_init 49 = .ok (.bipush 41, 2) := dk_16 41 (dk_at dksX5_init_2 4 rfl rfl)
theorem dX5_init_51 : decode cX5_init 51 = .ok (.newarray .boolean, 2) := dk_188_4 (dk_at dksX5_init_2 6 rfl rfl)
theorem dX5_init_53 : decode cX5_init 53 = .ok (.putfield 25, 3) := dk_181 0 25 (dk_at dksX5_init_2 8 rfl rfl)
theorem dX5_init_56 : decode cX5_init 56 = .ok (.aload_n 0, 1) := dk_42 (dk_at dksX5_init_2 11 rfl rfl)
theorem dX5_init_57 : decode cX5_init 57 = .ok (.bipush 40, 2) := dk_16 40 (dk_at dksX5_init_2 12 rfl rfl)
theorem dX5_init_59 : decode cX5_init 59 = .ok (.newarray .boolean, 2) := dk_188_4 (dk_at dksX5_init_2 14 rfl rfl)
theorem dX5_init_61 : decode cX5_init 61 = .ok (.putfield 29, 3) := dk_181 0 29 (dk_at dksX5_init_2 16 rfl rfl)
theorem dX5_init_64 : decode cX5_init 64 = .ok (.aload_n 0, 1) := dk_42 (dk_at dksX5_init_2 19 rfl rfl)
theorem dX5_init_65 : decode cX5_init 65 = .ok (.bipush 40, 2) := dk_16 40 (dk_at dksX5_init_2 20 rfl rfl)
theorem dX5_init_67 : decode cX5_init 67 = .ok (.newarray .int, 2) := dk_188_10 (dk_at dksX5_init_2 22 rfl rfl)
theorem dX5_init_69 : decode cX5_init 69 = .ok (.putfield 32, 3) := dk_181 0 32 (dk_at dksX5_init_3 0 rfl rfl)
theorem dX5_init_72 : decode cX5_init 72 = .ok (.aload_n 0, 1) := dk_42 (dk_at dksX5_init_3 3 rfl rfl)
theorem dX5_init_73 : decode cX5_init 73 = .ok (.bipush 40, 2) := dk_16 40 (dk_at dksX5_init_3 4 rfl rfl)
theorem dX5_init_75 : decode cX5_init 75 = .ok (.newarray .int, 2) := dk_188_10 (dk_at dksX5_init_3 6 rfl rfl)
theorem dX5_init_77 : decode cX5_init 77 = .ok (.putfield 35, 3) := dk_181 0 35 (dk_at dksX5_init_3 8 rfl rfl)
theorem dX5_init_80 : decode cX5_init 80 = .ok (.iconst 0, 1) := dk_3 (dk_at dksX5_init_3 11 rfl rfl)
theorem dX5_init_81 : decode cX5_init 81 = .ok (.istore_n 1, 1) := dk_60 (dk_at dksX5_init_3 12 rfl rfl)
theorem dX5_init_82 : decode cX5_init 82 = .ok (.iload_n 1, 1) := dk_27 (dk_at dksX5_init_3 13 rfl rfl)
theorem dX5_init_83 : decode cX5_init 83 = .ok (.iconst 4, 1) := dk_7 (dk_at dksX5_init_3 14 rfl rfl)
theorem dX5_init_84 : decode cX5_init 84 = .ok (.if_icmp .ge 32, 3) := dk_162 0 32 (dk_at dksX5_init_3 15 rfl rfl)
theorem dX5_init_87 : decode cX5_init 87 = .ok (.aload_n 0, 1) := dk_42 (dk_at dksX5_init_3 18 rfl rfl)
theorem dX5_init_88 : decode cX5_init 88 = .ok (.getfield 7, 3) := dk_180 0 7 (dk_at dksX5_init_3 19 rfl rfl)
theorem dX5_init_91 : decode cX5_init 91 = .ok (.sipush 169, 3) := dk_17 0 169 (dk_at dksX5_init_4 0 rfl rfl)
theorem dX5_init_94 : decode cX5_init 94 = .ok (.iload_n 1, 1) := dk_27 (dk_at dksX5_init_4 3 rfl rfl)
theorem dX5_init_95 : decode cX5_init 95 = .ok (.iadd, 1) := dk_96 (dk_at dksX5_init_4 4 rfl rfl)
theorem dX5_init_96 : decode cX5_init 96 = .ok (.bipush 99, 2) := dk_16 99 (dk_at dksX5_init_4 5 rfl rfl)
theorem dX5_init_98 : decode cX5_init 98 = .ok (.iastore, 1) := dk_79 (dk_at dksX5_init_4 7 rfl rfl)
theorem dX5_init_99 : decode cX5_init 99 = .ok (.aload_n 0, 1) := dk_42 (dk_at dksX5_init_4 8 rfl rfl)
theorem dX5_init_100 : decode cX5_init 100 = .ok (.getfield 7, 3) := dk_180 0 7 (dk_at dksX5_init_4 9 rfl rfl)
theorem dX5_init_103 : decode cX5_init 103 = .ok (.sipush 173, 3) := dk_17 0 173 (dk_at dksX5_init_4 12 rfl rfl)
theorem dX5_init_106 : decode cX5_init 106 = .ok (.iload_n 1, 1) := dk_27 (dk_at dksX5_init_4 15 rfl rfl)
theorem dX5_init_107 : decode cX5_init 107 = .ok (.iadd, 1) := dk_96 (dk_at dksX5_init_4 16 rfl rfl)
theorem dX5_init_108 : decode cX5_init 108 = .ok (.iconst 1, 1) := dk_4 (dk_at dksX5_init_4 17 rfl rfl)
theorem dX5_init_109 : decode cX5_init 109 = .ok (.iastore, 1) := dk_79 (dk_at dksX5_init_4 18 rfl rfl)
theorem dX5_init_110 : decode cX5_init 110 = .ok (.iinc 1 1, 3) := dk_132 1 1 (dk_at dksX5_init_4 19 rfl rfl)
theorem dX5_init_113 : decode cX5_init 113 = .ok (.goto (-31), 3) := dk_167 255 225 (dk_at dksX5_init_5 0 rfl rfl)
theorem dX5_init_116 : decode cX5_init 116 = .ok (.return_, 1) := dk_177 (dk_at dksX5_init_5 3 rfl rfl)
abbrev cX5_thrown : ByteArray := prog_10_method_2_code
def yX5_thrown : MethodName := ⟨RX5, "thrown", "()I"⟩
theorem dX5_thrown_0 : decode cX5_thrown 0 = .ok (.aload_n 0, 1) := by decide +kernel
theorem dX5_thrown_1 : decode cX5_thrown 1 = .ok (.getfield 38, 3) := by decide +kernel
theorem dX5_thrown_4 : decode cX5_thrown 4 = .ok (.ireturn, 1) := by decide +kernel
abbrev cX5_add : ByteArray := prog_10_method_30_code
def yX5_add : MethodName := ⟨RX5, "add", "(IIII)I"⟩
def dkwX5_add_2 : List UInt8 := [182, 0, 95, 42, 27, 28, 29, 21, 4, 182, 0, 98, 172]
abbrev dktX5_add_2 : List UInt8 := dkwX5_add_2 ++ []
def dkwX5_add_1 : List UInt8 := [16, 40, 160, 0, 7, 5, 167, 0, 4, 3, 181, 0, 38, 42, 180, 0, 38, 153, 0, 5, 3, 172, 42]
abbrev dktX5_add_1 : List UInt8 := dkwX5_add_1 ++ dktX5_add_2
def dkwX5_add_0 : List UInt8 := [42, 27, 28, 29, 21, 4, 184, 0, 91, 153, 0, 7, 4, 167, 0, 21, 42, 180, 0, 7, 17, 0, 160, 46]
abbrev dktX5_add_0 : List UInt8 := dkwX5_add_0 ++ dktX5_add_1
theorem dksX5_add_0 : cX5_add.data.toList.drop 0 = dktX5_add_0 := by decide +kernel
theorem dksX5_add_1 : cX5_add.data.toList.drop 24 = dktX5_add_1 := dk_seg dksX5_add_0 24 rfl rfl
theorem dksX5_add_2 : cX5_add.data.toList.drop 47 = dktX5_add_2 := dk_seg dksX5_add_1 23 rfl rfl
theorem dX5_add_0 : decode cX5_add 0 = .ok (.aload_n 0, 1) := dk_42 (dk_at dksX5_add_0 0 rfl rfl)
theorem dX5_add_1 : decode cX5_add 1 = .ok (.iload_n 1, 1) := dk_27 (dk_at dksX5_add_0 1 rfl rfl)
theorem dX5_add_2 : decode cX5_add 2 = .ok (.iload_n 2, 1) := dk_28 (dk_at dksX5_add_0 2 rfl rfl)
theorem dX5_add_3 : decode cX5_add 3 = .ok (.iload_n 3, 1) := dk_29 (dk_at dksX5_add_0 3 rfl rfl)
theorem dX5_add_4 : decode cX5_add 4 = .ok (.iload 4, 2) := dk_21 4 (dk_at dksX5_add_0 4 rfl rfl)
theorem dX5_add_6 : decode cX5_add 6 = .ok (.invokestatic 91, 3) := dk_184 0 91 (dk_at dksX5_add_0 6 rfl rfl)
theorem dX5_add_9 : decode cX5_add 9 = .ok (.ifCond .eq 7, 3) := dk_153 0 7 (dk_at dksX5_add_0 9 rfl rfl)
theorem dX5_add_12 : decode cX5_add 12 = .ok (.iconst 1, 1) := dk_4 (dk_at dksX5_add_0 12 rfl rfl)
theorem dX5_add_13 : decode cX5_add 13 = .ok (.goto 21, 3) := dk_167 0 21 (dk_at dksX5_add_0 13 rfl rfl)
theorem dX5_add_16 : decode cX5_add 16 = .ok (.aload_n 0, 1) := dk_42 (dk_at dksX5_add_0 16 rfl rfl)
theorem dX5_add_17 : decode cX5_add 17 = .ok (.getfield 7, 3) := dk_180 0 7 (dk_at dksX5_add_0 17 rfl rfl)
theorem dX5_add_20 : decode cX5_add 20 = .ok (.sipush 160, 3) := dk_17 0 160 (dk_at dksX5_add_0 20 rfl rfl)
theorem dX5_add_23 : decode cX5_add 23 = .ok (.iaload, 1) := dk_46 (dk_at dksX5_add_0 23 rfl rfl)
theorem dX5_add_24 : decode cX5_add 24 = .ok (.bipush 40, 2) := dk_16 40 (dk_at dksX5_add_1 0 rfl rfl)
theorem dX5_add_26 : decode cX5_add 26 = .ok (.if_icmp .ne 7, 3) := dk_160 0 7 (dk_at dksX5_add_1 2 rfl rfl)
theorem dX5_add_29 : decode cX5_add 29 = .ok (.iconst 2, 1) := dk_5 (dk_at dksX5_add_1 5 rfl rfl)
theorem dX5_add_30 : decode cX5_add 30 = .ok (.goto 4, 3) := dk_167 0 4 (dk_at dksX5_add_1 6 rfl rfl)
theorem dX5_add_33 : decode cX5_add 33 = .ok (.iconst 0, 1) := dk_3 (dk_at dksX5_add_1 9 rfl rfl)
theorem dX5_add_34 : decode cX5_add 34 = .ok (.putfield 38, 3) := dk_181 0 38 (dk_at dksX5_add_1 10 rfl rfl)
theorem dX5_add_37 : decode cX5_add 37 = .ok (.aload_n 0, 1) := dk_42 (dk_at dksX5_add_1 13 rfl rfl)
theorem dX5_add_38 : decode cX5_add 38 = .ok (.getfield 38, 3) := dk_180 0 38 (dk_at dksX5_add_1 14 rfl rfl)
theorem dX5_add_41 : decode cX5_add 41 = .ok (.ifCond .eq 5, 3) := dk_153 0 5 (dk_at dksX5_add_1 17 rfl rfl)
theorem dX5_add_44 : decode cX5_add 44 = .ok (.iconst 0, 1) := dk_3 (dk_at dksX5_add_1 20 rfl rfl)
theorem dX5_add_45 : decode cX5_add 45 = .ok (.ireturn, 1) := dk_172 (dk_at dksX5_add_1 21 rfl rfl)
theorem dX5_add_46 : decode cX5_add 46 = .ok (.aload_n 0, 1) := dk_42 (dk_at dksX5_add_1 22 rfl rfl)
theorem dX5_add_47 : decode cX5_add 47 = .ok (.invokevirtual 95, 3) := dk_182 0 95 (dk_at dksX5_add_2 0 rfl rfl)
theorem dX5_add_50 : decode cX5_add 50 = .ok (.aload_n 0, 1) := dk_42 (dk_at dksX5_add_2 3 rfl rfl)
theorem dX5_add_51 : decode cX5_add 51 = .ok (.iload_n 1, 1) := dk_27 (dk_at dksX5_add_2 4 rfl rfl)
theorem dX5_add_52 : decode cX5_add 52 = .ok (.iload_n 2, 1) := dk_28 (dk_at dksX5_add_2 5 rfl rfl)
theorem dX5_add_53 : decode cX5_add 53 = .ok (.iload_n 3, 1) := dk_29 (dk_at dksX5_add_2 6 rfl rfl)
theorem dX5_add_54 : decode cX5_add 54 = .ok (.iload 4, 2) := dk_21 4 (dk_at dksX5_add_2 7 rfl rfl)
theorem dX5_add_56 : decode cX5_add 56 = .ok (.invokevirtual 98, 3) := dk_182 0 98 (dk_at dksX5_add_2 9 rfl rfl)
theorem dX5_add_59 : decode cX5_add 59 = .ok (.ireturn, 1) := dk_172 (dk_at dksX5_add_2 12 rfl rfl)
abbrev cX5_areNoValues : ByteArray := prog_10_method_29_code
def yX5_areNoValues : MethodName := ⟨RX5, "areNoValues", "(IIII)Z"⟩
def dkwX5_areNoValues_1 : List UInt8 := [184, 0, 88, 153, 0, 7, 4, 167, 0, 4, 3, 172]
abbrev dktX5_areNoValues_1 : List UInt8 := dkwX5_areNoValues_1 ++ []
def dkwX5_areNoValues_0 : List UInt8 := [26, 184, 0, 88, 154, 0, 24, 27, 184, 0, 88, 154, 0, 17, 28, 184, 0, 88, 154, 0, 10, 29]
abbrev dktX5_areNoValues_0 : List UInt8 := dkwX5_areNoValues_0 ++ dktX5_areNoValues_1
theorem dksX5_areNoValues_0 : cX5_areNoValues.data.toList.drop 0 = dktX5_areNoValues_0 := by decide +kernel
theorem dksX5_areNoValues_1 : cX5_areNoValues.data.toList.drop 22 = dktX5_areNoValues_1 := dk_seg dksX5_areNoValues_0 22 rfl rfl
theorem dX5_areNoValues_0 : decode cX5_areNoValues 0 = .ok (.iload_n 0, 1) := dk_26 (dk_at dksX5_areNoValues_0 0 rfl rfl)
theorem dX5_areNoValues_1 : decode cX5_areNoValues 1 = .ok (.invokestatic 88, 3) := dk_184 0 88 (dk_at dksX5_areNoValues_0 1 rfl rfl)
theorem dX5_areNoValues_4 : decode cX5_areNoValues 4 = .ok (.ifCond .ne 24, 3) := dk_154 0 24 (dk_at dksX5_areNoValues_0 4 rfl rfl)
theorem dX5_areNoValues_7 : decode cX5_areNoValues 7 = .ok (.iload_n 1, 1) := dk_27 (dk_at dksX5_areNoValues_0 7 rfl rfl)
theorem dX5_areNoValues_8 : decode cX5_areNoValues 8 = .ok (.invokestatic 88, 3) := dk_184 0 88 (dk_at dksX5_areNoValues_0 8 rfl rfl)
theorem dX5_areNoValues_11 : decode cX5_areNoValues 11 = .ok (.ifCond .ne 17, 3) := dk_154 0 17 (dk_at dksX5_areNoValues_0 11 rfl rfl)
theorem dX5_areNoValues_14 : decode cX5_areNoValues 14 = .ok (.iload_n 2, 1) := dk_28 (dk_at dksX5_areNoValues_0 14 rfl rfl)
theorem dX5_areNoValues_15 : decode cX5_areNoValues 15 = .ok (.invokestatic 88, 3) := dk_184 0 88 (dk_at dksX5_areNoValues_0 15 rfl rfl)
theorem dX5_areNoValues_18 : decode cX5_areNoValues 18 = .ok (.ifCond .ne 10, 3) := dk_154 0 10 (dk_at dksX5_areNoValues_0 18 rfl rfl)
theorem dX5_areNoValues_21 : decode cX5_areNoValues 21 = .ok (.iload_n 3, 1) := dk_29 (dk_at dksX5_areNoValues_0 21 rfl rfl)
theorem dX5_areNoValues_22 : decode cX5_areNoValues 22 = .ok (.invokestatic 88, 3) := dk_184 0 88 (dk_at dksX5_areNoValues_1 0 rfl rfl)
theorem dX5_areNoValues_25 : decode cX5_areNoValues 25 = .ok (.ifCond .eq 7, 3) := dk_153 0 7 (dk_at dksX5_areNoValues_1 3 rfl rfl)
theorem dX5_areNoValues_28 : decode cX5_areNoValues 28 = .ok (.iconst 1, 1) := dk_4 (dk_at dksX5_areNoValues_1 6 rfl rfl)
theorem dX5_areNoValues_29 : decode cX5_areNoValues 29 = .ok (.goto 4, 3) := dk_167 0 4 (dk_at dksX5_areNoValues_1 7 rfl rfl)
theorem dX5_areNoValues_32 : decode cX5_areNoValues 32 = .ok (.iconst 0, 1) := dk_3 (dk_at dksX5_areNoValues_1 10 rfl rfl)
theorem dX5_areNoValues_33 : decode cX5_areNoValues 33 = .ok (.ireturn, 1) := dk_172 (dk_at dksX5_areNoValues_1 11 rfl rfl)
abbrev cX5_isNoValue : ByteArray := prog_10_method_7_code
def yX5_isNoValue : MethodName := ⟨RX5, "isNoValue", "(I)Z"⟩
def dkwX5_isNoValue_0 : List UInt8 := [26, 3, 16, 99, 184, 0, 42, 154, 0, 7, 4, 167, 0, 4, 3, 172]
abbrev dktX5_isNoValue_0 : List UInt8 := dkwX5_isNoValue_0 ++ []
theorem dksX5_isNoValue_0 : cX5_isNoValue.data.toList.drop 0 = dktX5_isNoValue_0 := by decide +kernel
theorem dX5_isNoValue_0 : decode cX5_isNoValue 0 = .ok (.iload_n 0, 1) := dk_26 (dk_at dksX5_isNoValue_0 0 rfl rfl)
theorem dX5_isNoValue_1 : decode cX5_isNoValue 1 = .ok (.iconst 0, 1) := dk_3 (dk_at dksX5_isNoValue_0 1 rfl rfl)
theorem dX5_isNoValue_2 : decode cX5_isNoValue 2 = .ok (.bipush 99, 2) := dk_16 99 (dk_at dksX5_isNoValue_0 2 rfl rfl)
theorem dX5_isNoValue_4 : decode cX5_isNoValue 4 = .ok (.invokestatic 42, 3) := dk_184 0 42 (dk_at dksX5_isNoValue_0 4 rfl rfl)
theorem dX5_isNoValue_7 : decode cX5_isNoValue 7 = .ok (.ifCond .ne 7, 3) := dk_154 0 7 (dk_at dksX5_isNoValue_0 7 rfl rfl)
theorem dX5_isNoValue_10 : decode cX5_isNoValue 10 = .ok (.iconst 1, 1) := dk_4 (dk_at dksX5_isNoValue_0 10 rfl rfl)
theorem dX5_isNoValue_11 : decode cX5_isNoValue 11 = .ok (.goto 4, 3) := dk_167 0 4 (dk_at dksX5_isNoValue_0 11 rfl rfl)
theorem dX5_isNoValue_14 : decode cX5_isNoValue 14 = .ok (.iconst 0, 1) := dk_3 (dk_at dksX5_isNoValue_0 14 rfl rfl)
theorem dX5_isNoValue_15 : decode cX5_isNoValue 15 = .ok (.ireturn, 1) := dk_172 (dk_at dksX5_isNoValue_0 15 rfl rfl)
abbrev cX5_in : ByteArray := prog_10_method_4_code
def yX5_in : MethodName := ⟨RX5, "in", "(III)Z"⟩
def dkwX5_in_0 : List UInt8 := [26, 27, 161, 0, 12, 26, 28, 163, 0, 7, 4, 167, 0, 4, 3, 172]
abbrev dktX5_in_0 : List UInt8 := dkwX5_in_0 ++ []
theorem dksX5_in_0 : cX5_in.data.toList.drop 0 = dktX5_in_0 := by decide +kernel
theorem dX5_in_0 : decode cX5_in 0 = .ok (.iload_n 0, 1) := dk_26 (dk_at dksX5_in_0 0 rfl rfl)
theorem dX5_in_1 : decode cX5_in 1 = .ok (.iload_n 1, 1) := dk_27 (dk_at dksX5_in_0 1 rfl rfl)
theorem dX5_in_2 : decode cX5_in 2 = .ok (.if_icmp .lt 12, 3) := dk_161 0 12 (dk_at dksX5_in_0 2 rfl rfl)
theorem dX5_in_5 : decode cX5_in 5 = .ok (.iload_n 0, 1) := dk_26 (dk_at dksX5_in_0 5 rfl rfl)
theorem dX5_in_6 : decode cX5_in 6 = .ok (.iload_n 2, 1) := dk_28 (dk_at dksX5_in_0 6 rfl rfl)
theorem dX5_in_7 : decode cX5_in 7 = .ok (.if_icmp .gt 7, 3) := dk_163 0 7 (dk_at dksX5_in_0 7 rfl rfl)
theorem dX5_in_10 : decode cX5_in 10 = .ok (.iconst 1, 1) := dk_4 (dk_at dksX5_in_0 10 rfl rfl)
theorem dX5_in_11 : decode cX5_in 11 = .ok (.goto 4, 3) := dk_167 0 4 (dk_at dksX5_in_0 11 rfl rfl)
theorem dX5_in_14 : decode cX5_in 14 = .ok (.iconst 0, 1) := dk_3 (dk_at dksX5_in_0 14 rfl rfl)
theorem dX5_in_15 : decode cX5_in 15 = .ok (.ireturn, 1) := dk_172 (dk_at dksX5_in_0 15 rfl rfl)
abbrev cX5_record : ByteArray := prog_10_method_8_code
def yX5_record : MethodName := ⟨RX5, "record", "()V"⟩
def dkwX5_record_4 : List UInt8 := [181, 0, 46, 177]
abbrev dktX5_record_4 : List UInt8 := dkwX5_record_4 ++ []
def dkwX5_record_3 : List UInt8 := [27, 96, 42, 180, 0, 7, 27, 46, 79, 132, 1, 1, 167, 255, 225, 42, 89, 180, 0, 46, 4, 96]
abbrev dktX5_record_3 : List UInt8 := dkwX5_record_3 ++ dktX5_record_4
def dkwX5_record_2 : List UInt8 := [181, 0, 46, 3, 60, 27, 17, 0, 179, 162, 0, 30, 42, 180, 0, 16, 17, 0, 179, 42, 180, 0, 46, 104]
abbrev dktX5_record_2 : List UInt8 := dkwX5_record_2 ++ dktX5_record_3
def dkwX5_record_1 : List UInt8 := [180, 0, 16, 17, 0, 179, 27, 96, 46, 79, 132, 1, 1, 167, 255, 230, 42, 89, 180, 0, 46, 4, 100]
abbrev dktX5_record_1 : List UInt8 := dkwX5_record_1 ++ dktX5_record_2
def dkwX5_record_0 : List UInt8 := [42, 180, 0, 46, 16, 6, 160, 0, 44, 3, 60, 27, 17, 3, 127, 162, 0, 25, 42, 180, 0, 16, 27, 42]
abbrev dktX5_record_0 : List UInt8 := dkwX5_record_0 ++ dktX5_record_1
theorem dksX5_record_0 : cX5_record.data.toList.drop 0 = dktX5_record_0 := by decide +kernel
theorem dksX5_record_1 : cX5_record.data.toList.drop 24 = dktX5_record_1 := dk_seg dksX5_record_0 24 rfl rfl
theorem dksX5_record_2 : cX5_record.data.toList.drop 47 = dktX5_record_2 := dk_seg dksX5_record_1 23 rfl rfl
theorem dksX5_record_3 : cX5_record.data.toList.drop 71 = dktX5_record_3 := dk_seg dksX5_record_2 24 rfl rfl
theorem dksX5_record_4 : cX5_record.data.toList.drop 93 = dktX5_record_4 := dk_seg dksX5_record_3 22 rfl rfl
theorem dX5_record_0 : decode cX5_record 0 = .ok (.aload_n 0, 1) := dk_42 (dk_at dksX5_record_0 0 rfl rfl)
theorem dX5_record_1 : decode cX5_record 1 = .ok (.getfield 46, 3) := dk_180 0 46 (dk_at dksX5_record_0 1 rfl rfl)
theorem dX5_record_4 : decode cX5_record 4 = .ok (.bipush 6, 2) := dk_16 6 (dk_at dksX5_record_0 4 rfl rfl)
theorem dX5_record_6 : decode cX5_record 6 = .ok (.if_icmp .ne 44, 3) := dk_160 0 44 (dk_at dksX5_record_0 6 rfl rfl)
theorem dX5_record_9 : decode cX5_record 9 = .ok (.iconst 0, 1) := dk_3 (dk_at dksX5_record_0 9 rfl rfl)
theorem dX5_record_10 : decode cX5_record 10 = .ok (.istore_n 1, 1) := dk_60 (dk_at dksX5_record_0 10 rfl rfl)
theorem dX5_record_11 : decode cX5_record 11 = .ok (.iload_n 1, 1) := dk_27 (dk_at dksX5_record_0 11 rfl rfl)
theorem dX5_record_12 : decode cX5_record 12 = .ok (.sipush 895, 3) := dk_17 3 127 (dk_at dksX5_record_0 12 rfl rfl)
theorem dX5_record_15 : decode cX5_record 15 = .ok (.if_icmp .ge 25, 3) := dk_162 0 25 (dk_at dksX5_record_0 15 rfl rfl)
theorem dX5_record_18 : decode cX5_record 18 = .ok (.aload_n 0, 1) := dk_42 (dk_at dksX5_record_0 18 rfl rfl)
theorem dX5_record_19 : decode cX5_record 19 = .ok (.getfield 16, 3) := dk_180 0 16 (dk_at dksX5_record_0 19 rfl rfl)
theorem dX5_record_22 : decode cX5_record 22 = .ok (.iload_n 1, 1) := dk_27 (dk_at dksX5_record_0 22 rfl rfl)
theorem dX5_record_23 : decode cX5_record 23 = .ok (.aload_n 0, 1) := dk_42 (dk_at dksX5_record_0 23 rfl rfl)
theorem dX5_record_24 : decode cX5_record 24 = .ok (.getfield 16, 3) := dk_180 0 16 (dk_at dksX5_record_1 0 rfl rfl)
theorem dX5_record_27 : decode cX5_record 27 = .ok (.sipush 179, 3) := dk_17 0 179 (dk_at dksX5_record_1 3 rfl rfl)
theorem dX5_record_30 : decode cX5_record 30 = .ok (.iload_n 1, 1) := dk_27 (dk_at dksX5_record_1 6 rfl rfl)
theorem dX5_record_31 : decode cX5_record 31 = .ok (.iadd, 1) := dk_96 (dk_at dksX5_record_1 7 rfl rfl)
theorem dX5_record_32 : decode cX5_record 32 = .ok (.iaload, 1) := dk_46 (dk_at dksX5_record_1 8 rfl rfl)
theorem dX5_record_33 : decode cX5_record 33 = .ok (.iastore, 1) := dk_79 (dk_at dksX5_record_1 9 rfl rfl)
theorem dX5_record_34 : decode cX5_record 34 = .ok (.iinc 1 1, 3) := dk_132 1 1 (dk_at dksX5_record_1 10 rfl rfl)
theorem dX5_record_37 : decode cX5_record 37 = .ok (.goto (-26), 3) := dk_167 255 230 (dk_at dksX5_record_1 13 rfl rfl)
theorem dX5_record_40 : decode cX5_record 40 = .ok (.aload_n 0, 1) := dk_42 (dk_at dksX5_record_1 16 rfl rfl)
theorem dX5_record_41 : decode cX5_record 41 = .ok (.dup, 1) := dk_89 (dk_at dksX5_record_1 17 rfl rfl)
theorem dX5_record_42 : decode cX5_record 42 = .ok (.getfield 46, 3) := dk_180 0 46 (dk_at dksX5_record_1 18 rfl rfl)
theorem dX5_record_45 : decode cX5_record 45 = .ok (.iconst 1, 1) := dk_4 (dk_at dksX5_record_1 21 rfl rfl)
theorem dX5_record_46 : decode cX5_record 46 = .ok (.isub, 1) := dk_100 (dk_at dksX5_record_1 22 rfl rfl)
theorem dX5_record_47 : decode cX5_record 47 = .ok (.putfield 46, 3) := dk_181 0 46 (dk_at dksX5_record_2 0 rfl rfl)
theorem dX5_record_50 : decode cX5_record 50 = .ok (.iconst 0, 1) := dk_3 (dk_at dksX5_record_2 3 rfl rfl)
theorem dX5_record_51 : decode cX5_record 51 = .ok (.istore_n 1, 1) := dk_60 (dk_at dksX5_record_2 4 rfl rfl)
theorem dX5_record_52 : decode cX5_record 52 = .ok (.iload_n 1, 1) := dk_27 (dk_at dksX5_record_2 5 rfl rfl)
theorem dX5_record_53 : decode cX5_record 53 = .ok (.sipush 179, 3) := dk_17 0 179 (dk_at dksX5_record_2 6 rfl rfl)
theorem dX5_record_56 : decode cX5_record 56 = .ok (.if_icmp .ge 30, 3) := dk_162 0 30 (dk_at dksX5_record_2 9 rfl rfl)
theorem dX5_record_59 : decode cX5_record 59 = .ok (.aload_n 0, 1) := dk_42 (dk_at dksX5_record_2 12 rfl rfl)
theorem dX5_record_60 : decode cX5_record 60 = .ok (.getfield 16, 3) := dk_180 0 16 (dk_at dksX5_record_2 13 rfl rfl)
theorem dX5_record_63 : decode cX5_record 63 = .ok (.sipush 179, 3) := dk_17 0 179 (dk_at dksX5_record_2 16 rfl rfl)
theorem dX5_record_66 : decode cX5_record 66 = .ok (.aload_n 0, 1) := dk_42 (dk_at dksX5_record_2 19 rfl rfl)
theorem dX5_record_67 : decode cX5_record 67 = .ok (.getfield 46, 3) := dk_180 0 46 (dk_at dksX5_record_2 20 rfl rfl)
theorem dX5_record_70 : decode cX5_record 70 = .ok (.imul, 1) := dk_104 (dk_at dksX5_record_2 23 rfl rfl)
theorem dX5_record_71 : decode cX5_record 71 = .ok (.iload_n 1, 1) := dk_27 (dk_at dksX5_record_3 0 rfl rfl)
theorem dX5_record_72 : decode cX5_record 72 = .ok (.iadd, 1) := dk_96 (dk_at dksX5_record_3 1 rfl rfl)
theorem dX5_record_73 : decode cX5_record 73 = .ok (.aload_n 0, 1) := dk_42 (dk_at dksX5_record_3 2 rfl rfl)
theorem dX5_record_74 : decode cX5_record 74 = .ok (.getfield 7, 3) := dk_180 0 7 (dk_at dksX5_record_3 3 rfl rfl)
theorem dX5_record_77 : decode cX5_record 77 = .ok (.iload_n 1, 1) := dk_27 (dk_at dksX5_record_3 6 rfl rfl)
theorem dX5_record_78 : decode cX5_record 78 = .ok (.iaload, 1) := dk_46 (dk_at dksX5_record_3 7 rfl rfl)
theorem dX5_record_79 : decode cX5_record 79 = .ok (.iastore, 1) := dk_79 (dk_at dksX5_record_3 8 rfl rfl)
theorem dX5_record_80 : decode cX5_record 80 = .ok (.iinc 1 1, 3) := dk_132 1 1 (dk_at dksX5_record_3 9 rfl rfl)
theorem dX5_record_83 : decode cX5_record 83 = .ok (.goto (-31), 3) := dk_167 255 225 (dk_at dksX5_record_3 12 rfl rfl)
theorem dX5_record_86 : decode cX5_record 86 = .ok (.aload_n 0, 1) := dk_42 (dk_at dksX5_record_3 15 rfl rfl)
theorem dX5_record_87 : decode cX5_record 87 = .ok (.dup, 1) := dk_89 (dk_at dksX5_record_3 16 rfl rfl)
theorem dX5_record_88 : decode cX5_record 88 = .ok (.getfield 46, 3) := dk_180 0 46 (dk_at dksX5_record_3 17 rfl rfl)
theorem dX5_record_91 : decode cX5_record 91 = .ok (.iconst 1, 1) := dk_4 (dk_at dksX5_record_3 20 rfl rfl)
theorem dX5_record_92 : decode cX5_record 92 = .ok (.iadd, 1) := dk_96 (dk_at dksX5_record_3 21 rfl rfl)
theorem dX5_record_93 : decode cX5_record 93 = .ok (.putfield 46, 3) := dk_181 0 46 (dk_at dksX5_record_4 0 rfl rfl)
theorem dX5_record_96 : decode cX5_record 96 = .ok (.return_, 1) := dk_177 (dk_at dksX5_record_4 3 rfl rfl)
abbrev cX5_addNow : ByteArray := prog_10_method_28_code
def yX5_addNow : MethodName := ⟨RX5, "addNow", "(IIII)I"⟩
def dkwX5_addNow_3 : List UInt8 := [17, 0, 177, 92, 46, 4, 96, 79, 42, 180, 0, 7, 17, 0, 160, 46, 4, 100, 172]
abbrev dktX5_addNow_3 : List UInt8 := dkwX5_addNow_3 ++ []
def dkwX5_addNow_2 : List UInt8 := [21, 5, 6, 96, 21, 4, 79, 42, 180, 0, 7, 17, 0, 160, 92, 46, 4, 96, 79, 42, 180, 0, 7]
abbrev dktX5_addNow_2 : List UInt8 := dkwX5_addNow_2 ++ dktX5_addNow_3
def dkwX5_addNow_1 : List UInt8 := [180, 0, 7, 21, 5, 4, 96, 28, 79, 42, 180, 0, 7, 21, 5, 5, 96, 29, 79, 42, 180, 0, 7]
abbrev dktX5_addNow_1 : List UInt8 := dkwX5_addNow_1 ++ dktX5_addNow_2
def dkwX5_addNow_0 : List UInt8 := [3, 7, 42, 180, 0, 7, 17, 0, 160, 46, 104, 96, 54, 5, 42, 180, 0, 7, 21, 5, 27, 79, 42]
abbrev dktX5_addNow_0 : List UInt8 := dkwX5_addNow_0 ++ dktX5_addNow_1
theorem dksX5_addNow_0 : cX5_addNow.data.toList.drop 0 = dktX5_addNow_0 := by decide +kernel
theorem dksX5_addNow_1 : cX5_addNow.data.toList.drop 23 = dktX5_addNow_1 := dk_seg dksX5_addNow_0 23 rfl rfl
theorem dksX5_addNow_2 : cX5_addNow.data.toList.drop 46 = dktX5_addNow_2 := dk_seg dksX5_addNow_1 23 rfl rfl
theorem dksX5_addNow_3 : cX5_addNow.data.toList.drop 69 = dktX5_addNow_3 := dk_seg dksX5_addNow_2 23 rfl rfl
theorem dX5_addNow_0 : decode cX5_addNow 0 = .ok (.iconst 0, 1) := dk_3 (dk_at dksX5_addNow_0 0 rfl rfl)
theorem dX5_addNow_1 : decode cX5_addNow 1 = .ok (.iconst 4, 1) := dk_7 (dk_at dksX5_addNow_0 1 rfl rfl)
theorem dX5_addNow_2 : decode cX5_addNow 2 = .ok (.aload_n 0, 1) := dk_42 (dk_at dksX5_addNow_0 2 rfl rfl)
theorem dX5_addNow_3 : decode cX5_addNow 3 = .ok (.getfield 7, 3) := dk_180 0 7 (dk_at dksX5_addNow_0 3 rfl rfl)
theorem dX5_addNow_6 : decode cX5_addNow 6 = .ok (.sipush 160, 3) := dk_17 0 160 (dk_at dksX5_addNow_0 6 rfl rfl)
theorem dX5_addNow_9 : decode cX5_addNow 9 = .ok (.iaload, 1) := dk_46 (dk_at dksX5_addNow_0 9 rfl rfl)
theorem dX5_addNow_10 : decode cX5_addNow 10 = .ok (.imul, 1) := dk_104 (dk_at dksX5_addNow_0 10 rfl rfl)
theorem dX5_addNow_11 : decode cX5_addNow 11 = .ok (.iadd, 1) := dk_96 (dk_at dksX5_addNow_0 11 rfl rfl)
theorem dX5_addNow_12 : decode cX5_addNow 12 = .ok (.istore 5, 2) := dk_54 5 (dk_at dksX5_addNow_0 12 rfl rfl)
theorem dX5_addNow_14 : decode cX5_addNow 14 = .ok (.aload_n 0, 1) := dk_42 (dk_at dksX5_addNow_0 14 rfl rfl)
theorem dX5_addNow_15 : decode cX5_addNow 15 = .ok (.getfield 7, 3) := dk_180 0 7 (dk_at dksX5_addNow_0 15 rfl rfl)
theorem dX5_addNow_18 : decode cX5_addNow 18 = .ok (.iload 5, 2) := dk_21 5 (dk_at dksX5_addNow_0 18 rfl rfl)
theorem dX5_addNow_20 : decode cX5_addNow 20 = .ok (.iload_n 1, 1) := dk_27 (dk_at dksX5_addNow_0 20 rfl rfl)
theorem dX5_addNow_21 : decode cX5_addNow 21 = .ok (.iastore, 1) := dk_79 (dk_at dksX5_addNow_0 21 rfl rfl)
theorem dX5_addNow_22 : decode cX5_addNow 22 = .ok (.aload_n 0, 1) := dk_42 (dk_at dksX5_addNow_0 22 rfl rfl)
theorem dX5_addNow_23 : decode cX5_addNow 23 = .ok (.getfield 7, 3) := dk_180 0 7 (dk_at dksX5_addNow_1 0 rfl rfl)
theorem dX5_addNow_26 : decode cX5_addNow 26 = .ok (.iload 5, 2) := dk_21 5 (dk_at dksX5_addNow_1 3 rfl rfl)
theorem dX5_addNow_28 : decode cX5_addNow 28 = .ok (.iconst 1, 1) := dk_4 (dk_at dksX5_addNow_1 5 rfl rfl)
theorem dX5_addNow_29 : decode cX5_addNow 29 = .ok (.iadd, 1) := dk_96 (dk_at dksX5_addNow_1 6 rfl rfl)
theorem dX5_addNow_30 : decode cX5_addNow 30 = .ok (.iload_n 2, 1) := dk_28 (dk_at dksX5_addNow_1 7 rfl rfl)
theorem dX5_addNow_31 : decode cX5_addNow 31 = .ok (.iastore, 1) := dk_79 (dk_at dksX5_addNow_1 8 rfl rfl)
theorem dX5_addNow_32 : decode cX5_addNow 32 = .ok (.aload_n 0, 1) := dk_42 (dk_at dksX5_addNow_1 9 rfl rfl)
theorem dX5_addNow_33 : decode cX5_addNow 33 = .ok (.getfield 7, 3) := dk_180 0 7 (dk_at dksX5_addNow_1 10 rfl rfl)
theorem dX5_addNow_36 : decode cX5_addNow 36 = .ok (.iload 5, 2) := dk_21 5 (dk_at dksX5_addNow_1 13 rfl rfl)
theorem dX5_addNow_38 : decode cX5_addNow 38 = .ok (.iconst 2, 1) := dk_5 (dk_at dksX5_addNow_1 15 rfl rfl)
theorem dX5_addNow_39 : decode cX5_addNow 39 = .ok (.iadd, 1) := dk_96 (dk_at dksX5_addNow_1 16 rfl rfl)
theorem dX5_addNow_40 : decode cX5_addNow 40 = .ok (.iload_n 3, 1) := dk_29 (dk_at dksX5_addNow_1 17 rfl rfl)
theorem dX5_addNow_41 : decode cX5_addNow 41 = .ok (.iastore, 1) := dk_79 (dk_at dksX5_addNow_1 18 rfl rfl)
theorem dX5_addNow_42 : decode cX5_addNow 42 = .ok (.aload_n 0, 1) := dk_42 (dk_at dksX5_addNow_1 19 rfl rfl)
theorem dX5_addNow_43 : decode cX5_addNow 43 = .ok (.getfield 7, 3) := dk_180 0 7 (dk_at dksX5_addNow_1 20 rfl rfl)
theorem dX5_addNow_46 : decode cX5_addNow 46 = .ok (.iload 5, 2) := dk_21 5 (dk_at dksX5_addNow_2 0 rfl rfl)
theorem dX5_addNow_48 : decode cX5_addNow 48 = .ok (.iconst 3, 1) := dk_6 (dk_at dksX5_addNow_2 2 rfl rfl)
theorem dX5_addNow_49 : decode cX5_addNow 49 = .ok (.iadd, 1) := dk_96 (dk_at dksX5_addNow_2 3 rfl rfl)
theorem dX5_addNow_50 : decode cX5_addNow 50 = .ok (.iload 4, 2) := dk_21 4 (dk_at dksX5_addNow_2 4 rfl rfl)
theorem dX5_addNow_52 : decode cX5_addNow 52 = .ok (.iastore, 1) := dk_79 (dk_at dksX5_addNow_2 6 rfl rfl)
theorem dX5_addNow_53 : decode cX5_addNow 53 = .ok (.aload_n 0, 1) := dk_42 (dk_at dksX5_addNow_2 7 rfl rfl)
theorem dX5_addNow_54 : decode cX5_addNow 54 = .ok (.getfield 7, 3) := dk_180 0 7 (dk_at dksX5_addNow_2 8 rfl rfl)
theorem dX5_addNow_57 : decode cX5_addNow 57 = .ok (.sipush 160, 3) := dk_17 0 160 (dk_at dksX5_addNow_2 11 rfl rfl)
theorem dX5_addNow_60 : decode cX5_addNow 60 = .ok (.dup2, 1) := dk_92 (dk_at dksX5_addNow_2 14 rfl rfl)
theorem dX5_addNow_61 : decode cX5_addNow 61 = .ok (.iaload, 1) := dk_46 (dk_at dksX5_addNow_2 15 rfl rfl)
theorem dX5_addNow_62 : decode cX5_addNow 62 = .ok (.iconst 1, 1) := dk_4 (dk_at dksX5_addNow_2 16 rfl rfl)
theorem dX5_addNow_63 : decode cX5_addNow 63 = .ok (.iadd, 1) := dk_96 (dk_at dksX5_addNow_2 17 rfl rfl)
theorem dX5_addNow_64 : decode cX5_addNow 64 = .ok (.iastore, 1) := dk_79 (dk_at dksX5_addNow_2 18 rfl rfl)
theorem dX5_addNow_65 : decode cX5_addNow 65 = .ok (.aload_n 0, 1) := dk_42 (dk_at dksX5_addNow_2 19 rfl rfl)
theorem dX5_addNow_66 : decode cX5_addNow 66 = .ok (.getfield 7, 3) := dk_180 0 7 (dk_at dksX5_addNow_2 20 rfl rfl)
theorem dX5_addNow_69 : decode cX5_addNow 69 = .ok (.sipush 177, 3) := dk_17 0 177 (dk_at dksX5_addNow_3 0 rfl rfl)
theorem dX5_addNow_72 : decode cX5_addNow 72 = .ok (.dup2, 1) := dk_92 (dk_at dksX5_addNow_3 3 rfl rfl)
theorem dX5_addNow_73 : decode cX5_addNow 73 = .ok (.iaload, 1) := dk_46 (dk_at dksX5_addNow_3 4 rfl rfl)
theorem dX5_addNow_74 : decode cX5_addNow 74 = .ok (.iconst 1, 1) := dk_4 (dk_at dksX5_addNow_3 5 rfl rfl)
theorem dX5_addNow_75 : decode cX5_addNow 75 = .ok (.iadd, 1) := dk_96 (dk_at dksX5_addNow_3 6 rfl rfl)
theorem dX5_addNow_76 : decode cX5_addNow 76 = .ok (.iastore, 1) := dk_79 (dk_at dksX5_addNow_3 7 rfl rfl)
theorem dX5_addNow_77 : decode cX5_addNow 77 = .ok (.aload_n 0, 1) := dk_42 (dk_at dksX5_addNow_3 8 rfl rfl)
theorem dX5_addNow_78 : decode cX5_addNow 78 = .ok (.getfield 7, 3) := dk_180 0 7 (dk_at dksX5_addNow_3 9 rfl rfl)
theorem dX5_addNow_81 : decode cX5_addNow 81 = .ok (.sipush 160, 3) := dk_17 0 160 (dk_at dksX5_addNow_3 12 rfl rfl)
theorem dX5_addNow_84 : decode cX5_addNow 84 = .ok (.iaload, 1) := dk_46 (dk_at dksX5_addNow_3 15 rfl rfl)
theorem dX5_addNow_85 : decode cX5_addNow 85 = .ok (.iconst 1, 1) := dk_4 (dk_at dksX5_addNow_3 16 rfl rfl)
theorem dX5_addNow_86 : decode cX5_addNow 86 = .ok (.isub, 1) := dk_100 (dk_at dksX5_addNow_3 17 rfl rfl)
theorem dX5_addNow_87 : decode cX5_addNow 87 = .ok (.ireturn, 1) := dk_172 (dk_at dksX5_addNow_3 18 rfl rfl)
abbrev cX5_remove : ByteArray := prog_10_method_32_code
def yX5_remove : MethodName := ⟨RX5, "remove", "(I)I"⟩
def dkwX5_remove_1 : List UInt8 := [27, 182, 0, 108, 42, 180, 0, 7, 17, 0, 160, 46, 172]
abbrev dktX5_remove_1 : List UInt8 := dkwX5_remove_1 ++ []
def dkwX5_remove_0 : List UInt8 := [42, 3, 181, 0, 38, 42, 27, 182, 0, 102, 153, 0, 9, 42, 4, 182, 0, 105, 172, 42, 182, 0, 95, 42]
abbrev dktX5_remove_0 : List UInt8 := dkwX5_remove_0 ++ dktX5_remove_1
theorem dksX5_remove_0 : cX5_remove.data.toList.drop 0 = dktX5_remove_0 := by decide +kernel
theorem dksX5_remove_1 : cX5_remove.data.toList.drop 24 = dktX5_remove_1 := dk_seg dksX5_remove_0 24 rfl rfl
theorem dX5_remove_0 : decode cX5_remove 0 = .ok (.aload_n 0, 1) := dk_42 (dk_at dksX5_remove_0 0 rfl rfl)
theorem dX5_remove_1 : decode cX5_remove 1 = .ok (.iconst 0, 1) := dk_3 (dk_at dksX5_remove_0 1 rfl rfl)
theorem dX5_remove_2 : decode cX5_remove 2 = .ok (.putfield 38, 3) := dk_181 0 38 (dk_at dksX5_remove_0 2 rfl rfl)
theorem dX5_remove_5 : decode cX5_remove 5 = .ok (.aload_n 0, 1) := dk_42 (dk_at dksX5_remove_0 5 rfl rfl)
theorem dX5_remove_6 : decode cX5_remove 6 = .ok (.iload_n 1, 1) := dk_27 (dk_at dksX5_remove_0 6 rfl rfl)
theorem dX5_remove_7 : decode cX5_remove 7 = .ok (.invokevirtual 102, 3) := dk_182 0 102 (dk_at dksX5_remove_0 7 rfl rfl)
theorem dX5_remove_10 : decode cX5_remove 10 = .ok (.ifCond .eq 9, 3) := dk_153 0 9 (dk_at dksX5_remove_0 10 rfl rfl)
theorem dX5_remove_13 : decode cX5_remove 13 = .ok (.aload_n 0, 1) := dk_42 (dk_at dksX5_remove_0 13 rfl rfl)
theorem dX5_remove_14 : decode cX5_remove 14 = .ok (.iconst 1, 1) := dk_4 (dk_at dksX5_remove_0 14 rfl rfl)
theorem dX5_remove_15 : decode cX5_remove 15 = .ok (.invokevirtual 105, 3) := dk_182 0 105 (dk_at dksX5_remove_0 15 rfl rfl)
theorem dX5_remove_18 : decode cX5_remove 18 = .ok (.ireturn, 1) := dk_172 (dk_at dksX5_remove_0 18 rfl rfl)
theorem dX5_remove_19 : decode cX5_remove 19 = .ok (.aload_n 0, 1) := dk_42 (dk_at dksX5_remove_0 19 rfl rfl)
theorem dX5_remove_20 : decode cX5_remove 20 = .ok (.invokevirtual 95, 3) := dk_182 0 95 (dk_at dksX5_remove_0 20 rfl rfl)
theorem dX5_remove_23 : decode cX5_remove 23 = .ok (.aload_n 0, 1) := dk_42 (dk_at dksX5_remove_0 23 rfl rfl)
theorem dX5_remove_24 : decode cX5_remove 24 = .ok (.iload_n 1, 1) := dk_27 (dk_at dksX5_remove_1 0 rfl rfl)
theorem dX5_remove_25 : decode cX5_remove 25 = .ok (.invokevirtual 108, 3) := dk_182 0 108 (dk_at dksX5_remove_1 1 rfl rfl)
theorem dX5_remove_28 : decode cX5_remove 28 = .ok (.aload_n 0, 1) := dk_42 (dk_at dksX5_remove_1 4 rfl rfl)
theorem dX5_remove_29 : decode cX5_remove 29 = .ok (.getfield 7, 3) := dk_180 0 7 (dk_at dksX5_remove_1 5 rfl rfl)
theorem dX5_remove_32 : decode cX5_remove 32 = .ok (.sipush 160, 3) := dk_17 0 160 (dk_at dksX5_remove_1 8 rfl rfl)
theorem dX5_remove_35 : decode cX5_remove 35 = .ok (.iaload, 1) := dk_46 (dk_at dksX5_remove_1 11 rfl rfl)
theorem dX5_remove_36 : decode cX5_remove 36 = .ok (.ireturn, 1) := dk_172 (dk_at dksX5_remove_1 12 rfl rfl)
abbrev cX5_isNone : ByteArray := prog_10_method_5_code
def yX5_isNone : MethodName := ⟨RX5, "isNone", "(I)Z"⟩
def dkwX5_isNone_0 : List UInt8 := [27, 3, 42, 180, 0, 7, 17, 0, 160, 46, 4, 100, 184, 0, 42, 154, 0, 7, 4, 167, 0, 4, 3, 172]
abbrev dktX5_isNone_0 : List UInt8 := dkwX5_isNone_0 ++ []
theorem dksX5_isNone_0 : cX5_isNone.data.toList.drop 0 = dktX5_isNone_0 := by decide +kernel
theorem dX5_isNone_0 : decode cX5_isNone 0 = .ok (.iload_n 1, 1) := dk_27 (dk_at dksX5_isNone_0 0 rfl rfl)
theorem dX5_isNone_1 : decode cX5_isNone 1 = .ok (.iconst 0, 1) := dk_3 (dk_at dksX5_isNone_0 1 rfl rfl)
theorem dX5_isNone_2 : decode cX5_isNone 2 = .ok (.aload_n 0, 1) := dk_42 (dk_at dksX5_isNone_0 2 rfl rfl)
theorem dX5_isNone_3 : decode cX5_isNone 3 = .ok (.getfield 7, 3) := dk_180 0 7 (dk_at dksX5_isNone_0 3 rfl rfl)
theorem dX5_isNone_6 : decode cX5_isNone 6 = .ok (.sipush 160, 3) := dk_17 0 160 (dk_at dksX5_isNone_0 6 rfl rfl)
theorem dX5_isNone_9 : decode cX5_isNone 9 = .ok (.iaload, 1) := dk_46 (dk_at dksX5_isNone_0 9 rfl rfl)
theorem dX5_isNone_10 : decode cX5_isNone 10 = .ok (.iconst 1, 1) := dk_4 (dk_at dksX5_isNone_0 10 rfl rfl)
theorem dX5_isNone_11 : decode cX5_isNone 11 = .ok (.isub, 1) := dk_100 (dk_at dksX5_isNone_0 11 rfl rfl)
theorem dX5_isNone_12 : decode cX5_isNone 12 = .ok (.invokestatic 42, 3) := dk_184 0 42 (dk_at dksX5_isNone_0 12 rfl rfl)
theorem dX5_isNone_15 : decode cX5_isNone 15 = .ok (.ifCond .ne 7, 3) := dk_154 0 7 (dk_at dksX5_isNone_0 15 rfl rfl)
theorem dX5_isNone_18 : decode cX5_isNone 18 = .ok (.iconst 1, 1) := dk_4 (dk_at dksX5_isNone_0 18 rfl rfl)
theorem dX5_isNone_19 : decode cX5_isNone 19 = .ok (.goto 4, 3) := dk_167 0 4 (dk_at dksX5_isNone_0 19 rfl rfl)
theorem dX5_isNone_22 : decode cX5_isNone 22 = .ok (.iconst 0, 1) := dk_3 (dk_at dksX5_isNone_0 22 rfl rfl)
theorem dX5_isNone_23 : decode cX5_isNone 23 = .ok (.ireturn, 1) := dk_172 (dk_at dksX5_isNone_0 23 rfl rfl)
abbrev cX5_fails : ByteArray := prog_10_method_3_code
def yX5_fails : MethodName := ⟨RX5, "fails", "(I)I"⟩
def dkwX5_fails_0 : List UInt8 := [42, 27, 181, 0, 38, 3, 172]
abbrev dktX5_fails_0 : List UInt8 := dkwX5_fails_0 ++ []
theorem dksX5_fails_0 : cX5_fails.data.toList.drop 0 = dktX5_fails_0 := by decide +kernel
theorem dX5_fails_0 : decode cX5_fails 0 = .ok (.aload_n 0, 1) := dk_42 (dk_at dksX5_fails_0 0 rfl rfl)
theorem dX5_fails_1 : decode cX5_fails 1 = .ok (.iload_n 1, 1) := dk_27 (dk_at dksX5_fails_0 1 rfl rfl)
theorem dX5_fails_2 : decode cX5_fails 2 = .ok (.putfield 38, 3) := dk_181 0 38 (dk_at dksX5_fails_0 2 rfl rfl)
theorem dX5_fails_5 : decode cX5_fails 5 = .ok (.iconst 0, 1) := dk_3 (dk_at dksX5_fails_0 5 rfl rfl)
theorem dX5_fails_6 : decode cX5_fails 6 = .ok (.ireturn, 1) := dk_172 (dk_at dksX5_fails_0 6 rfl rfl)
abbrev cX5_removeNow : ByteArray := prog_10_method_31_code
def yX5_removeNow : MethodName := ⟨RX5, "removeNow", "(I)V"⟩
def dkwX5_removeNow_2 : List UInt8 := [17, 0, 160, 92, 46, 4, 100, 79, 42, 180, 0, 7, 17, 0, 178, 92, 46, 4, 96, 79, 177]
abbrev dktX5_removeNow_2 : List UInt8 := dkwX5_removeNow_2 ++ []
def dkwX5_removeNow_1 : List UInt8 := [3, 28, 96, 42, 180, 0, 7, 3, 28, 96, 7, 96, 46, 79, 132, 2, 1, 167, 255, 219, 42, 180, 0, 7]
abbrev dktX5_removeNow_1 : List UInt8 := dkwX5_removeNow_1 ++ dktX5_removeNow_2
def dkwX5_removeNow_0 : List UInt8 := [7, 27, 104, 61, 28, 7, 42, 180, 0, 7, 17, 0, 160, 46, 104, 7, 100, 162, 0, 27, 42, 180, 0, 7]
abbrev dktX5_removeNow_0 : List UInt8 := dkwX5_removeNow_0 ++ dktX5_removeNow_1
theorem dksX5_removeNow_0 : cX5_removeNow.data.toList.drop 0 = dktX5_removeNow_0 := by decide +kernel
theorem dksX5_removeNow_1 : cX5_removeNow.data.toList.drop 24 = dktX5_removeNow_1 := dk_seg dksX5_removeNow_0 24 rfl rfl
theorem dksX5_removeNow_2 : cX5_removeNow.data.toList.drop 48 = dktX5_removeNow_2 := dk_seg dksX5_removeNow_1 24 rfl rfl
theorem dX5_removeNow_0 : decode cX5_removeNow 0 = .ok (.iconst 4, 1) := dk_7 (dk_at dksX5_removeNow_0 0 rfl rfl)
theorem dX5_removeNow_1 : decode cX5_removeNow 1 = .ok (.iload_n 1, 1) := dk_27 (dk_at dksX5_removeNow_0 1 rfl rfl)
theorem dX5_removeNow_2 : decode cX5_removeNow 2 = .ok (.imul, 1) := dk_104 (dk_at dksX5_removeNow_0 2 rfl rfl)
theorem dX5_removeNow_3 : decode cX5_removeNow 3 = .ok (.istore_n 2, 1) := dk_61 (dk_at dksX5_removeNow_0 3 rfl rfl)
theorem dX5_removeNow_4 : decode cX5_removeNow 4 = .ok (.iload_n 2, 1) := dk_28 (dk_at dksX5_removeNow_0 4 rfl rfl)
theorem dX5_removeNow_5 : decode cX5_removeNow 5 = .ok (.iconst 4, 1) := dk_7 (dk_at dksX5_removeNow_0 5 rfl rfl)
theorem dX5_removeNow_6 : decode cX5_removeNow 6 = .ok (.aload_n 0, 1) := dk_42 (dk_at dksX5_removeNow_0 6 rfl rfl)
theorem dX5_removeNow_7 : decode cX5_removeNow 7 = .ok (.getfield 7, 3) := dk_180 0 7 (dk_at dksX5_removeNow_0 7 rfl rfl)
theorem dX5_removeNow_10 : decode cX5_removeNow 10 = .ok (.sipush 160, 3) := dk_17 0 160 (dk_at dksX5_removeNow_0 10 rfl rfl)
theorem dX5_removeNow_13 : decode cX5_removeNow 13 = .ok (.iaload, 1) := dk_46 (dk_at dksX5_removeNow_0 13 rfl rfl)
theorem dX5_removeNow_14 : decode cX5_removeNow 14 = .ok (.imul, 1) := dk_104 (dk_at dksX5_removeNow_0 14 rfl rfl)
theorem dX5_removeNow_15 : decode cX5_removeNow 15 = .ok (.iconst 4, 1) := dk_7 (dk_at dksX5_removeNow_0 15 rfl rfl)
theorem dX5_removeNow_16 : decode cX5_removeNow 16 = .ok (.isub, 1) := dk_100 (dk_at dksX5_removeNow_0 16 rfl rfl)
theorem dX5_removeNow_17 : decode cX5_removeNow 17 = .ok (.if_icmp .ge 27, 3) := dk_162 0 27 (dk_at dksX5_removeNow_0 17 rfl rfl)
theorem dX5_removeNow_20 : decode cX5_removeNow 20 = .ok (.aload_n 0, 1) := dk_42 (dk_at dksX5_removeNow_0 20 rfl rfl)
theorem dX5_removeNow_21 : decode cX5_removeNow 21 = .ok (.getfield 7, 3) := dk_180 0 7 (dk_at dksX5_removeNow_0 21 rfl rfl)
theorem dX5_removeNow_24 : decode cX5_removeNow 24 = .ok (.iconst 0, 1) := dk_3 (dk_at dksX5_removeNow_1 0 rfl rfl)
theorem dX5_removeNow_25 : decode cX5_removeNow 25 = .ok (.iload_n 2, 1) := dk_28 (dk_at dksX5_removeNow_1 1 rfl rfl)
theorem dX5_removeNow_26 : decode cX5_removeNow 26 = .ok (.iadd, 1) := dk_96 (dk_at dksX5_removeNow_1 2 rfl rfl)
theorem dX5_removeNow_27 : decode cX5_removeNow 27 = .ok (.aload_n 0, 1) := dk_42 (dk_at dksX5_removeNow_1 3 rfl rfl)
theorem dX5_removeNow_28 : decode cX5_removeNow 28 = .ok (.getfield 7, 3) := dk_180 0 7 (dk_at dksX5_removeNow_1 4 rfl rfl)
theorem dX5_removeNow_31 : decode cX5_removeNow 31 = .ok (.iconst 0, 1) := dk_3 (dk_at dksX5_removeNow_1 7 rfl rfl)
theorem dX5_removeNow_32 : decode cX5_removeNow 32 = .ok (.iload_n 2, 1) := dk_28 (dk_at dksX5_removeNow_1 8 rfl rfl)
theorem dX5_removeNow_33 : decode cX5_removeNow 33 = .ok (.iadd, 1) := dk_96 (dk_at dksX5_removeNow_1 9 rfl rfl)
theorem dX5_removeNow_34 : decode cX5_removeNow 34 = .ok (.iconst 4, 1) := dk_7 (dk_at dksX5_removeNow_1 10 rfl rfl)
theorem dX5_removeNow_35 : decode cX5_removeNow 35 = .ok (.iadd, 1) := dk_96 (dk_at dksX5_removeNow_1 11 rfl rfl)
theorem dX5_removeNow_36 : decode cX5_removeNow 36 = .ok (.iaload, 1) := dk_46 (dk_at dksX5_removeNow_1 12 rfl rfl)
theorem dX5_removeNow_37 : decode cX5_removeNow 37 = .ok (.iastore, 1) := dk_79 (dk_at dksX5_removeNow_1 13 rfl rfl)
theorem dX5_removeNow_38 : decode cX5_removeNow 38 = .ok (.iinc 2 1, 3) := dk_132 2 1 (dk_at dksX5_removeNow_1 14 rfl rfl)
theorem dX5_removeNow_41 : decode cX5_removeNow 41 = .ok (.goto (-37), 3) := dk_167 255 219 (dk_at dksX5_removeNow_1 17 rfl rfl)
theorem dX5_removeNow_44 : decode cX5_removeNow 44 = .ok (.aload_n 0, 1) := dk_42 (dk_at dksX5_removeNow_1 20 rfl rfl)
theorem dX5_removeNow_45 : decode cX5_removeNow 45 = .ok (.getfield 7, 3) := dk_180 0 7 (dk_at dksX5_removeNow_1 21 rfl rfl)
theorem dX5_removeNow_48 : decode cX5_removeNow 48 = .ok (.sipush 160, 3) := dk_17 0 160 (dk_at dksX5_removeNow_2 0 rfl rfl)
theorem dX5_removeNow_51 : decode cX5_removeNow 51 = .ok (.dup2, 1) := dk_92 (dk_at dksX5_removeNow_2 3 rfl rfl)
theorem dX5_removeNow_52 : decode cX5_removeNow 52 = .ok (.iaload, 1) := dk_46 (dk_at dksX5_removeNow_2 4 rfl rfl)
theorem dX5_removeNow_53 : decode cX5_removeNow 53 = .ok (.iconst 1, 1) := dk_4 (dk_at dksX5_removeNow_2 5 rfl rfl)
theorem dX5_removeNow_54 : decode cX5_removeNow 54 = .ok (.isub, 1) := dk_100 (dk_at dksX5_removeNow_2 6 rfl rfl)
theorem dX5_removeNow_55 : decode cX5_removeNow 55 = .ok (.iastore, 1) := dk_79 (dk_at dksX5_removeNow_2 7 rfl rfl)
theorem dX5_removeNow_56 : decode cX5_removeNow 56 = .ok (.aload_n 0, 1) := dk_42 (dk_at dksX5_removeNow_2 8 rfl rfl)
theorem dX5_removeNow_57 : decode cX5_removeNow 57 = .ok (.getfield 7, 3) := dk_180 0 7 (dk_at dksX5_removeNow_2 9 rfl rfl)
theorem dX5_removeNow_60 : decode cX5_removeNow 60 = .ok (.sipush 178, 3) := dk_17 0 178 (dk_at dksX5_removeNow_2 12 rfl rfl)
theorem dX5_removeNow_63 : decode cX5_removeNow 63 = .ok (.dup2, 1) := dk_92 (dk_at dksX5_removeNow_2 15 rfl rfl)
theorem dX5_removeNow_64 : decode cX5_removeNow 64 = .ok (.iaload, 1) := dk_46 (dk_at dksX5_removeNow_2 16 rfl rfl)
theorem dX5_removeNow_65 : decode cX5_removeNow 65 = .ok (.iconst 1, 1) := dk_4 (dk_at dksX5_removeNow_2 17 rfl rfl)
theorem dX5_removeNow_66 : decode cX5_removeNow 66 = .ok (.iadd, 1) := dk_96 (dk_at dksX5_removeNow_2 18 rfl rfl)
theorem dX5_removeNow_67 : decode cX5_removeNow 67 = .ok (.iastore, 1) := dk_79 (dk_at dksX5_removeNow_2 19 rfl rfl)
theorem dX5_removeNow_68 : decode cX5_removeNow 68 = .ok (.return_, 1) := dk_177 (dk_at dksX5_removeNow_2 20 rfl rfl)
abbrev cX5_change : ByteArray := prog_10_method_33_code
def yX5_change : MethodName := ⟨RX5, "change", "(III)I"⟩
def dkwX5_change_2 : List UInt8 := [42, 27, 28, 182, 0, 53, 54, 4, 42, 180, 0, 7, 3, 7, 27, 104, 96, 28, 96, 29, 79, 21, 4, 172]
abbrev dktX5_change_2 : List UInt8 := dkwX5_change_2 ++ []
def dkwX5_change_1 : List UInt8 := [153, 0, 7, 5, 167, 0, 4, 3, 181, 0, 38, 42, 180, 0, 38, 153, 0, 5, 3, 172, 42, 182, 0, 95]
abbrev dktX5_change_1 : List UInt8 := dkwX5_change_1 ++ dktX5_change_2
def dkwX5_change_0 : List UInt8 := [42, 42, 27, 182, 0, 102, 154, 0, 10, 28, 184, 0, 112, 153, 0, 7, 4, 167, 0, 15, 29, 184, 0, 88]
abbrev dktX5_change_0 : List UInt8 := dkwX5_change_0 ++ dktX5_change_1
theorem dksX5_change_0 : cX5_change.data.toList.drop 0 = dktX5_change_0 := by decide +kernel
theorem dksX5_change_1 : cX5_change.data.toList.drop 24 = dktX5_change_1 := dk_seg dksX5_change_0 24 rfl rfl
theorem dksX5_change_2 : cX5_change.data.toList.drop 48 = dktX5_change_2 := dk_seg dksX5_change_1 24 rfl rfl
theorem dX5_change_0 : decode cX5_change 0 = .ok (.aload_n 0, 1) := dk_42 (dk_at dksX5_change_0 0 rfl rfl)
theorem dX5_change_1 : decode cX5_change 1 = .ok (.aload_n 0, 1) := dk_42 (dk_at dksX5_change_0 1 rfl rfl)
theorem dX5_change_2 : decode cX5_change 2 = .ok (.iload_n 1, 1) := dk_27 (dk_at dksX5_change_0 2 rfl rfl)
theorem dX5_change_3 : decode cX5_change 3 = .ok (.invokevirtual 102, 3) := dk_182 0 102 (dk_at dksX5_change_0 3 rfl rfl)
theorem dX5_change_6 : decode cX5_change 6 = .ok (.ifCond .ne 10, 3) := dk_154 0 10 (dk_at dksX5_change_0 6 rfl rfl)
theorem dX5_change_9 : decode cX5_change 9 = .ok (.iload_n 2, 1) := dk_28 (dk_at dksX5_change_0 9 rfl rfl)
theorem dX5_change_10 : decode cX5_change 10 = .ok (.invokestatic 112, 3) := dk_184 0 112 (dk_at dksX5_change_0 10 rfl rfl)
theorem dX5_change_13 : decode cX5_change 13 = .ok (.ifCond .eq 7, 3) := dk_153 0 7 (dk_at dksX5_change_0 13 rfl rfl)
theorem dX5_change_16 : decode cX5_change 16 = .ok (.iconst 1, 1) := dk_4 (dk_at dksX5_change_0 16 rfl rfl)
theorem dX5_change_17 : decode cX5_change 17 = .ok (.goto 15, 3) := dk_167 0 15 (dk_at dksX5_change_0 17 rfl rfl)
theorem dX5_change_20 : decode cX5_change 20 = .ok (.iload_n 3, 1) := dk_29 (dk_at dksX5_change_0 20 rfl rfl)
theorem dX5_change_21 : decode cX5_change 21 = .ok (.invokestatic 88, 3) := dk_184 0 88 (dk_at dksX5_change_0 21 rfl rfl)
theorem dX5_change_24 : decode cX5_change 24 = .ok (.ifCond .eq 7, 3) := dk_153 0 7 (dk_at dksX5_change_1 0 rfl rfl)
theorem dX5_change_27 : decode cX5_change 27 = .ok (.iconst 2, 1) := dk_5 (dk_at dksX5_change_1 3 rfl rfl)
theorem dX5_change_28 : decode cX5_change 28 = .ok (.goto 4, 3) := dk_167 0 4 (dk_at dksX5_change_1 4 rfl rfl)
theorem dX5_change_31 : decode cX5_change 31 = .ok (.iconst 0, 1) := dk_3 (dk_at dksX5_change_1 7 rfl rfl)
theorem dX5_change_32 : decode cX5_change 32 = .ok (.putfield 38, 3) := dk_181 0 38 (dk_at dksX5_change_1 8 rfl rfl)
theorem dX5_change_35 : decode cX5_change 35 = .ok (.aload_n 0, 1) := dk_42 (dk_at dksX5_change_1 11 rfl rfl)
theorem dX5_change_36 : decode cX5_change 36 = .ok (.getfield 38, 3) := dk_180 0 38 (dk_at dksX5_change_1 12 rfl rfl)
theorem dX5_change_39 : decode cX5_change 39 = .ok (.ifCond .eq 5, 3) := dk_153 0 5 (dk_at dksX5_change_1 15 rfl rfl)
theorem dX5_change_42 : decode cX5_change 42 = .ok (.iconst 0, 1) := dk_3 (dk_at dksX5_change_1 18 rfl rfl)
theorem dX5_change_43 : decode cX5_change 43 = .ok (.ireturn, 1) := dk_172 (dk_at dksX5_change_1 19 rfl rfl)
theorem dX5_change_44 : decode cX5_change 44 = .ok (.aload_n 0, 1) := dk_42 (dk_at dksX5_change_1 20 rfl rfl)
theorem dX5_change_45 : decode cX5_change 45 = .ok (.invokevirtual 95, 3) := dk_182 0 95 (dk_at dksX5_change_1 21 rfl rfl)
theorem dX5_change_48 : decode cX5_change 48 = .ok (.aload_n 0, 1) := dk_42 (dk_at dksX5_change_2 0 rfl rfl)
theorem dX5_change_49 : decode cX5_change 49 = .ok (.iload_n 1, 1) := dk_27 (dk_at dksX5_change_2 1 rfl rfl)
theorem dX5_change_50 : decode cX5_change 50 = .ok (.iload_n 2, 1) := dk_28 (dk_at dksX5_change_2 2 rfl rfl)
theorem dX5_change_51 : decode cX5_change 51 = .ok (.invokevirtual 53, 3) := dk_182 0 53 (dk_at dksX5_change_2 3 rfl rfl)
theorem dX5_change_54 : decode cX5_change 54 = .ok (.istore 4, 2) := dk_54 4 (dk_at dksX5_change_2 6 rfl rfl)
theorem dX5_change_56 : decode cX5_change 56 = .ok (.aload_n 0, 1) := dk_42 (dk_at dksX5_change_2 8 rfl rfl)
theorem dX5_change_57 : decode cX5_change 57 = .ok (.getfield 7, 3) := dk_180 0 7 (dk_at dksX5_change_2 9 rfl rfl)
theorem dX5_change_60 : decode cX5_change 60 = .ok (.iconst 0, 1) := dk_3 (dk_at dksX5_change_2 12 rfl rfl)
theorem dX5_change_61 : decode cX5_change 61 = .ok (.iconst 4, 1) := dk_7 (dk_at dksX5_change_2 13 rfl rfl)
theorem dX5_change_62 : decode cX5_change 62 = .ok (.iload_n 1, 1) := dk_27 (dk_at dksX5_change_2 14 rfl rfl)
theorem dX5_change_63 : decode cX5_change 63 = .ok (.imul, 1) := dk_104 (dk_at dksX5_change_2 15 rfl rfl)
theorem dX5_change_64 : decode cX5_change 64 = .ok (.iadd, 1) := dk_96 (dk_at dksX5_change_2 16 rfl rfl)
theorem dX5_change_65 : decode cX5_change 65 = .ok (.iload_n 2, 1) := dk_28 (dk_at dksX5_change_2 17 rfl rfl)
theorem dX5_change_66 : decode cX5_change 66 = .ok (.iadd, 1) := dk_96 (dk_at dksX5_change_2 18 rfl rfl)
theorem dX5_change_67 : decode cX5_change 67 = .ok (.iload_n 3, 1) := dk_29 (dk_at dksX5_change_2 19 rfl rfl)
theorem dX5_change_68 : decode cX5_change 68 = .ok (.iastore, 1) := dk_79 (dk_at dksX5_change_2 20 rfl rfl)
theorem dX5_change_69 : decode cX5_change 69 = .ok (.iload 4, 2) := dk_21 4 (dk_at dksX5_change_2 21 rfl rfl)
theorem dX5_change_71 : decode cX5_change 71 = .ok (.ireturn, 1) := dk_172 (dk_at dksX5_change_2 23 rfl rfl)
abbrev cX5_isNoSide : ByteArray := prog_10_method_6_code
def yX5_isNoSide : MethodName := ⟨RX5, "isNoSide", "(I)Z"⟩
def dkwX5_isNoSide_0 : List UInt8 := [26, 3, 6, 184, 0, 42, 154, 0, 7, 4, 167, 0, 4, 3, 172]
abbrev dktX5_isNoSide_0 : List UInt8 := dkwX5_isNoSide_0 ++ []
theorem dksX5_isNoSide_0 : cX5_isNoSide.data.toList.drop 0 = dktX5_isNoSide_0 := by decide +kernel
theorem dX5_isNoSide_0 : decode cX5_isNoSide 0 = .ok (.iload_n 0, 1) := dk_26 (dk_at dksX5_isNoSide_0 0 rfl rfl)
theorem dX5_isNoSide_1 : decode cX5_isNoSide 1 = .ok (.iconst 0, 1) := dk_3 (dk_at dksX5_isNoSide_0 1 rfl rfl)
theorem dX5_isNoSide_2 : decode cX5_isNoSide 2 = .ok (.iconst 3, 1) := dk_6 (dk_at dksX5_isNoSide_0 2 rfl rfl)
theorem dX5_isNoSide_3 : decode cX5_isNoSide 3 = .ok (.invokestatic 42, 3) := dk_184 0 42 (dk_at dksX5_isNoSide_0 3 rfl rfl)
theorem dX5_isNoSide_6 : decode cX5_isNoSide 6 = .ok (.ifCond .ne 7, 3) := dk_154 0 7 (dk_at dksX5_isNoSide_0 6 rfl rfl)
theorem dX5_isNoSide_9 : decode cX5_isNoSide 9 = .ok (.iconst 1, 1) := dk_4 (dk_at dksX5_isNoSide_0 9 rfl rfl)
theorem dX5_isNoSide_10 : decode cX5_isNoSide 10 = .ok (.goto 4, 3) := dk_167 0 4 (dk_at dksX5_isNoSide_0 10 rfl rfl)
theorem dX5_isNoSide_13 : decode cX5_isNoSide 13 = .ok (.iconst 0, 1) := dk_3 (dk_at dksX5_isNoSide_0 13 rfl rfl)
theorem dX5_isNoSide_14 : decode cX5_isNoSide 14 = .ok (.ireturn, 1) := dk_172 (dk_at dksX5_isNoSide_0 14 rfl rfl)
abbrev cX5_value : ByteArray := prog_10_method_9_code
def yX5_value : MethodName := ⟨RX5, "value", "(II)I"⟩
def dkwX5_value_0 : List UInt8 := [42, 180, 0, 7, 3, 7, 27, 104, 96, 28, 96, 46, 172]
abbrev dktX5_value_0 : List UInt8 := dkwX5_value_0 ++ []
theorem dksX5_value_0 : cX5_value.data.toList.drop 0 = dktX5_value_0 := by decide +kernel
theorem dX5_value_0 : decode cX5_value 0 = .ok (.aload_n 0, 1) := dk_42 (dk_at dksX5_value_0 0 rfl rfl)
theorem dX5_value_1 : decode cX5_value 1 = .ok (.getfield 7, 3) := dk_180 0 7 (dk_at dksX5_value_0 1 rfl rfl)
theorem dX5_value_4 : decode cX5_value 4 = .ok (.iconst 0, 1) := dk_3 (dk_at dksX5_value_0 4 rfl rfl)
theorem dX5_value_5 : decode cX5_value 5 = .ok (.iconst 4, 1) := dk_7 (dk_at dksX5_value_0 5 rfl rfl)
theorem dX5_value_6 : decode cX5_value 6 = .ok (.iload_n 1, 1) := dk_27 (dk_at dksX5_value_0 6 rfl rfl)
theorem dX5_value_7 : decode cX5_value 7 = .ok (.imul, 1) := dk_104 (dk_at dksX5_value_0 7 rfl rfl)
theorem dX5_value_8 : decode cX5_value 8 = .ok (.iadd, 1) := dk_96 (dk_at dksX5_value_0 8 rfl rfl)
theorem dX5_value_9 : decode cX5_value 9 = .ok (.iload_n 2, 1) := dk_28 (dk_at dksX5_value_0 9 rfl rfl)
theorem dX5_value_10 : decode cX5_value 10 = .ok (.iadd, 1) := dk_96 (dk_at dksX5_value_0 10 rfl rfl)
theorem dX5_value_11 : decode cX5_value 11 = .ok (.iaload, 1) := dk_46 (dk_at dksX5_value_0 11 rfl rfl)
theorem dX5_value_12 : decode cX5_value 12 = .ok (.ireturn, 1) := dk_172 (dk_at dksX5_value_0 12 rfl rfl)
abbrev cX5_prune : ByteArray := prog_10_method_34_code
def yX5_prune : MethodName := ⟨RX5, "prune", "()I"⟩
def dkwX5_prune_4 : List UInt8 := [132, 2, 255, 167, 255, 235, 27, 42, 180, 0, 7, 17, 0, 160, 46, 100, 172]
abbrev dktX5_prune_4 : List UInt8 := dkwX5_prune_4 ++ []
def dkwX5_prune_3 : List UInt8 := [27, 4, 100, 61, 28, 155, 0, 23, 42, 180, 0, 29, 28, 51, 153, 0, 8, 42, 28, 182, 0, 108]
abbrev dktX5_prune_3 : List UInt8 := dkwX5_prune_3 ++ dktX5_prune_4
def dkwX5_prune_2 : List UInt8 := [153, 0, 16, 42, 180, 0, 25, 28, 51, 154, 0, 7, 4, 167, 0, 4, 3, 84, 132, 2, 255, 167, 255, 221]
abbrev dktX5_prune_2 : List UInt8 := dkwX5_prune_2 ++ dktX5_prune_3
def dkwX5_prune_1 : List UInt8 := [182, 0, 78, 87, 27, 4, 100, 61, 28, 155, 0, 37, 42, 180, 0, 29, 28, 42, 28, 182, 0, 57]
abbrev dktX5_prune_1 : List UInt8 := dkwX5_prune_1 ++ dktX5_prune_2
def dkwX5_prune_0 : List UInt8 := [42, 3, 181, 0, 38, 42, 182, 0, 95, 42, 180, 0, 7, 17, 0, 160, 46, 60, 42, 42, 182, 0, 67]
abbrev dktX5_prune_0 : List UInt8 := dkwX5_prune_0 ++ dktX5_prune_1
theorem dksX5_prune_0 : cX5_prune.data.toList.drop 0 = dktX5_prune_0 := by decide +kernel
theorem dksX5_prune_1 : cX5_prune.data.toList.drop 23 = dktX5_prune_1 := dk_seg dksX5_prune_0 23 rfl rfl
theorem dksX5_prune_2 : cX5_prune.data.toList.drop 45 = dktX5_prune_2 := dk_seg dksX5_prune_1 22 rfl rfl
theorem dksX5_prune_3 : cX5_prune.data.toList.drop 69 = dktX5_prune_3 := dk_seg dksX5_prune_2 24 rfl rfl
theorem dksX5_prune_4 : cX5_prune.data.toList.drop 91 = dktX5_prune_4 := dk_seg dksX5_prune_3 22 rfl rfl
theorem dX5_prune_0 : decode cX5_prune 0 = .ok (.aload_n 0, 1) := dk_42 (dk_at dksX5_prune_0 0 rfl rfl)
theorem dX5_prune_1 : decode cX5_prune 1 = .ok (.iconst 0, 1) := dk_3 (dk_at dksX5_prune_0 1 rfl rfl)
theorem dX5_prune_2 : decode cX5_prune 2 = .ok (.putfield 38, 3) := dk_181 0 38 (dk_at dksX5_prune_0 2 rfl rfl)
theorem dX5_prune_5 : decode cX5_prune 5 = .ok (.aload_n 0, 1) := dk_42 (dk_at dksX5_prune_0 5 rfl rfl)
theorem dX5_prune_6 : decode cX5_prune 6 = .ok (.invokevirtual 95, 3) := dk_182 0 95 (dk_at dksX5_prune_0 6 rfl rfl)
theorem dX5_prune_9 : decode cX5_prune 9 = .ok (.aload_n 0, 1) := dk_42 (dk_at dksX5_prune_0 9 rfl rfl)
theorem dX5_prune_10 : decode cX5_prune 10 = .ok (.getfield 7, 3) := dk_180 0 7 (dk_at dksX5_prune_0 10 rfl rfl)
theorem dX5_prune_13 : decode cX5_prune 13 = .ok (.sipush 160, 3) := dk_17 0 160 (dk_at dksX5_prune_0 13 rfl rfl)
theorem dX5_prune_16 : decode cX5_prune 16 = .ok (.iaload, 1) := dk_46 (dk_at dksX5_prune_0 16 rfl rfl)
theorem dX5_prune_17 : decode cX5_prune 17 = .ok (.istore_n 1, 1) := dk_60 (dk_at dksX5_prune_0 17 rfl rfl)
theorem dX5_prune_18 : decode cX5_prune 18 = .ok (.aload_n 0, 1) := dk_42 (dk_at dksX5_prune_0 18 rfl rfl)
theorem dX5_prune_19 : decode cX5_prune 19 = .ok (.aload_n 0, 1) := dk_42 (dk_at dksX5_prune_0 19 rfl rfl)
theorem dX5_prune_20 : decode cX5_prune 20 = .ok (.invokevirtual 67, 3) := dk_182 0 67 (dk_at dksX5_prune_0 20 rfl rfl)
theorem dX5_prune_23 : decode cX5_prune 23 = .ok (.invokevirtual 78, 3) := dk_182 0 78 (dk_at dksX5_prune_1 0 rfl rfl)
theorem dX5_prune_26 : decode cX5_prune 26 = .ok (.pop, 1) := dk_87 (dk_at dksX5_prune_1 3 rfl rfl)
theorem dX5_prune_27 : decode cX5_prune 27 = .ok (.iload_n 1, 1) := dk_27 (dk_at dksX5_prune_1 4 rfl rfl)
theorem dX5_prune_28 : decode cX5_prune 28 = .ok (.iconst 1, 1) := dk_4 (dk_at dksX5_prune_1 5 rfl rfl)
theorem dX5_prune_29 : decode cX5_prune 29 = .ok (.isub, 1) := dk_100 (dk_at dksX5_prune_1 6 rfl rfl)
theorem dX5_prune_30 : decode cX5_prune 30 = .ok (.istore_n 2, 1) := dk_61 (dk_at dksX5_prune_1 7 rfl rfl)
theorem dX5_prune_31 : decode cX5_prune 31 = .ok (.iload_n 2, 1) := dk_28 (dk_at dksX5_prune_1 8 rfl rfl)
theorem dX5_prune_32 : decode cX5_prune 32 = .ok (.ifCond .lt 37, 3) := dk_155 0 37 (dk_at dksX5_prune_1 9 rfl rfl)
theorem dX5_prune_35 : decode cX5_prune 35 = .ok (.aload_n 0, 1) := dk_42 (dk_at dksX5_prune_1 12 rfl rfl)
theorem dX5_prune_36 : decode cX5_prune 36 = .ok (.getfield 29, 3) := dk_180 0 29 (dk_at dksX5_prune_1 13 rfl rfl)
theorem dX5_prune_39 : decode cX5_prune 39 = .ok (.iload_n 2, 1) := dk_28 (dk_at dksX5_prune_1 16 rfl rfl)
theorem dX5_prune_40 : decode cX5_prune 40 = .ok (.aload_n 0, 1) := dk_42 (dk_at dksX5_prune_1 17 rfl rfl)
theorem dX5_prune_41 : decode cX5_prune 41 = .ok (.iload_n 2, 1) := dk_28 (dk_at dksX5_prune_1 18 rfl rfl)
theorem dX5_prune_42 : decode cX5_prune 42 = .ok (.invokevirtual 57, 3) := dk_182 0 57 (dk_at dksX5_prune_1 19 rfl rfl)
theorem dX5_prune_45 : decode cX5_prune 45 = .ok (.ifCond .eq 16, 3) := dk_153 0 16 (dk_at dksX5_prune_2 0 rfl rfl)
theorem dX5_prune_48 : decode cX5_prune 48 = .ok (.aload_n 0, 1) := dk_42 (dk_at dksX5_prune_2 3 rfl rfl)
theorem dX5_prune_49 : decode cX5_prune 49 = .ok (.getfield 25, 3) := dk_180 0 25 (dk_at dksX5_prune_2 4 rfl rfl)
theorem dX5_prune_52 : decode cX5_prune 52 = .ok (.iload_n 2, 1) := dk_28 (dk_at dksX5_prune_2 7 rfl rfl)
theorem dX5_prune_53 : decode cX5_prune 53 = .ok (.baload, 1) := dk_51 (dk_at dksX5_prune_2 8 rfl rfl)
theorem dX5_prune_54 : decode cX5_prune 54 = .ok (.ifCond .ne 7, 3) := dk_154 0 7 (dk_at dksX5_prune_2 9 rfl rfl)
theorem dX5_prune_57 : decode cX5_prune 57 = .ok (.iconst 1, 1) := dk_4 (dk_at dksX5_prune_2 12 rfl rfl)
theorem dX5_prune_58 : decode cX5_prune 58 = .ok (.goto 4, 3) := dk_167 0 4 (dk_at dksX5_prune_2 13 rfl rfl)
theorem dX5_prune_61 : decode cX5_prune 61 = .ok (.iconst 0, 1) := dk_3 (dk_at dksX5_prune_2 16 rfl rfl)
theorem dX5_prune_62 : decode cX5_prune 62 = .ok (.bastore, 1) := dk_84 (dk_at dksX5_prune_2 17 rfl rfl)
theorem dX5_prune_63 : decode cX5_prune 63 = .ok (.iinc 2 (-1), 3) := dk_132 2 255 (dk_at dksX5_prune_2 18 rfl rfl)
theorem dX5_prune_66 : decode cX5_prune 66 = .ok (.goto (-35), 3) := dk_167 255 221 (dk_at dksX5_prune_2 21 rfl rfl)
theorem dX5_prune_69 : decode cX5_prune 69 = .ok (.iload_n 1, 1) := dk_27 (dk_at dksX5_prune_3 0 rfl rfl)
theorem dX5_prune_70 : decode cX5_prune 70 = .ok (.iconst 1, 1) := dk_4 (dk_at dksX5_prune_3 1 rfl rfl)
theorem dX5_prune_71 : decode cX5_prune 71 = .ok (.isub, 1) := dk_100 (dk_at dksX5_prune_3 2 rfl rfl)
theorem dX5_prune_72 : decode cX5_prune 72 = .ok (.istore_n 2, 1) := dk_61 (dk_at dksX5_prune_3 3 rfl rfl)
theorem dX5_prune_73 : decode cX5_prune 73 = .ok (.iload_n 2, 1) := dk_28 (dk_at dksX5_prune_3 4 rfl rfl)
theorem dX5_prune_74 : decode cX5_prune 74 = .ok (.ifCond .lt 23, 3) := dk_155 0 23 (dk_at dksX5_prune_3 5 rfl rfl)
theorem dX5_prune_77 : decode cX5_prune 77 = .ok (.aload_n 0, 1) := dk_42 (dk_at dksX5_prune_3 8 rfl rfl)
theorem dX5_prune_78 : decode cX5_prune 78 = .ok (.getfield 29, 3) := dk_180 0 29 (dk_at dksX5_prune_3 9 rfl rfl)
theorem dX5_prune_81 : decode cX5_prune 81 = .ok (.iload_n 2, 1) := dk_28 (dk_at dksX5_prune_3 12 rfl rfl)
theorem dX5_prune_82 : decode cX5_prune 82 = .ok (.baload, 1) := dk_51 (dk_at dksX5_prune_3 13 rfl rfl)
theorem dX5_prune_83 : decode cX5_prune 83 = .ok (.ifCond .eq 8, 3) := dk_153 0 8 (dk_at dksX5_prune_3 14 rfl rfl)
theorem dX5_prune_86 : decode cX5_prune 86 = .ok (.aload_n 0, 1) := dk_42 (dk_at dksX5_prune_3 17 rfl rfl)
theorem dX5_prune_87 : decode cX5_prune 87 = .ok (.iload_n 2, 1) := dk_28 (dk_at dksX5_prune_3 18 rfl rfl)
theorem dX5_prune_88 : decode cX5_prune 88 = .ok (.invokevirtual 108, 3) := dk_182 0 108 (dk_at dksX5_prune_3 19 rfl rfl)
theorem dX5_prune_91 : decode cX5_prune 91 = .ok (.iinc 2 (-1), 3) := dk_132 2 255 (dk_at dksX5_prune_4 0 rfl rfl)
theorem dX5_prune_94 : decode cX5_prune 94 = .ok (.goto (-21), 3) := dk_167 255 235 (dk_at dksX5_prune_4 3 rfl rfl)
theorem dX5_prune_97 : decode cX5_prune 97 = .ok (.iload_n 1, 1) := dk_27 (dk_at dksX5_prune_4 6 rfl rfl)
theorem dX5_prune_98 : decode cX5_prune 98 = .ok (.aload_n 0, 1) := dk_42 (dk_at dksX5_prune_4 7 rfl rfl)
theorem dX5_prune_99 : decode cX5_prune 99 = .ok (.getfield 7, 3) := dk_180 0 7 (dk_at dksX5_prune_4 8 rfl rfl)
theorem dX5_prune_102 : decode cX5_prune 102 = .ok (.sipush 160, 3) := dk_17 0 160 (dk_at dksX5_prune_4 11 rfl rfl)
theorem dX5_prune_105 : decode cX5_prune 105 = .ok (.iaload, 1) := dk_46 (dk_at dksX5_prune_4 14 rfl rfl)
theorem dX5_prune_106 : decode cX5_prune 106 = .ok (.isub, 1) := dk_100 (dk_at dksX5_prune_4 15 rfl rfl)
theorem dX5_prune_107 : decode cX5_prune 107 = .ok (.ireturn, 1) := dk_172 (dk_at dksX5_prune_4 16 rfl rfl)
abbrev cX5_mattering : ByteArray := prog_10_method_11_code
def yX5_mattering : MethodName := ⟨RX5, "mattering", "()I"⟩
def dkwX5_mattering_1 : List UInt8 := [3, 128, 60, 132, 2, 1, 167, 255, 230, 27, 172]
abbrev dktX5_mattering_1 : List UInt8 := dkwX5_mattering_1 ++ []
def dkwX5_mattering_0 : List UInt8 := [3, 60, 3, 61, 28, 7, 162, 0, 27, 27, 42, 28, 182, 0, 49, 153, 0, 9, 4, 28, 120, 167, 0, 4]
abbrev dktX5_mattering_0 : List UInt8 := dkwX5_mattering_0 ++ dktX5_mattering_1
theorem dksX5_mattering_0 : cX5_mattering.data.toList.drop 0 = dktX5_mattering_0 := by decide +kernel
theorem dksX5_mattering_1 : cX5_mattering.data.toList.drop 24 = dktX5_mattering_1 := dk_seg dksX5_mattering_0 24 rfl rfl
theorem dX5_mattering_0 : decode cX5_mattering 0 = .ok (.iconst 0, 1) := dk_3 (dk_at dksX5_mattering_0 0 rfl rfl)
theorem dX5_mattering_1 : decode cX5_mattering 1 = .ok (.istore_n 1, 1) := dk_60 (dk_at dksX5_mattering_0 1 rfl rfl)
theorem dX5_mattering_2 : decode cX5_mattering 2 = .ok (.iconst 0, 1) := dk_3 (dk_at dksX5_mattering_0 2 rfl rfl)
theorem dX5_mattering_3 : decode cX5_mattering 3 = .ok (.istore_n 2, 1) := dk_61 (dk_at dksX5_mattering_0 3 rfl rfl)
theorem dX5_mattering_4 : decode cX5_mattering 4 = .ok (.iload_n 2, 1) := dk_28 (dk_at dksX5_mattering_0 4 rfl rfl)
theorem dX5_mattering_5 : decode cX5_mattering 5 = .ok (.iconst 4, 1) := dk_7 (dk_at dksX5_mattering_0 5 rfl rfl)
theorem dX5_mattering_6 : decode cX5_mattering 6 = .ok (.if_icmp .ge 27, 3) := dk_162 0 27 (dk_at dksX5_mattering_0 6 rfl rfl)
theorem dX5_mattering_9 : decode cX5_mattering 9 = .ok (.iload_n 1, 1) := dk_27 (dk_at dksX5_mattering_0 9 rfl rfl)
theorem dX5_mattering_10 : decode cX5_mattering 10 = .ok (.aload_n 0, 1) := dk_42 (dk_at dksX5_mattering_0 10 rfl rfl)
theorem dX5_mattering_11 : decode cX5_mattering 11 = .ok (.iload_n 2, 1) := dk_28 (dk_at dksX5_mattering_0 11 rfl rfl)
theorem dX5_mattering_12 : decode cX5_mattering 12 = .ok (.invokevirtual 49, 3) := dk_182 0 49 (dk_at dksX5_mattering_0 12 rfl rfl)
theorem dX5_mattering_15 : decode cX5_mattering 15 = .ok (.ifCond .eq 9, 3) := dk_153 0 9 (dk_at dksX5_mattering_0 15 rfl rfl)
theorem dX5_mattering_18 : decode cX5_mattering 18 = .ok (.iconst 1, 1) := dk_4 (dk_at dksX5_mattering_0 18 rfl rfl)
theorem dX5_mattering_19 : decode cX5_mattering 19 = .ok (.iload_n 2, 1) := dk_28 (dk_at dksX5_mattering_0 19 rfl rfl)
theorem dX5_mattering_20 : decode cX5_mattering 20 = .ok (.ishl, 1) := dk_120 (dk_at dksX5_mattering_0 20 rfl rfl)
theorem dX5_mattering_21 : decode cX5_mattering 21 = .ok (.goto 4, 3) := dk_167 0 4 (dk_at dksX5_mattering_0 21 rfl rfl)
theorem dX5_mattering_24 : decode cX5_mattering 24 = .ok (.iconst 0, 1) := dk_3 (dk_at dksX5_mattering_1 0 rfl rfl)
theorem dX5_mattering_25 : decode cX5_mattering 25 = .ok (.ior, 1) := dk_128 (dk_at dksX5_mattering_1 1 rfl rfl)
theorem dX5_mattering_26 : decode cX5_mattering 26 = .ok (.istore_n 1, 1) := dk_60 (dk_at dksX5_mattering_1 2 rfl rfl)
theorem dX5_mattering_27 : decode cX5_mattering 27 = .ok (.iinc 2 1, 3) := dk_132 2 1 (dk_at dksX5_mattering_1 3 rfl rfl)
theorem dX5_mattering_30 : decode cX5_mattering 30 = .ok (.goto (-26), 3) := dk_167 255 230 (dk_at dksX5_mattering_1 6 rfl rfl)
theorem dX5_mattering_33 : decode cX5_mattering 33 = .ok (.iload_n 1, 1) := dk_27 (dk_at dksX5_mattering_1 9 rfl rfl)
theorem dX5_mattering_34 : decode cX5_mattering 34 = .ok (.ireturn, 1) := dk_172 (dk_at dksX5_mattering_1 10 rfl rfl)
abbrev cX5_matters : ByteArray := prog_10_method_10_code
def yX5_matters : MethodName := ⟨RX5, "matters", "(I)Z"⟩
def dkwX5_matters_0 : List UInt8 := [42, 180, 0, 7, 17, 0, 161, 27, 96, 46, 5, 162, 0, 7, 4, 167, 0, 4, 3, 172]
abbrev dktX5_matters_0 : List UInt8 := dkwX5_matters_0 ++ []
theorem dksX5_matters_0 : cX5_matters.data.toList.drop 0 = dktX5_matters_0 := by decide +kernel
theorem dX5_matters_0 : decode cX5_matters 0 = .ok (.aload_n 0, 1) := dk_42 (dk_at dksX5_matters_0 0 rfl rfl)
theorem dX5_matters_1 : decode cX5_matters 1 = .ok (.getfield 7, 3) := dk_180 0 7 (dk_at dksX5_matters_0 1 rfl rfl)
theorem dX5_matters_4 : decode cX5_matters 4 = .ok (.sipush 161, 3) := dk_17 0 161 (dk_at dksX5_matters_0 4 rfl rfl)
theorem dX5_matters_7 : decode cX5_matters 7 = .ok (.iload_n 1, 1) := dk_27 (dk_at dksX5_matters_0 7 rfl rfl)
theorem dX5_matters_8 : decode cX5_matters 8 = .ok (.iadd, 1) := dk_96 (dk_at dksX5_matters_0 8 rfl rfl)
theorem dX5_matters_9 : decode cX5_matters 9 = .ok (.iaload, 1) := dk_46 (dk_at dksX5_matters_0 9 rfl rfl)
theorem dX5_matters_10 : decode cX5_matters 10 = .ok (.iconst 2, 1) := dk_5 (dk_at dksX5_matters_0 10 rfl rfl)
theorem dX5_matters_11 : decode cX5_matters 11 = .ok (.if_icmp .ge 7, 3) := dk_162 0 7 (dk_at dksX5_matters_0 11 rfl rfl)
theorem dX5_matters_14 : decode cX5_matters 14 = .ok (.iconst 1, 1) := dk_4 (dk_at dksX5_matters_0 14 rfl rfl)
theorem dX5_matters_15 : decode cX5_matters 15 = .ok (.goto 4, 3) := dk_167 0 4 (dk_at dksX5_matters_0 15 rfl rfl)
theorem dX5_matters_18 : decode cX5_matters 18 = .ok (.iconst 0, 1) := dk_3 (dk_at dksX5_matters_0 18 rfl rfl)
theorem dX5_matters_19 : decode cX5_matters 19 = .ok (.ireturn, 1) := dk_172 (dk_at dksX5_matters_0 19 rfl rfl)
abbrev cX5_tell : ByteArray := prog_10_method_18_code
def yX5_tell : MethodName := ⟨RX5, "tell", "(I)I"⟩
def dkwX5_tell_4 : List UInt8 := [51, 153, 0, 7, 4, 167, 0, 4, 3, 96, 61, 132, 3, 1, 167, 255, 151, 28, 172]
abbrev dktX5_tell_4 : List UInt8 := dkwX5_tell_4 ++ []
def dkwX5_tell_3 : List UInt8 := [182, 0, 71, 154, 0, 7, 4, 167, 0, 4, 3, 84, 132, 4, 1, 167, 255, 200, 28, 42, 180, 0, 25, 29]
abbrev dktX5_tell_3 : List UInt8 := dkwX5_tell_3 ++ dktX5_tell_4
def dkwX5_tell_2 : List UInt8 := [29, 51, 153, 0, 40, 42, 180, 0, 25, 29, 42, 21, 4, 182, 0, 57, 153, 0, 14, 42, 21, 4, 29, 27]
abbrev dktX5_tell_2 : List UInt8 := dkwX5_tell_2 ++ dktX5_tell_3
def dkwX5_tell_1 : List UInt8 := [182, 0, 57, 84, 3, 54, 4, 21, 4, 42, 180, 0, 7, 17, 0, 160, 46, 162, 0, 49, 42, 180, 0, 25]
abbrev dktX5_tell_1 : List UInt8 := dkwX5_tell_1 ++ dktX5_tell_2
def dkwX5_tell_0 : List UInt8 := [3, 61, 3, 62, 29, 42, 180, 0, 7, 17, 0, 160, 46, 162, 0, 99, 42, 180, 0, 25, 29, 42, 29]
abbrev dktX5_tell_0 : List UInt8 := dkwX5_tell_0 ++ dktX5_tell_1
theorem dksX5_tell_0 : cX5_tell.data.toList.drop 0 = dktX5_tell_0 := by decide +kernel
theorem dksX5_tell_1 : cX5_tell.data.toList.drop 23 = dktX5_tell_1 := dk_seg dksX5_tell_0 23 rfl rfl
theorem dksX5_tell_2 : cX5_tell.data.toList.drop 47 = dktX5_tell_2 := dk_seg dksX5_tell_1 24 rfl rfl
theorem dksX5_tell_3 : cX5_tell.data.toList.drop 71 = dktX5_tell_3 := dk_seg dksX5_tell_2 24 rfl rfl
theorem dksX5_tell_4 : cX5_tell.data.toList.drop 95 = dktX5_tell_4 := dk_seg dksX5_tell_3 24 rfl rfl
theorem dX5_tell_0 : decode cX5_tell 0 = .ok (.iconst 0, 1) := dk_3 (dk_at dksX5_tell_0 0 rfl rfl)
theorem dX5_tell_1 : decode cX5_tell 1 = .ok (.istore_n 2, 1) := dk_61 (dk_at dksX5_tell_0 1 rfl rfl)
theorem dX5_tell_2 : decode cX5_tell 2 = .ok (.iconst 0, 1) := dk_3 (dk_at dksX5_tell_0 2 rfl rfl)
theorem dX5_tell_3 : decode cX5_tell 3 = .ok (.istore_n 3, 1) := dk_62 (dk_at dksX5_tell_0 3 rfl rfl)
theorem dX5_tell_4 : decode cX5_tell 4 = .ok (.iload_n 3, 1) := dk_29 (dk_at dksX5_tell_0 4 rfl rfl)
theorem dX5_tell_5 : decode cX5_tell 5 = .ok (.aload_n 0, 1) := dk_42 (dk_at dksX5_tell_0 5 rfl rfl)
theorem dX5_tell_6 : decode cX5_tell 6 = .ok (.getfield 7, 3) := dk_180 0 7 (dk_at dksX5_tell_0 6 rfl rfl)
theorem dX5_tell_9 : decode cX5_tell 9 = .ok (.sipush 160, 3) := dk_17 0 160 (dk_at dksX5_tell_0 9 rfl rfl)
theorem dX5_tell_12 : decode cX5_tell 12 = .ok (.iaload, 1) := dk_46 (dk_at dksX5_tell_0 12 rfl rfl)
theorem dX5_tell_13 : decode cX5_tell 13 = .ok (.if_icmp .ge 99, 3) := dk_162 0 99 (dk_at dksX5_tell_0 13 rfl rfl)
theorem dX5_tell_16 : decode cX5_tell 16 = .ok (.aload_n 0, 1) := dk_42 (dk_at dksX5_tell_0 16 rfl rfl)
theorem dX5_tell_17 : decode cX5_tell 17 = .ok (.getfield 25, 3) := dk_180 0 25 (dk_at dksX5_tell_0 17 rfl rfl)
theorem dX5_tell_20 : decode cX5_tell 20 = .ok (.iload_n 3, 1) := dk_29 (dk_at dksX5_tell_0 20 rfl rfl)
theorem dX5_tell_21 : decode cX5_tell 21 = .ok (.aload_n 0, 1) := dk_42 (dk_at dksX5_tell_0 21 rfl rfl)
theorem dX5_tell_22 : decode cX5_tell 22 = .ok (.iload_n 3, 1) := dk_29 (dk_at dksX5_tell_0 22 rfl rfl)
theorem dX5_tell_23 : decode cX5_tell 23 = .ok (.invokevirtual 57, 3) := dk_182 0 57 (dk_at dksX5_tell_1 0 rfl rfl)
theorem dX5_tell_26 : decode cX5_tell 26 = .ok (.bastore, 1) := dk_84 (dk_at dksX5_tell_1 3 rfl rfl)
theorem dX5_tell_27 : decode cX5_tell 27 = .ok (.iconst 0, 1) := dk_3 (dk_at dksX5_tell_1 4 rfl rfl)
theorem dX5_tell_28 : decode cX5_tell 28 = .ok (.istore 4, 2) := dk_54 4 (dk_at dksX5_tell_1 5 rfl rfl)
theorem dX5_tell_30 : decode cX5_tell 30 = .ok (.iload 4, 2) := dk_21 4 (dk_at dksX5_tell_1 7 rfl rfl)
theorem dX5_tell_32 : decode cX5_tell 32 = .ok (.aload_n 0, 1) := dk_42 (dk_at dksX5_tell_1 9 rfl rfl)
theorem dX5_tell_33 : decode cX5_tell 33 = .ok (.getfield 7, 3) := dk_180 0 7 (dk_at dksX5_tell_1 10 rfl rfl)
theorem dX5_tell_36 : decode cX5_tell 36 = .ok (.sipush 160, 3) := dk_17 0 160 (dk_at dksX5_tell_1 13 rfl rfl)
theorem dX5_tell_39 : decode cX5_tell 39 = .ok (.iaload, 1) := dk_46 (dk_at dksX5_tell_1 16 rfl rfl)
theorem dX5_tell_40 : decode cX5_tell 40 = .ok (.if_icmp .ge 49, 3) := dk_162 0 49 (dk_at dksX5_tell_1 17 rfl rfl)
theorem dX5_tell_43 : decode cX5_tell 43 = .ok (.aload_n 0, 1) := dk_42 (dk_at dksX5_tell_1 20 rfl rfl)
theorem dX5_tell_44 : decode cX5_tell 44 = .ok (.getfield 25, 3) := dk_180 0 25 (dk_at dksX5_tell_1 21 rfl rfl)
theorem dX5_tell_47 : decode cX5_tell 47 = .ok (.iload_n 3, 1) := dk_29 (dk_at dksX5_tell_2 0 rfl rfl)
theorem dX5_tell_48 : decode cX5_tell 48 = .ok (.baload, 1) := dk_51 (dk_at dksX5_tell_2 1 rfl rfl)
theorem dX5_tell_49 : decode cX5_tell 49 = .ok (.ifCond .eq 40, 3) := dk_153 0 40 (dk_at dksX5_tell_2 2 rfl rfl)
theorem dX5_tell_52 : decode cX5_tell 52 = .ok (.aload_n 0, 1) := dk_42 (dk_at dksX5_tell_2 5 rfl rfl)
theorem dX5_tell_53 : decode cX5_tell 53 = .ok (.getfield 25, 3) := dk_180 0 25 (dk_at dksX5_tell_2 6 rfl rfl)
theorem dX5_tell_56 : decode cX5_tell 56 = .ok (.iload_n 3, 1) := dk_29 (dk_at dksX5_tell_2 9 rfl rfl)
theorem dX5_tell_57 : decode cX5_tell 57 = .ok (.aload_n 0, 1) := dk_42 (dk_at dksX5_tell_2 10 rfl rfl)
theorem dX5_tell_58 : decode cX5_tell 58 = .ok (.iload 4, 2) := dk_21 4 (dk_at dksX5_tell_2 11 rfl rfl)
theorem dX5_tell_60 : decode cX5_tell 60 = .ok (.invokevirtual 57, 3) := dk_182 0 57 (dk_at dksX5_tell_2 13 rfl rfl)
theorem dX5_tell_63 : decode cX5_tell 63 = .ok (.ifCond .eq 14, 3) := dk_153 0 14 (dk_at dksX5_tell_2 16 rfl rfl)
theorem dX5_tell_66 : decode cX5_tell 66 = .ok (.aload_n 0, 1) := dk_42 (dk_at dksX5_tell_2 19 rfl rfl)
theorem dX5_tell_67 : decode cX5_tell 67 = .ok (.iload 4, 2) := dk_21 4 (dk_at dksX5_tell_2 20 rfl rfl)
theorem dX5_tell_69 : decode cX5_tell 69 = .ok (.iload_n 3, 1) := dk_29 (dk_at dksX5_tell_2 22 rfl rfl)
theorem dX5_tell_70 : decode cX5_tell 70 = .ok (.iload_n 1, 1) := dk_27 (dk_at dksX5_tell_2 23 rfl rfl)
theorem dX5_tell_71 : decode cX5_tell 71 = .ok (.invokevirtual 71, 3) := dk_182 0 71 (dk_at dksX5_tell_3 0 rfl rfl)
theorem dX5_tell_74 : decode cX5_tell 74 = .ok (.ifCond .ne 7, 3) := dk_154 0 7 (dk_at dksX5_tell_3 3 rfl rfl)
theorem dX5_tell_77 : decode cX5_tell 77 = .ok (.iconst 1, 1) := dk_4 (dk_at dksX5_tell_3 6 rfl rfl)
theorem dX5_tell_78 : decode cX5_tell 78 = .ok (.goto 4, 3) := dk_167 0 4 (dk_at dksX5_tell_3 7 rfl rfl)
theorem dX5_tell_81 : decode cX5_tell 81 = .ok (.iconst 0, 1) := dk_3 (dk_at dksX5_tell_3 10 rfl rfl)
theorem dX5_tell_82 : decode cX5_tell 82 = .ok (.bastore, 1) := dk_84 (dk_at dksX5_tell_3 11 rfl rfl)
theorem dX5_tell_83 : decode cX5_tell 83 = .ok (.iinc 4 1, 3) := dk_132 4 1 (dk_at dksX5_tell_3 12 rfl rfl)
theorem dX5_tell_86 : decode cX5_tell 86 = .ok (.goto (-56), 3) := dk_167 255 200 (dk_at dksX5_tell_3 15 rfl rfl)
theorem dX5_tell_89 : decode cX5_tell 89 = .ok (.iload_n 2, 1) := dk_28 (dk_at dksX5_tell_3 18 rfl rfl)
theorem dX5_tell_90 : decode cX5_tell 90 = .ok (.aload_n 0, 1) := dk_42 (dk_at dksX5_tell_3 19 rfl rfl)
theorem dX5_tell_91 : decode cX5_tell 91 = .ok (.getfield 25, 3) := dk_180 0 25 (dk_at dksX5_tell_3 20 rfl rfl)
theorem dX5_tell_94 : decode cX5_tell 94 = .ok (.iload_n 3, 1) := dk_29 (dk_at dksX5_tell_3 23 rfl rfl)
theorem dX5_tell_95 : decode cX5_tell 95 = .ok (.baload, 1) := dk_51 (dk_at dksX5_tell_4 0 rfl rfl)
theorem dX5_tell_96 : decode cX5_tell 96 = .ok (.ifCond .eq 7, 3) := dk_153 0 7 (dk_at dksX5_tell_4 1 rfl rfl)
theorem dX5_tell_99 : decode cX5_tell 99 = .ok (.iconst 1, 1) := dk_4 (dk_at dksX5_tell_4 4 rfl rfl)
theorem dX5_tell_100 : decode cX5_tell 100 = .ok (.goto 4, 3) := dk_167 0 4 (dk_at dksX5_tell_4 5 rfl rfl)
theorem dX5_tell_103 : decode cX5_tell 103 = .ok (.iconst 0, 1) := dk_3 (dk_at dksX5_tell_4 8 rfl rfl)
theorem dX5_tell_104 : decode cX5_tell 104 = .ok (.iadd, 1) := dk_96 (dk_at dksX5_tell_4 9 rfl rfl)
theorem dX5_tell_105 : decode cX5_tell 105 = .ok (.istore_n 2, 1) := dk_61 (dk_at dksX5_tell_4 10 rfl rfl)
theorem dX5_tell_106 : decode cX5_tell 106 = .ok (.iinc 3 1, 3) := dk_132 3 1 (dk_at dksX5_tell_4 11 rfl rfl)
theorem dX5_tell_109 : decode cX5_tell 109 = .ok (.goto (-105), 3) := dk_167 255 151 (dk_at dksX5_tell_4 14 rfl rfl)
theorem dX5_tell_112 : decode cX5_tell 112 = .ok (.iload_n 2, 1) := dk_28 (dk_at dksX5_tell_4 17 rfl rfl)
theorem dX5_tell_113 : decode cX5_tell 113 = .ok (.ireturn, 1) := dk_172 (dk_at dksX5_tell_4 18 rfl rfl)
abbrev cX5_counts : ByteArray := prog_10_method_13_code
def yX5_counts : MethodName := ⟨RX5, "counts", "(I)Z"⟩
def dkwX5_counts_2 : List UInt8 := [172]
abbrev dktX5_counts_2 : List UInt8 := dkwX5_counts_2 ++ []
def dkwX5_counts_1 : List UInt8 := [180, 0, 7, 17, 0, 169, 28, 96, 46, 184, 0, 42, 154, 0, 5, 3, 172, 132, 2, 1, 167, 255, 214, 4]
abbrev dktX5_counts_1 : List UInt8 := dkwX5_counts_1 ++ dktX5_counts_2
def dkwX5_counts_0 : List UInt8 := [3, 61, 28, 7, 162, 0, 43, 42, 27, 28, 182, 0, 53, 42, 180, 0, 7, 17, 0, 165, 28, 96, 46, 42]
abbrev dktX5_counts_0 : List UInt8 := dkwX5_counts_0 ++ dktX5_counts_1
theorem dksX5_counts_0 : cX5_counts.data.toList.drop 0 = dktX5_counts_0 := by decide +kernel
theorem dksX5_counts_1 : cX5_counts.data.toList.drop 24 = dktX5_counts_1 := dk_seg dksX5_counts_0 24 rfl rfl
theorem dksX5_counts_2 : cX5_counts.data.toList.drop 48 = dktX5_counts_2 := dk_seg dksX5_counts_1 24 rfl rfl
theorem dX5_counts_0 : decode cX5_counts 0 = .ok (.iconst 0, 1) := dk_3 (dk_at dksX5_counts_0 0 rfl rfl)
theorem dX5_counts_1 : decode cX5_counts 1 = .ok (.istore_n 2, 1) := dk_61 (dk_at dksX5_counts_0 1 rfl rfl)
theorem dX5_counts_2 : decode cX5_counts 2 = .ok (.iload_n 2, 1) := dk_28 (dk_at dksX5_counts_0 2 rfl rfl)
theorem dX5_counts_3 : decode cX5_counts 3 = .ok (.iconst 4, 1) := dk_7 (dk_at dksX5_counts_0 3 rfl rfl)
theorem dX5_counts_4 : decode cX5_counts 4 = .ok (.if_icmp .ge 43, 3) := dk_162 0 43 (dk_at dksX5_counts_0 4 rfl rfl)
theorem dX5_counts_7 : decode cX5_counts 7 = .ok (.aload_n 0, 1) := dk_42 (dk_at dksX5_counts_0 7 rfl rfl)
theorem dX5_counts_8 : decode cX5_counts 8 = .ok (.iload_n 1, 1) := dk_27 (dk_at dksX5_counts_0 8 rfl rfl)
theorem dX5_counts_9 : decode cX5_counts 9 = .ok (.iload_n 2, 1) := dk_28 (dk_at dksX5_counts_0 9 rfl rfl)
theorem dX5_counts_10 : decode cX5_counts 10 = .ok (.invokevirtual 53, 3) := dk_182 0 53 (dk_at dksX5_counts_0 10 rfl rfl)
theorem dX5_counts_13 : decode cX5_counts 13 = .ok (.aload_n 0, 1) := dk_42 (dk_at dksX5_counts_0 13 rfl rfl)
theorem dX5_counts_14 : decode cX5_counts 14 = .ok (.getfield 7, 3) := dk_180 0 7 (dk_at dksX5_counts_0 14 rfl rfl)
theorem dX5_counts_17 : decode cX5_counts 17 = .ok (.sipush 165, 3) := dk_17 0 165 (dk_at dksX5_counts_0 17 rfl rfl)
theorem dX5_counts_20 : decode cX5_counts 20 = .ok (.iload_n 2, 1) := dk_28 (dk_at dksX5_counts_0 20 rfl rfl)
theorem dX5_counts_21 : decode cX5_counts 21 = .ok (.iadd, 1) := dk_96 (dk_at dksX5_counts_0 21 rfl rfl)
theorem dX5_counts_22 : decode cX5_counts 22 = .ok (.iaload, 1) := dk_46 (dk_at dksX5_counts_0 22 rfl rfl)
theorem dX5_counts_23 : decode cX5_counts 23 = .ok (.aload_n 0, 1) := dk_42 (dk_at dksX5_counts_0 23 rfl rfl)
theorem dX5_counts_24 : decode cX5_counts 24 = .ok (.getfield 7, 3) := dk_180 0 7 (dk_at dksX5_counts_1 0 rfl rfl)
theorem dX5_counts_27 : decode cX5_counts 27 = .ok (.sipush 169, 3) := dk_17 0 169 (dk_at dksX5_counts_1 3 rfl rfl)
theorem dX5_counts_30 : decode cX5_counts 30 = .ok (.iload_n 2, 1) := dk_28 (dk_at dksX5_counts_1 6 rfl rfl)
theorem dX5_counts_31 : decode cX5_counts 31 = .ok (.iadd, 1) := dk_96 (dk_at dksX5_counts_1 7 rfl rfl)
theorem dX5_counts_32 : decode cX5_counts 32 = .ok (.iaload, 1) := dk_46 (dk_at dksX5_counts_1 8 rfl rfl)
theorem dX5_counts_33 : decode cX5_counts 33 = .ok (.invokestatic 42, 3) := dk_184 0 42 (dk_at dksX5_counts_1 9 rfl rfl)
theorem dX5_counts_36 : decode cX5_counts 36 = .ok (.ifCond .ne 5, 3) := dk_154 0 5 (dk_at dksX5_counts_1 12 rfl rfl)
theorem dX5_counts_39 : decode cX5_counts 39 = .ok (.iconst 0, 1) := dk_3 (dk_at dksX5_counts_1 15 rfl rfl)
theorem dX5_counts_40 : decode cX5_counts 40 = .ok (.ireturn, 1) := dk_172 (dk_at dksX5_counts_1 16 rfl rfl)
theorem dX5_counts_41 : decode cX5_counts 41 = .ok (.iinc 2 1, 3) := dk_132 2 1 (dk_at dksX5_counts_1 17 rfl rfl)
theorem dX5_counts_44 : decode cX5_counts 44 = .ok (.goto (-42), 3) := dk_167 255 214 (dk_at dksX5_counts_1 20 rfl rfl)
theorem dX5_counts_47 : decode cX5_counts 47 = .ok (.iconst 1, 1) := dk_4 (dk_at dksX5_counts_1 23 rfl rfl)
theorem dX5_counts_48 : decode cX5_counts 48 = .ok (.ireturn, 1) := dk_172 (dk_at dksX5_counts_2 0 rfl rfl)
abbrev cX5_isBeyond : ByteArray := prog_10_method_16_code
def yX5_isBeyond : MethodName := ⟨RX5, "isBeyond", "(III)Z"⟩
def dkwX5_isBeyond_1 : List UInt8 := [3, 172]
abbrev dktX5_isBeyond_1 : List UInt8 := dkwX5_isBeyond_1 ++ []
def dkwX5_isBeyond_0 : List UInt8 := [42, 28, 27, 29, 182, 0, 63, 154, 0, 17, 42, 27, 28, 29, 182, 0, 63, 158, 0, 7, 4, 167, 0, 4]
abbrev dktX5_isBeyond_0 : List UInt8 := dkwX5_isBeyond_0 ++ dktX5_isBeyond_1
theorem dksX5_isBeyond_0 : cX5_isBeyond.data.toList.drop 0 = dktX5_isBeyond_0 := by decide +kernel
theorem dksX5_isBeyond_1 : cX5_isBeyond.data.toList.drop 24 = dktX5_isBeyond_1 := dk_seg dksX5_isBeyond_0 24 rfl rfl
theorem dX5_isBeyond_0 : decode cX5_isBeyond 0 = .ok (.aload_n 0, 1) := dk_42 (dk_at dksX5_isBeyond_0 0 rfl rfl)
theorem dX5_isBeyond_1 : decode cX5_isBeyond 1 = .ok (.iload_n 2, 1) := dk_28 (dk_at dksX5_isBeyond_0 1 rfl rfl)
theorem dX5_isBeyond_2 : decode cX5_isBeyond 2 = .ok (.iload_n 1, 1) := dk_27 (dk_at dksX5_isBeyond_0 2 rfl rfl)
theorem dX5_isBeyond_3 : decode cX5_isBeyond 3 = .ok (.iload_n 3, 1) := dk_29 (dk_at dksX5_isBeyond_0 3 rfl rfl)
theorem dX5_isBeyond_4 : decode cX5_isBeyond 4 = .ok (.invokevirtual 63, 3) := dk_182 0 63 (dk_at dksX5_isBeyond_0 4 rfl rfl)
theorem dX5_isBeyond_7 : decode cX5_isBeyond 7 = .ok (.ifCond .ne 17, 3) := dk_154 0 17 (dk_at dksX5_isBeyond_0 7 rfl rfl)
theorem dX5_isBeyond_10 : decode cX5_isBeyond 10 = .ok (.aload_n 0, 1) := dk_42 (dk_at dksX5_isBeyond_0 10 rfl rfl)
theorem dX5_isBeyond_11 : decode cX5_isBeyond 11 = .ok (.iload_n 1, 1) := dk_27 (dk_at dksX5_isBeyond_0 11 rfl rfl)
theorem dX5_isBeyond_12 : decode cX5_isBeyond 12 = .ok (.iload_n 2, 1) := dk_28 (dk_at dksX5_isBeyond_0 12 rfl rfl)
theorem dX5_isBeyond_13 : decode cX5_isBeyond 13 = .ok (.iload_n 3, 1) := dk_29 (dk_at dksX5_isBeyond_0 13 rfl rfl)
theorem dX5_isBeyond_14 : decode cX5_isBeyond 14 = .ok (.invokevirtual 63, 3) := dk_182 0 63 (dk_at dksX5_isBeyond_0 14 rfl rfl)
theorem dX5_isBeyond_17 : decode cX5_isBeyond 17 = .ok (.ifCond .le 7, 3) := dk_158 0 7 (dk_at dksX5_isBeyond_0 17 rfl rfl)
theorem dX5_isBeyond_20 : decode cX5_isBeyond 20 = .ok (.iconst 1, 1) := dk_4 (dk_at dksX5_isBeyond_0 20 rfl rfl)
theorem dX5_isBeyond_21 : decode cX5_isBeyond 21 = .ok (.goto 4, 3) := dk_167 0 4 (dk_at dksX5_isBeyond_0 21 rfl rfl)
theorem dX5_isBeyond_24 : decode cX5_isBeyond 24 = .ok (.iconst 0, 1) := dk_3 (dk_at dksX5_isBeyond_1 0 rfl rfl)
theorem dX5_isBeyond_25 : decode cX5_isBeyond 25 = .ok (.ireturn, 1) := dk_172 (dk_at dksX5_isBeyond_1 1 rfl rfl)
abbrev cX5_better : ByteArray := prog_10_method_15_code
def yX5_better : MethodName := ⟨RX5, "better", "(III)I"⟩
def dkwX5_better_2 : List UInt8 := [54, 4, 132, 5, 1, 167, 255, 210, 21, 4, 172]
abbrev dktX5_better_2 : List UInt8 := dkwX5_better_2 ++ []
def dkwX5_better_1 : List UInt8 := [42, 27, 21, 5, 182, 0, 60, 42, 28, 21, 5, 182, 0, 60, 164, 0, 7, 4, 167, 0, 4, 3, 96]
abbrev dktX5_better_1 : List UInt8 := dkwX5_better_1 ++ dktX5_better_2
def dkwX5_better_0 : List UInt8 := [3, 54, 4, 3, 54, 5, 21, 5, 7, 162, 0, 46, 21, 4, 29, 21, 5, 122, 4, 126, 4, 160, 0, 24]
abbrev dktX5_better_0 : List UInt8 := dkwX5_better_0 ++ dktX5_better_1
theorem dksX5_better_0 : cX5_better.data.toList.drop 0 = dktX5_better_0 := by decide +kernel
theorem dksX5_better_1 : cX5_better.data.toList.drop 24 = dktX5_better_1 := dk_seg dksX5_better_0 24 rfl rfl
theorem dksX5_better_2 : cX5_better.data.toList.drop 47 = dktX5_better_2 := dk_seg dksX5_better_1 23 rfl rfl
theorem dX5_better_0 : decode cX5_better 0 = .ok (.iconst 0, 1) := dk_3 (dk_at dksX5_better_0 0 rfl rfl)
theorem dX5_better_1 : decode cX5_better 1 = .ok (.istore 4, 2) := dk_54 4 (dk_at dksX5_better_0 1 rfl rfl)
theorem dX5_better_3 : decode cX5_better 3 = .ok (.iconst 0, 1) := dk_3 (dk_at dksX5_better_0 3 rfl rfl)
theorem dX5_better_4 : decode cX5_better 4 = .ok (.istore 5, 2) := dk_54 5 (dk_at dksX5_better_0 4 rfl rfl)
theorem dX5_better_6 : decode cX5_better 6 = .ok (.iload 5, 2) := dk_21 5 (dk_at dksX5_better_0 6 rfl rfl)
theorem dX5_better_8 : decode cX5_better 8 = .ok (.iconst 4, 1) := dk_7 (dk_at dksX5_better_0 8 rfl rfl)
theorem dX5_better_9 : decode cX5_better 9 = .ok (.if_icmp .ge 46, 3) := dk_162 0 46 (dk_at dksX5_better_0 9 rfl rfl)
theorem dX5_better_12 : decode cX5_better 12 = .ok (.iload 4, 2) := dk_21 4 (dk_at dksX5_better_0 12 rfl rfl)
theorem dX5_better_14 : decode cX5_better 14 = .ok (.iload_n 3, 1) := dk_29 (dk_at dksX5_better_0 14 rfl rfl)
theorem dX5_better_15 : decode cX5_better 15 = .ok (.iload 5, 2) := dk_21 5 (dk_at dksX5_better_0 15 rfl rfl)
theorem dX5_better_17 : decode cX5_better 17 = .ok (.ishr, 1) := dk_122 (dk_at dksX5_better_0 17 rfl rfl)
theorem dX5_better_18 : decode cX5_better 18 = .ok (.iconst 1, 1) := dk_4 (dk_at dksX5_better_0 18 rfl rfl)
theorem dX5_better_19 : decode cX5_better 19 = .ok (.iand, 1) := dk_126 (dk_at dksX5_better_0 19 rfl rfl)
theorem dX5_better_20 : decode cX5_better 20 = .ok (.iconst 1, 1) := dk_4 (dk_at dksX5_better_0 20 rfl rfl)
theorem dX5_better_21 : decode cX5_better 21 = .ok (.if_icmp .ne 24, 3) := dk_160 0 24 (dk_at dksX5_better_0 21 rfl rfl)
theorem dX5_better_24 : decode cX5_better 24 = .ok (.aload_n 0, 1) := dk_42 (dk_at dksX5_better_1 0 rfl rfl)
theorem dX5_better_25 : decode cX5_better 25 = .ok (.iload_n 1, 1) := dk_27 (dk_at dksX5_better_1 1 rfl rfl)
theorem dX5_better_26 : decode cX5_better 26 = .ok (.iload 5, 2) := dk_21 5 (dk_at dksX5_better_1 2 rfl rfl)
theorem dX5_better_28 : decode cX5_better 28 = .ok (.invokevirtual 60, 3) := dk_182 0 60 (dk_at dksX5_better_1 4 rfl rfl)
theorem dX5_better_31 : decode cX5_better 31 = .ok (.aload_n 0, 1) := dk_42 (dk_at dksX5_better_1 7 rfl rfl)
theorem dX5_better_32 : decode cX5_better 32 = .ok (.iload_n 2, 1) := dk_28 (dk_at dksX5_better_1 8 rfl rfl)
theorem dX5_better_33 : decode cX5_better 33 = .ok (.iload 5, 2) := dk_21 5 (dk_at dksX5_better_1 9 rfl rfl)
theorem dX5_better_35 : decode cX5_better 35 = .ok (.invokevirtual 60, 3) := dk_182 0 60 (dk_at dksX5_better_1 11 rfl rfl)
theorem dX5_better_38 : decode cX5_better 38 = .ok (.if_icmp .le 7, 3) := dk_164 0 7 (dk_at dksX5_better_1 14 rfl rfl)
theorem dX5_better_41 : decode cX5_better 41 = .ok (.iconst 1, 1) := dk_4 (dk_at dksX5_better_1 17 rfl rfl)
theorem dX5_better_42 : decode cX5_better 42 = .ok (.goto 4, 3) := dk_167 0 4 (dk_at dksX5_better_1 18 rfl rfl)
theorem dX5_better_45 : decode cX5_better 45 = .ok (.iconst 0, 1) := dk_3 (dk_at dksX5_better_1 21 rfl rfl)
theorem dX5_better_46 : decode cX5_better 46 = .ok (.iadd, 1) := dk_96 (dk_at dksX5_better_1 22 rfl rfl)
theorem dX5_better_47 : decode cX5_better 47 = .ok (.istore 4, 2) := dk_54 4 (dk_at dksX5_better_2 0 rfl rfl)
theorem dX5_better_49 : decode cX5_better 49 = .ok (.iinc 5 1, 3) := dk_132 5 1 (dk_at dksX5_better_2 2 rfl rfl)
theorem dX5_better_52 : decode cX5_better 52 = .ok (.goto (-46), 3) := dk_167 255 210 (dk_at dksX5_better_2 5 rfl rfl)
theorem dX5_better_55 : decode cX5_better 55 = .ok (.iload 4, 2) := dk_21 4 (dk_at dksX5_better_2 8 rfl rfl)
theorem dX5_better_57 : decode cX5_better 57 = .ok (.ireturn, 1) := dk_172 (dk_at dksX5_better_2 10 rfl rfl)
abbrev cX5_good : ByteArray := prog_10_method_12_code
def yX5_good : MethodName := ⟨RX5, "good", "(II)I"⟩
def dkwX5_good_1 : List UInt8 := [16, 99, 42, 27, 28, 182, 0, 53, 100, 172]
abbrev dktX5_good_1 : List UInt8 := dkwX5_good_1 ++ []
def dkwX5_good_0 : List UInt8 := [42, 180, 0, 7, 17, 0, 161, 28, 96, 46, 4, 160, 0, 12, 42, 27, 28, 182, 0, 53, 167, 0, 12]
abbrev dktX5_good_0 : List UInt8 := dkwX5_good_0 ++ dktX5_good_1
theorem dksX5_good_0 : cX5_good.data.toList.drop 0 = dktX5_good_0 := by decide +kernel
theorem dksX5_good_1 : cX5_good.data.toList.drop 23 = dktX5_good_1 := dk_seg dksX5_good_0 23 rfl rfl
theorem dX5_good_0 : decode cX5_good 0 = .ok (.aload_n 0, 1) := dk_42 (dk_at dksX5_good_0 0 rfl rfl)
theorem dX5_good_1 : decode cX5_good 1 = .ok (.getfield 7, 3) := dk_180 0 7 (dk_at dksX5_good_0 1 rfl rfl)
theorem dX5_good_4 : decode cX5_good 4 = .ok (.sipush 161, 3) := dk_17 0 161 (dk_at dksX5_good_0 4 rfl rfl)
theorem dX5_good_7 : decode cX5_good 7 = .ok (.iload_n 2, 1) := dk_28 (dk_at dksX5_good_0 7 rfl rfl)
theorem dX5_good_8 : decode cX5_good 8 = .ok (.iadd, 1) := dk_96 (dk_at dksX5_good_0 8 rfl rfl)
theorem dX5_good_9 : decode cX5_good 9 = .ok (.iaload, 1) := dk_46 (dk_at dksX5_good_0 9 rfl rfl)
theorem dX5_good_10 : decode cX5_good 10 = .ok (.iconst 1, 1) := dk_4 (dk_at dksX5_good_0 10 rfl rfl)
theorem dX5_good_11 : decode cX5_good 11 = .ok (.if_icmp .ne 12, 3) := dk_160 0 12 (dk_at dksX5_good_0 11 rfl rfl)
theorem dX5_good_14 : decode cX5_good 14 = .ok (.aload_n 0, 1) := dk_42 (dk_at dksX5_good_0 14 rfl rfl)
theorem dX5_good_15 : decode cX5_good 15 = .ok (.iload_n 1, 1) := dk_27 (dk_at dksX5_good_0 15 rfl rfl)
theorem dX5_good_16 : decode cX5_good 16 = .ok (.iload_n 2, 1) := dk_28 (dk_at dksX5_good_0 16 rfl rfl)
theorem dX5_good_17 : decode cX5_good 17 = .ok (.invokevirtual 53, 3) := dk_182 0 53 (dk_at dksX5_good_0 17 rfl rfl)
theorem dX5_good_20 : decode cX5_good 20 = .ok (.goto 12, 3) := dk_167 0 12 (dk_at dksX5_good_0 20 rfl rfl)
theorem dX5_good_23 : decode cX5_good 23 = .ok (.bipush 99, 2) := dk_16 99 (dk_at dksX5_good_1 0 rfl rfl)
theorem dX5_good_25 : decode cX5_good 25 = .ok (.aload_n 0, 1) := dk_42 (dk_at dksX5_good_1 2 rfl rfl)
theorem dX5_good_26 : decode cX5_good 26 = .ok (.iload_n 1, 1) := dk_27 (dk_at dksX5_good_1 3 rfl rfl)
theorem dX5_good_27 : decode cX5_good 27 = .ok (.iload_n 2, 1) := dk_28 (dk_at dksX5_good_1 4 rfl rfl)
theorem dX5_good_28 : decode cX5_good 28 = .ok (.invokevirtual 53, 3) := dk_182 0 53 (dk_at dksX5_good_1 5 rfl rfl)
theorem dX5_good_31 : decode cX5_good 31 = .ok (.isub, 1) := dk_100 (dk_at dksX5_good_1 8 rfl rfl)
theorem dX5_good_32 : decode cX5_good 32 = .ok (.ireturn, 1) := dk_172 (dk_at dksX5_good_1 9 rfl rfl)
abbrev cX5_setWish : ByteArray := prog_10_method_35_code
def yX5_setWish : MethodName := ⟨RX5, "setWish", "(II)I"⟩
def dkwX5_setWish_2 : List UInt8 := [17, 0, 161, 27, 96, 46, 62, 42, 180, 0, 7, 17, 0, 161, 27, 96, 28, 79, 29, 172]
abbrev dktX5_setWish_2 : List UInt8 := dkwX5_setWish_2 ++ []
def dkwX5_setWish_1 : List UInt8 := [167, 0, 4, 3, 181, 0, 38, 42, 180, 0, 38, 153, 0, 5, 3, 172, 42, 182, 0, 95, 42, 180, 0, 7]
abbrev dktX5_setWish_1 : List UInt8 := dkwX5_setWish_1 ++ dktX5_setWish_2
def dkwX5_setWish_0 : List UInt8 := [42, 27, 184, 0, 112, 153, 0, 7, 4, 167, 0, 17, 28, 3, 5, 184, 0, 42, 154, 0, 7, 5]
abbrev dktX5_setWish_0 : List UInt8 := dkwX5_setWish_0 ++ dktX5_setWish_1
theorem dksX5_setWish_0 : cX5_setWish.data.toList.drop 0 = dktX5_setWish_0 := by decide +kernel
theorem dksX5_setWish_1 : cX5_setWish.data.toList.drop 22 = dktX5_setWish_1 := dk_seg dksX5_setWish_0 22 rfl rfl
theorem dksX5_setWish_2 : cX5_setWish.data.toList.drop 46 = dktX5_setWish_2 := dk_seg dksX5_setWish_1 24 rfl rfl
theorem dX5_setWish_0 : decode cX5_setWish 0 = .ok (.aload_n 0, 1) := dk_42 (dk_at dksX5_setWish_0 0 rfl rfl)
theorem dX5_setWish_1 : decode cX5_setWish 1 = .ok (.iload_n 1, 1) := dk_27 (dk_at dksX5_setWish_0 1 rfl rfl)
theorem dX5_setWish_2 : decode cX5_setWish 2 = .ok (.invokestatic 112, 3) := dk_184 0 112 (dk_at dksX5_setWish_0 2 rfl rfl)
theorem dX5_setWish_5 : decode cX5_setWish 5 = .ok (.ifCond .eq 7, 3) := dk_153 0 7 (dk_at dksX5_setWish_0 5 rfl rfl)
theorem dX5_setWish_8 : decode cX5_setWish 8 = .ok (.iconst 1, 1) := dk_4 (dk_at dksX5_setWish_0 8 rfl rfl)
theorem dX5_setWish_9 : decode cX5_setWish 9 = .ok (.goto 17, 3) := dk_167 0 17 (dk_at dksX5_setWish_0 9 rfl rfl)
theorem dX5_setWish_12 : decode cX5_setWish 12 = .ok (.iload_n 2, 1) := dk_28 (dk_at dksX5_setWish_0 12 rfl rfl)
theorem dX5_setWish_13 : decode cX5_setWish 13 = .ok (.iconst 0, 1) := dk_3 (dk_at dksX5_setWish_0 13 rfl rfl)
theorem dX5_setWish_14 : decode cX5_setWish 14 = .ok (.iconst 2, 1) := dk_5 (dk_at dksX5_setWish_0 14 rfl rfl)
theorem dX5_setWish_15 : decode cX5_setWish 15 = .ok (.invokestatic 42, 3) := dk_184 0 42 (dk_at dksX5_setWish_0 15 rfl rfl)
theorem dX5_setWish_18 : decode cX5_setWish 18 = .ok (.ifCond .ne 7, 3) := dk_154 0 7 (dk_at dksX5_setWish_0 18 rfl rfl)
theorem dX5_setWish_21 : decode cX5_setWish 21 = .ok (.iconst 2, 1) := dk_5 (dk_at dksX5_setWish_0 21 rfl rfl)
theorem dX5_setWish_22 : decode cX5_setWish 22 = .ok (.goto 4, 3) := dk_167 0 4 (dk_at dksX5_setWish_1 0 rfl rfl)
theorem dX5_setWish_25 : decode cX5_setWish 25 = .ok (.iconst 0, 1) := dk_3 (dk_at dksX5_setWish_1 3 rfl rfl)
theorem dX5_setWish_26 : decode cX5_setWish 26 = .ok (.putfield 38, 3) := dk_181 0 38 (dk_at dksX5_setWish_1 4 rfl rfl)
theorem dX5_setWish_29 : decode cX5_setWish 29 = .ok (.aload_n 0, 1) := dk_42 (dk_at dksX5_setWish_1 7 rfl rfl)
theorem dX5_setWish_30 : decode cX5_setWish 30 = .ok (.getfield 38, 3) := dk_180 0 38 (dk_at dksX5_setWish_1 8 rfl rfl)
theorem dX5_setWish_33 : decode cX5_setWish 33 = .ok (.ifCond .eq 5, 3) := dk_153 0 5 (dk_at dksX5_setWish_1 11 rfl rfl)
theorem dX5_setWish_36 : decode cX5_setWish 36 = .ok (.iconst 0, 1) := dk_3 (dk_at dksX5_setWish_1 14 rfl rfl)
theorem dX5_setWish_37 : decode cX5_setWish 37 = .ok (.ireturn, 1) := dk_172 (dk_at dksX5_setWish_1 15 rfl rfl)
theorem dX5_setWish_38 : decode cX5_setWish 38 = .ok (.aload_n 0, 1) := dk_42 (dk_at dksX5_setWish_1 16 rfl rfl)
theorem dX5_setWish_39 : decode cX5_setWish 39 = .ok (.invokevirtual 95, 3) := dk_182 0 95 (dk_at dksX5_setWish_1 17 rfl rfl)
theorem dX5_setWish_42 : decode cX5_setWish 42 = .ok (.aload_n 0, 1) := dk_42 (dk_at dksX5_setWish_1 20 rfl rfl)
theorem dX5_setWish_43 : decode cX5_setWish 43 = .ok (.getfield 7, 3) := dk_180 0 7 (dk_at dksX5_setWish_1 21 rfl rfl)
theorem dX5_setWish_46 : decode cX5_setWish 46 = .ok (.sipush 161, 3) := dk_17 0 161 (dk_at dksX5_setWish_2 0 rfl rfl)
theorem dX5_setWish_49 : decode cX5_setWish 49 = .ok (.iload_n 1, 1) := dk_27 (dk_at dksX5_setWish_2 3 rfl rfl)
theorem dX5_setWish_50 : decode cX5_setWish 50 = .ok (.iadd, 1) := dk_96 (dk_at dksX5_setWish_2 4 rfl rfl)
theorem dX5_setWish_51 : decode cX5_setWish 51 = .ok (.iaload, 1) := dk_46 (dk_at dksX5_setWish_2 5 rfl rfl)
theorem dX5_setWish_52 : decode cX5_setWish 52 = .ok (.istore_n 3, 1) := dk_62 (dk_at dksX5_setWish_2 6 rfl rfl)
theorem dX5_setWish_53 : decode cX5_setWish 53 = .ok (.aload_n 0, 1) := dk_42 (dk_at dksX5_setWish_2 7 rfl rfl)
theorem dX5_setWish_54 : decode cX5_setWish 54 = .ok (.getfield 7, 3) := dk_180 0 7 (dk_at dksX5_setWish_2 8 rfl rfl)
theorem dX5_setWish_57 : decode cX5_setWish 57 = .ok (.sipush 161, 3) := dk_17 0 161 (dk_at dksX5_setWish_2 11 rfl rfl)
theorem dX5_setWish_60 : decode cX5_setWish 60 = .ok (.iload_n 1, 1) := dk_27 (dk_at dksX5_setWish_2 14 rfl rfl)
theorem dX5_setWish_61 : decode cX5_setWish 61 = .ok (.iadd, 1) := dk_96 (dk_at dksX5_setWish_2 15 rfl rfl)
theorem dX5_setWish_62 : decode cX5_setWish 62 = .ok (.iload_n 2, 1) := dk_28 (dk_at dksX5_setWish_2 16 rfl rfl)
theorem dX5_setWish_63 : decode cX5_setWish 63 = .ok (.iastore, 1) := dk_79 (dk_at dksX5_setWish_2 17 rfl rfl)
theorem dX5_setWish_64 : decode cX5_setWish 64 = .ok (.iload_n 3, 1) := dk_29 (dk_at dksX5_setWish_2 18 rfl rfl)
theorem dX5_setWish_65 : decode cX5_setWish 65 = .ok (.ireturn, 1) := dk_172 (dk_at dksX5_setWish_2 19 rfl rfl)
abbrev cX5_setBounds : ByteArray := prog_10_method_36_code
def yX5_setBounds : MethodName := ⟨RX5, "setBounds", "(III)I"⟩
def dkwX5_setBounds_3 : List UInt8 := [79, 42, 182, 0, 115, 172]
abbrev dktX5_setBounds_3 : List UInt8 := dkwX5_setBounds_3 ++ []
def dkwX5_setBounds_2 : List UInt8 := [182, 0, 95, 42, 180, 0, 7, 17, 0, 165, 27, 96, 28, 79, 42, 180, 0, 7, 17, 0, 169, 27, 96, 29]
abbrev dktX5_setBounds_2 : List UInt8 := dkwX5_setBounds_2 ++ dktX5_setBounds_3
def dkwX5_setBounds_1 : List UInt8 := [184, 0, 42, 154, 0, 7, 5, 167, 0, 4, 3, 181, 0, 38, 42, 180, 0, 38, 153, 0, 5, 3, 172, 42]
abbrev dktX5_setBounds_1 : List UInt8 := dkwX5_setBounds_1 ++ dktX5_setBounds_2
def dkwX5_setBounds_0 : List UInt8 := [42, 27, 184, 0, 112, 153, 0, 7, 4, 167, 0, 25, 28, 184, 0, 88, 154, 0, 13, 29, 28, 16, 99]
abbrev dktX5_setBounds_0 : List UInt8 := dkwX5_setBounds_0 ++ dktX5_setBounds_1
theorem dksX5_setBounds_0 : cX5_setBounds.data.toList.drop 0 = dktX5_setBounds_0 := by decide +kernel
theorem dksX5_setBounds_1 : cX5_setBounds.data.toList.drop 23 = dktX5_setBounds_1 := dk_seg dksX5_setBounds_0 23 rfl rfl
theorem dksX5_setBounds_2 : cX5_setBounds.data.toList.drop 47 = dktX5_setBounds_2 := dk_seg dksX5_setBounds_1 24 rfl rfl
theorem dksX5_setBounds_3 : cX5_setBounds.data.toList.drop 71 = dktX5_setBounds_3 := dk_seg dksX5_setBounds_2 24 rfl rfl
theorem dX5_setBounds_0 : decode cX5_setBounds 0 = .ok (.aload_n 0, 1) := dk_42 (dk_at dksX5_setBounds_0 0 rfl rfl)
theorem dX5_setBounds_1 : decode cX5_setBounds 1 = .ok (.iload_n 1, 1) := dk_27 (dk_at dksX5_setBounds_0 1 rfl rfl)
theorem dX5_setBounds_2 : decode cX5_setBounds 2 = .ok (.invokestatic 112, 3) := dk_184 0 112 (dk_at dksX5_setBounds_0 2 rfl rfl)
theorem dX5_setBounds_5 : decode cX5_setBounds 5 = .ok (.ifCond .eq 7, 3) := dk_153 0 7 (dk_at dksX5_setBounds_0 5 rfl rfl)
theorem dX5_setBounds_8 : decode cX5_setBounds 8 = .ok (.iconst 1, 1) := dk_4 (dk_at dksX5_setBounds_0 8 rfl rfl)
theorem dX5_setBounds_9 : decode cX5_setBounds 9 = .ok (.goto 25, 3) := dk_167 0 25 (dk_at dksX5_setBounds_0 9 rfl rfl)
theorem dX5_setBounds_12 : decode cX5_setBounds 12 = .ok (.iload_n 2, 1) := dk_28 (dk_at dksX5_setBounds_0 12 rfl rfl)
theorem dX5_setBounds_13 : decode cX5_setBounds 13 = .ok (.invokestatic 88, 3) := dk_184 0 88 (dk_at dksX5_setBounds_0 13 rfl rfl)
theorem dX5_setBounds_16 : decode cX5_setBounds 16 = .ok (.ifCond .ne 13, 3) := dk_154 0 13 (dk_at dksX5_setBounds_0 16 rfl rfl)
theorem dX5_setBounds_19 : decode cX5_setBounds 19 = .ok (.iload_n 3, 1) := dk_29 (dk_at dksX5_setBounds_0 19 rfl rfl)
theorem dX5_setBounds_20 : decode cX5_setBounds 20 = .ok (.iload_n 2, 1) := dk_28 (dk_at dksX5_setBounds_0 20 rfl rfl)
theorem dX5_setBounds_21 : decode cX5_setBounds 21 = .ok (.bipush 99, 2) := dk_16 99 (dk_at dksX5_setBounds_0 21 rfl rfl)
theorem dX5_setBounds_23 : decode cX5_setBounds 23 = .ok (.invokestatic 42, 3) := dk_184 0 42 (dk_at dksX5_setBounds_1 0 rfl rfl)
theorem dX5_setBounds_26 : decode cX5_setBounds 26 = .ok (.ifCond .ne 7, 3) := dk_154 0 7 (dk_at dksX5_setBounds_1 3 rfl rfl)
theorem dX5_setBounds_29 : decode cX5_setBounds 29 = .ok (.iconst 2, 1) := dk_5 (dk_at dksX5_setBounds_1 6 rfl rfl)
theorem dX5_setBounds_30 : decode cX5_setBounds 30 = .ok (.goto 4, 3) := dk_167 0 4 (dk_at dksX5_setBounds_1 7 rfl rfl)
theorem dX5_setBounds_33 : decode cX5_setBounds 33 = .ok (.iconst 0, 1) := dk_3 (dk_at dksX5_setBounds_1 10 rfl rfl)
theorem dX5_setBounds_34 : decode cX5_setBounds 34 = .ok (.putfield 38, 3) := dk_181 0 38 (dk_at dksX5_setBounds_1 11 rfl rfl)
theorem dX5_setBounds_37 : decode cX5_setBounds 37 = .ok (.aload_n 0, 1) := dk_42 (dk_at dksX5_setBounds_1 14 rfl rfl)
theorem dX5_setBounds_38 : decode cX5_setBounds 38 = .ok (.getfield 38, 3) := dk_180 0 38 (dk_at dksX5_setBounds_1 15 rfl rfl)
theorem dX5_setBounds_41 : decode cX5_setBounds 41 = .ok (.ifCond .eq 5, 3) := dk_153 0 5 (dk_at dksX5_setBounds_1 18 rfl rfl)
theorem dX5_setBounds_44 : decode cX5_setBounds 44 = .ok (.iconst 0, 1) := dk_3 (dk_at dksX5_setBounds_1 21 rfl rfl)
theorem dX5_setBounds_45 : decode cX5_setBounds 45 = .ok (.ireturn, 1) := dk_172 (dk_at dksX5_setBounds_1 22 rfl rfl)
theorem dX5_setBounds_46 : decode cX5_setBounds 46 = .ok (.aload_n 0, 1) := dk_42 (dk_at dksX5_setBounds_1 23 rfl rfl)
theorem dX5_setBounds_47 : decode cX5_setBounds 47 = .ok (.invokevirtual 95, 3) := dk_182 0 95 (dk_at dksX5_setBounds_2 0 rfl rfl)
theorem dX5_setBounds_50 : decode cX5_setBounds 50 = .ok (.aload_n 0, 1) := dk_42 (dk_at dksX5_setBounds_2 3 rfl rfl)
theorem dX5_setBounds_51 : decode cX5_setBounds 51 = .ok (.getfield 7, 3) := dk_180 0 7 (dk_at dksX5_setBounds_2 4 rfl rfl)
theorem dX5_setBounds_54 : decode cX5_setBounds 54 = .ok (.sipush 165, 3) := dk_17 0 165 (dk_at dksX5_setBounds_2 7 rfl rfl)
theorem dX5_setBounds_57 : decode cX5_setBounds 57 = .ok (.iload_n 1, 1) := dk_27 (dk_at dksX5_setBounds_2 10 rfl rfl)
theorem dX5_setBounds_58 : decode cX5_setBounds 58 = .ok (.iadd, 1) := dk_96 (dk_at dksX5_setBounds_2 11 rfl rfl)
theorem dX5_setBounds_59 : decode cX5_setBounds 59 = .ok (.iload_n 2, 1) := dk_28 (dk_at dksX5_setBounds_2 12 rfl rfl)
theorem dX5_setBounds_60 : decode cX5_setBounds 60 = .ok (.iastore, 1) := dk_79 (dk_at dksX5_setBounds_2 13 rfl rfl)
theorem dX5_setBounds_61 : decode cX5_setBounds 61 = .ok (.aload_n 0, 1) := dk_42 (dk_at dksX5_setBounds_2 14 rfl rfl)
theorem dX5_setBounds_62 : decode cX5_setBounds 62 = .ok (.getfield 7, 3) := dk_180 0 7 (dk_at dksX5_setBounds_2 15 rfl rfl)
theorem dX5_setBounds_65 : decode cX5_setBounds 65 = .ok (.sipush 169, 3) := dk_17 0 169 (dk_at dksX5_setBounds_2 18 rfl rfl)
theorem dX5_setBounds_68 : decode cX5_setBounds 68 = .ok (.iload_n 1, 1) := dk_27 (dk_at dksX5_setBounds_2 21 rfl rfl)
theorem dX5_setBounds_69 : decode cX5_setBounds 69 = .ok (.iadd, 1) := dk_96 (dk_at dksX5_setBounds_2 22 rfl rfl)
theorem dX5_setBounds_70 : decode cX5_setBounds 70 = .ok (.iload_n 3, 1) := dk_29 (dk_at dksX5_setBounds_2 23 rfl rfl)
theorem dX5_setBounds_71 : decode cX5_setBounds 71 = .ok (.iastore, 1) := dk_79 (dk_at dksX5_setBounds_3 0 rfl rfl)
theorem dX5_setBounds_72 : decode cX5_setBounds 72 = .ok (.aload_n 0, 1) := dk_42 (dk_at dksX5_setBounds_3 1 rfl rfl)
theorem dX5_setBounds_73 : decode cX5_setBounds 73 = .ok (.invokevirtual 115, 3) := dk_182 0 115 (dk_at dksX5_setBounds_3 2 rfl rfl)
theorem dX5_setBounds_76 : decode cX5_setBounds 76 = .ok (.ireturn, 1) := dk_172 (dk_at dksX5_setBounds_3 5 rfl rfl)
abbrev cX5_countingOnes : ByteArray := prog_10_method_14_code
def yX5_countingOnes : MethodName := ⟨RX5, "countingOnes", "()I"⟩
def dkwX5_countingOnes_1 : List UInt8 := [153, 0, 7, 4, 167, 0, 4, 3, 96, 60, 132, 2, 1, 167, 255, 225, 27, 172]
abbrev dktX5_countingOnes_1 : List UInt8 := dkwX5_countingOnes_1 ++ []
def dkwX5_countingOnes_0 : List UInt8 := [3, 60, 3, 61, 28, 42, 180, 0, 7, 17, 0, 160, 46, 162, 0, 25, 27, 42, 28, 182, 0, 57]
abbrev dktX5_countingOnes_0 : List UInt8 := dkwX5_countingOnes_0 ++ dktX5_countingOnes_1
theorem dksX5_countingOnes_0 : cX5_countingOnes.data.toList.drop 0 = dktX5_countingOnes_0 := by decide +kernel
theorem dksX5_countingOnes_1 : cX5_countingOnes.data.toList.drop 22 = dktX5_countingOnes_1 := dk_seg dksX5_countingOnes_0 22 rfl rfl
theorem dX5_countingOnes_0 : decode cX5_countingOnes 0 = .ok (.iconst 0, 1) := dk_3 (dk_at dksX5_countingOnes_0 0 rfl rfl)
theorem dX5_countingOnes_1 : decode cX5_countingOnes 1 = .ok (.istore_n 1, 1) := dk_60 (dk_at dksX5_countingOnes_0 1 rfl rfl)
theorem dX5_countingOnes_2 : decode cX5_countingOnes 2 = .ok (.iconst 0, 1) := dk_3 (dk_at dksX5_countingOnes_0 2 rfl rfl)
theorem dX5_countingOnes_3 : decode cX5_countingOnes 3 = .ok (.istore_n 2, 1) := dk_61 (dk_at dksX5_countingOnes_0 3 rfl rfl)
theorem dX5_countingOnes_4 : decode cX5_countingOnes 4 = .ok (.iload_n 2, 1) := dk_28 (dk_at dksX5_countingOnes_0 4 rfl rfl)
theorem dX5_countingOnes_5 : decode cX5_countingOnes 5 = .ok (.aload_n 0, 1) := dk_42 (dk_at dksX5_countingOnes_0 5 rfl rfl)
theorem dX5_countingOnes_6 : decode cX5_countingOnes 6 = .ok (.getfield 7, 3) := dk_180 0 7 (dk_at dksX5_countingOnes_0 6 rfl rfl)
theorem dX5_countingOnes_9 : decode cX5_countingOnes 9 = .ok (.sipush 160, 3) := dk_17 0 160 (dk_at dksX5_countingOnes_0 9 rfl rfl)
theorem dX5_countingOnes_12 : decode cX5_countingOnes 12 = .ok (.iaload, 1) := dk_46 (dk_at dksX5_countingOnes_0 12 rfl rfl)
theorem dX5_countingOnes_13 : decode cX5_countingOnes 13 = .ok (.if_icmp .ge 25, 3) := dk_162 0 25 (dk_at dksX5_countingOnes_0 13 rfl rfl)
theorem dX5_countingOnes_16 : decode cX5_countingOnes 16 = .ok (.iload_n 1, 1) := dk_27 (dk_at dksX5_countingOnes_0 16 rfl rfl)
theorem dX5_countingOnes_17 : decode cX5_countingOnes 17 = .ok (.aload_n 0, 1) := dk_42 (dk_at dksX5_countingOnes_0 17 rfl rfl)
theorem dX5_countingOnes_18 : decode cX5_countingOnes 18 = .ok (.iload_n 2, 1) := dk_28 (dk_at dksX5_countingOnes_0 18 rfl rfl)
theorem dX5_countingOnes_19 : decode cX5_countingOnes 19 = .ok (.invokevirtual 57, 3) := dk_182 0 57 (dk_at dksX5_countingOnes_0 19 rfl rfl)
theorem dX5_countingOnes_22 : decode cX5_countingOnes 22 = .ok (.ifCond .eq 7, 3) := dk_153 0 7 (dk_at dksX5_countingOnes_1 0 rfl rfl)
theorem dX5_countingOnes_25 : decode cX5_countingOnes 25 = .ok (.iconst 1, 1) := dk_4 (dk_at dksX5_countingOnes_1 3 rfl rfl)
theorem dX5_countingOnes_26 : decode cX5_countingOnes 26 = .ok (.goto 4, 3) := dk_167 0 4 (dk_at dksX5_countingOnes_1 4 rfl rfl)
theorem dX5_countingOnes_29 : decode cX5_countingOnes 29 = .ok (.iconst 0, 1) := dk_3 (dk_at dksX5_countingOnes_1 7 rfl rfl)
theorem dX5_countingOnes_30 : decode cX5_countingOnes 30 = .ok (.iadd, 1) := dk_96 (dk_at dksX5_countingOnes_1 8 rfl rfl)
theorem dX5_countingOnes_31 : decode cX5_countingOnes 31 = .ok (.istore_n 1, 1) := dk_60 (dk_at dksX5_countingOnes_1 9 rfl rfl)
theorem dX5_countingOnes_32 : decode cX5_countingOnes 32 = .ok (.iinc 2 1, 3) := dk_132 2 1 (dk_at dksX5_countingOnes_1 10 rfl rfl)
theorem dX5_countingOnes_35 : decode cX5_countingOnes 35 = .ok (.goto (-31), 3) := dk_167 255 225 (dk_at dksX5_countingOnes_1 13 rfl rfl)
theorem dX5_countingOnes_38 : decode cX5_countingOnes 38 = .ok (.iload_n 1, 1) := dk_27 (dk_at dksX5_countingOnes_1 16 rfl rfl)
theorem dX5_countingOnes_39 : decode cX5_countingOnes 39 = .ok (.ireturn, 1) := dk_172 (dk_at dksX5_countingOnes_1 17 rfl rfl)
abbrev cX5_setWeight : ByteArray := prog_10_method_37_code
def yX5_setWeight : MethodName := ⟨RX5, "setWeight", "(II)I"⟩
def dkwX5_setWeight_2 : List UInt8 := [17, 0, 173, 27, 96, 46, 62, 42, 180, 0, 7, 17, 0, 173, 27, 96, 28, 79, 29, 172]
abbrev dktX5_setWeight_2 : List UInt8 := dkwX5_setWeight_2 ++ []
def dkwX5_setWeight_1 : List UInt8 := [167, 0, 4, 3, 181, 0, 38, 42, 180, 0, 38, 153, 0, 5, 3, 172, 42, 182, 0, 95, 42, 180, 0, 7]
abbrev dktX5_setWeight_1 : List UInt8 := dkwX5_setWeight_1 ++ dktX5_setWeight_2
def dkwX5_setWeight_0 : List UInt8 := [42, 27, 184, 0, 112, 153, 0, 7, 4, 167, 0, 18, 28, 3, 16, 9, 184, 0, 42, 154, 0, 7, 5]
abbrev dktX5_setWeight_0 : List UInt8 := dkwX5_setWeight_0 ++ dktX5_setWeight_1
theorem dksX5_setWeight_0 : cX5_setWeight.data.toList.drop 0 = dktX5_setWeight_0 := by decide +kernel
theorem dksX5_setWeight_1 : cX5_setWeight.data.toList.drop 23 = dktX5_setWeight_1 := dk_seg dksX5_setWeight_0 23 rfl rfl
theorem dksX5_setWeight_2 : cX5_setWeight.data.toList.drop 47 = dktX5_setWeight_2 := dk_seg dksX5_setWeight_1 24 rfl rfl
theorem dX5_setWeight_0 : decode cX5_setWeight 0 = .ok (.aload_n 0, 1) := dk_42 (dk_at dksX5_setWeight_0 0 rfl rfl)
theorem dX5_setWeight_1 : decode cX5_setWeight 1 = .ok (.iload_n 1, 1) := dk_27 (dk_at dksX5_setWeight_0 1 rfl rfl)
theorem dX5_setWeight_2 : decode cX5_setWeight 2 = .ok (.invokestatic 112, 3) := dk_184 0 112 (dk_at dksX5_setWeight_0 2 rfl rfl)
theorem dX5_setWeight_5 : decode cX5_setWeight 5 = .ok (.ifCond .eq 7, 3) := dk_153 0 7 (dk_at dksX5_setWeight_0 5 rfl rfl)
theorem dX5_setWeight_8 : decode cX5_setWeight 8 = .ok (.iconst 1, 1) := dk_4 (dk_at dksX5_setWeight_0 8 rfl rfl)
theorem dX5_setWeight_9 : decode cX5_setWeight 9 = .ok (.goto 18, 3) := dk_167 0 18 (dk_at dksX5_setWeight_0 9 rfl rfl)
theorem dX5_setWeight_12 : decode cX5_setWeight 12 = .ok (.iload_n 2, 1) := dk_28 (dk_at dksX5_setWeight_0 12 rfl rfl)
theorem dX5_setWeight_13 : decode cX5_setWeight 13 = .ok (.iconst 0, 1) := dk_3 (dk_at dksX5_setWeight_0 13 rfl rfl)
theorem dX5_setWeight_14 : decode cX5_setWeight 14 = .ok (.bipush 9, 2) := dk_16 9 (dk_at dksX5_setWeight_0 14 rfl rfl)
theorem dX5_setWeight_16 : decode cX5_setWeight 16 = .ok (.invokestatic 42, 3) := dk_184 0 42 (dk_at dksX5_setWeight_0 16 rfl rfl)
theorem dX5_setWeight_19 : decode cX5_setWeight 19 = .ok (.ifCond .ne 7, 3) := dk_154 0 7 (dk_at dksX5_setWeight_0 19 rfl rfl)
theorem dX5_setWeight_22 : decode cX5_setWeight 22 = .ok (.iconst 2, 1) := dk_5 (dk_at dksX5_setWeight_0 22 rfl rfl)
theorem dX5_setWeight_23 : decode cX5_setWeight 23 = .ok (.goto 4, 3) := dk_167 0 4 (dk_at dksX5_setWeight_1 0 rfl rfl)
theorem dX5_setWeight_26 : decode cX5_setWeight 26 = .ok (.iconst 0, 1) := dk_3 (dk_at dksX5_setWeight_1 3 rfl rfl)
theorem dX5_setWeight_27 : decode cX5_setWeight 27 = .ok (.putfield 38, 3) := dk_181 0 38 (dk_at dksX5_setWeight_1 4 rfl rfl)
theorem dX5_setWeight_30 : decode cX5_setWeight 30 = .ok (.aload_n 0, 1) := dk_42 (dk_at dksX5_setWeight_1 7 rfl rfl)
theorem dX5_setWeight_31 : decode cX5_setWeight 31 = .ok (.getfield 38, 3) := dk_180 0 38 (dk_at dksX5_setWeight_1 8 rfl rfl)
theorem dX5_setWeight_34 : decode cX5_setWeight 34 = .ok (.ifCond .eq 5, 3) := dk_153 0 5 (dk_at dksX5_setWeight_1 11 rfl rfl)
theorem dX5_setWeight_37 : decode cX5_setWeight 37 = .ok (.iconst 0, 1) := dk_3 (dk_at dksX5_setWeight_1 14 rfl rfl)
theorem dX5_setWeight_38 : decode cX5_setWeight 38 = .ok (.ireturn, 1) := dk_172 (dk_at dksX5_setWeight_1 15 rfl rfl)
theorem dX5_setWeight_39 : decode cX5_setWeight 39 = .ok (.aload_n 0, 1) := dk_42 (dk_at dksX5_setWeight_1 16 rfl rfl)
theorem dX5_setWeight_40 : decode cX5_setWeight 40 = .ok (.invokevirtual 95, 3) := dk_182 0 95 (dk_at dksX5_setWeight_1 17 rfl rfl)
theorem dX5_setWeight_43 : decode cX5_setWeight 43 = .ok (.aload_n 0, 1) := dk_42 (dk_at dksX5_setWeight_1 20 rfl rfl)
theorem dX5_setWeight_44 : decode cX5_setWeight 44 = .ok (.getfield 7, 3) := dk_180 0 7 (dk_at dksX5_setWeight_1 21 rfl rfl)
theorem dX5_setWeight_47 : decode cX5_setWeight 47 = .ok (.sipush 173, 3) := dk_17 0 173 (dk_at dksX5_setWeight_2 0 rfl rfl)
theorem dX5_setWeight_50 : decode cX5_setWeight 50 = .ok (.iload_n 1, 1) := dk_27 (dk_at dksX5_setWeight_2 3 rfl rfl)
theorem dX5_setWeight_51 : decode cX5_setWeight 51 = .ok (.iadd, 1) := dk_96 (dk_at dksX5_setWeight_2 4 rfl rfl)
theorem dX5_setWeight_52 : decode cX5_setWeight 52 = .ok (.iaload, 1) := dk_46 (dk_at dksX5_setWeight_2 5 rfl rfl)
theorem dX5_setWeight_53 : decode cX5_setWeight 53 = .ok (.istore_n 3, 1) := dk_62 (dk_at dksX5_setWeight_2 6 rfl rfl)
theorem dX5_setWeight_54 : decode cX5_setWeight 54 = .ok (.aload_n 0, 1) := dk_42 (dk_at dksX5_setWeight_2 7 rfl rfl)
theorem dX5_setWeight_55 : decode cX5_setWeight 55 = .ok (.getfield 7, 3) := dk_180 0 7 (dk_at dksX5_setWeight_2 8 rfl rfl)
theorem dX5_setWeight_58 : decode cX5_setWeight 58 = .ok (.sipush 173, 3) := dk_17 0 173 (dk_at dksX5_setWeight_2 11 rfl rfl)
theorem dX5_setWeight_61 : decode cX5_setWeight 61 = .ok (.iload_n 1, 1) := dk_27 (dk_at dksX5_setWeight_2 14 rfl rfl)
theorem dX5_setWeight_62 : decode cX5_setWeight 62 = .ok (.iadd, 1) := dk_96 (dk_at dksX5_setWeight_2 15 rfl rfl)
theorem dX5_setWeight_63 : decode cX5_setWeight 63 = .ok (.iload_n 2, 1) := dk_28 (dk_at dksX5_setWeight_2 16 rfl rfl)
theorem dX5_setWeight_64 : decode cX5_setWeight 64 = .ok (.iastore, 1) := dk_79 (dk_at dksX5_setWeight_2 17 rfl rfl)
theorem dX5_setWeight_65 : decode cX5_setWeight 65 = .ok (.iload_n 3, 1) := dk_29 (dk_at dksX5_setWeight_2 18 rfl rfl)
theorem dX5_setWeight_66 : decode cX5_setWeight 66 = .ok (.ireturn, 1) := dk_172 (dk_at dksX5_setWeight_2 19 rfl rfl)
abbrev cX5_append : ByteArray := prog_10_method_38_code
def yX5_append : MethodName := ⟨RX5, "append", "(I)I"⟩
def dkwX5_append_2 : List UInt8 := [42, 180, 0, 118, 27, 79, 42, 89, 180, 0, 118, 4, 96, 181, 0, 118, 42, 180, 0, 118, 172]
abbrev dktX5_append_2 : List UInt8 := dkwX5_append_2 ++ []
def dkwX5_append_1 : List UInt8 := [160, 0, 7, 5, 167, 0, 4, 3, 181, 0, 38, 42, 180, 0, 38, 153, 0, 5, 3, 172, 42, 180, 0, 22]
abbrev dktX5_append_1 : List UInt8 := dkwX5_append_1 ++ dktX5_append_2
def dkwX5_append_0 : List UInt8 := [42, 27, 16, 33, 16, 126, 184, 0, 42, 154, 0, 7, 4, 167, 0, 17, 42, 180, 0, 118, 16, 60]
abbrev dktX5_append_0 : List UInt8 := dkwX5_append_0 ++ dktX5_append_1
theorem dksX5_append_0 : cX5_append.data.toList.drop 0 = dktX5_append_0 := by decide +kernel
theorem dksX5_append_1 : cX5_append.data.toList.drop 22 = dktX5_append_1 := dk_seg dksX5_append_0 22 rfl rfl
theorem dksX5_append_2 : cX5_append.data.toList.drop 46 = dktX5_append_2 := dk_seg dksX5_append_1 24 rfl rfl
theorem dX5_append_0 : decode cX5_append 0 = .ok (.aload_n 0, 1) := dk_42 (dk_at dksX5_append_0 0 rfl rfl)
theorem dX5_append_1 : decode cX5_append 1 = .ok (.iload_n 1, 1) := dk_27 (dk_at dksX5_append_0 1 rfl rfl)
theorem dX5_append_2 : decode cX5_append 2 = .ok (.bipush 33, 2) := dk_16 33 (dk_at dksX5_append_0 2 rfl rfl)
theorem dX5_append_4 : decode cX5_append 4 = .ok (.bipush 126, 2) := dk_16 126 (dk_at dksX5_append_0 4 rfl rfl)
theorem dX5_append_6 : decode cX5_append 6 = .ok (.invokestatic 42, 3) := dk_184 0 42 (dk_at dksX5_append_0 6 rfl rfl)
theorem dX5_append_9 : decode cX5_append 9 = .ok (.ifCond .ne 7, 3) := dk_154 0 7 (dk_at dksX5_append_0 9 rfl rfl)
theorem dX5_append_12 : decode cX5_append 12 = .ok (.iconst 1, 1) := dk_4 (dk_at dksX5_append_0 12 rfl rfl)
theorem dX5_append_13 : decode cX5_append 13 = .ok (.goto 17, 3) := dk_167 0 17 (dk_at dksX5_append_0 13 rfl rfl)
theorem dX5_append_16 : decode cX5_append 16 = .ok (.aload_n 0, 1) := dk_42 (dk_at dksX5_append_0 16 rfl rfl)
theorem dX5_append_17 : decode cX5_append 17 = .ok (.getfield 118, 3) := dk_180 0 118 (dk_at dksX5_append_0 17 rfl rfl)
theorem dX5_append_20 : decode cX5_append 20 = .ok (.bipush 60, 2) := dk_16 60 (dk_at dksX5_append_0 20 rfl rfl)
theorem dX5_append_22 : decode cX5_append 22 = .ok (.if_icmp .ne 7, 3) := dk_160 0 7 (dk_at dksX5_append_1 0 rfl rfl)
theorem dX5_append_25 : decode cX5_append 25 = .ok (.iconst 2, 1) := dk_5 (dk_at dksX5_append_1 3 rfl rfl)
theorem dX5_append_26 : decode cX5_append 26 = .ok (.goto 4, 3) := dk_167 0 4 (dk_at dksX5_append_1 4 rfl rfl)
theorem dX5_append_29 : decode cX5_append 29 = .ok (.iconst 0, 1) := dk_3 (dk_at dksX5_append_1 7 rfl rfl)
theorem dX5_append_30 : decode cX5_append 30 = .ok (.putfield 38, 3) := dk_181 0 38 (dk_at dksX5_append_1 8 rfl rfl)
theorem dX5_append_33 : decode cX5_append 33 = .ok (.aload_n 0, 1) := dk_42 (dk_at dksX5_append_1 11 rfl rfl)
theorem dX5_append_34 : decode cX5_append 34 = .ok (.getfield 38, 3) := dk_180 0 38 (dk_at dksX5_append_1 12 rfl rfl)
theorem dX5_append_37 : decode cX5_append 37 = .ok (.ifCond .eq 5, 3) := dk_153 0 5 (dk_at dksX5_append_1 15 rfl rfl)
theorem dX5_append_40 : decode cX5_append 40 = .ok (.iconst 0, 1) := dk_3 (dk_at dksX5_append_1 18 rfl rfl)
theorem dX5_append_41 : decode cX5_append 41 = .ok (.ireturn, 1) := dk_172 (dk_at dksX5_append_1 19 rfl rfl)
theorem dX5_append_42 : decode cX5_append 42 = .ok (.aload_n 0, 1) := dk_42 (dk_at dksX5_append_1 20 rfl rfl)
theorem dX5_append_43 : decode cX5_append 43 = .ok (.getfield 22, 3) := dk_180 0 22 (dk_at dksX5_append_1 21 rfl rfl)
theorem dX5_append_46 : decode cX5_append 46 = .ok (.aload_n 0, 1) := dk_42 (dk_at dksX5_append_2 0 rfl rfl)
theorem dX5_append_47 : decode cX5_append 47 = .ok (.getfield 118, 3) := dk_180 0 118 (dk_at dksX5_append_2 1 rfl rfl)
theorem dX5_append_50 : decode cX5_append 50 = .ok (.iload_n 1, 1) := dk_27 (dk_at dksX5_append_2 4 rfl rfl)
theorem dX5_append_51 : decode cX5_append 51 = .ok (.iastore, 1) := dk_79 (dk_at dksX5_append_2 5 rfl rfl)
theorem dX5_append_52 : decode cX5_append 52 = .ok (.aload_n 0, 1) := dk_42 (dk_at dksX5_append_2 6 rfl rfl)
theorem dX5_append_53 : decode cX5_append 53 = .ok (.dup, 1) := dk_89 (dk_at dksX5_append_2 7 rfl rfl)
theorem dX5_append_54 : decode cX5_append 54 = .ok (.getfield 118, 3) := dk_180 0 118 (dk_at dksX5_append_2 8 rfl rfl)
theorem dX5_append_57 : decode cX5_append 57 = .ok (.iconst 1, 1) := dk_4 (dk_at dksX5_append_2 11 rfl rfl)
theorem dX5_append_58 : decode cX5_append 58 = .ok (.iadd, 1) := dk_96 (dk_at dksX5_append_2 12 rfl rfl)
theorem dX5_append_59 : decode cX5_append 59 = .ok (.putfield 118, 3) := dk_181 0 118 (dk_at dksX5_append_2 13 rfl rfl)
theorem dX5_append_62 : decode cX5_append 62 = .ok (.aload_n 0, 1) := dk_42 (dk_at dksX5_append_2 16 rfl rfl)
theorem dX5_append_63 : decode cX5_append 63 = .ok (.getfield 118, 3) := dk_180 0 118 (dk_at dksX5_append_2 17 rfl rfl)
theorem dX5_append_66 : decode cX5_append 66 = .ok (.ireturn, 1) := dk_172 (dk_at dksX5_append_2 20 rfl rfl)
abbrev cX5_clearBuffer : ByteArray := prog_10_method_39_code
def yX5_clearBuffer : MethodName := ⟨RX5, "clearBuffer", "()I"⟩
def dkwX5_clearBuffer_0 : List UInt8 := [42, 3, 181, 0, 38, 42, 180, 0, 118, 60, 42, 3, 181, 0, 118, 27, 172]
abbrev dktX5_clearBuffer_0 : List UInt8 := dkwX5_clearBuffer_0 ++ []
theorem dksX5_clearBuffer_0 : cX5_clearBuffer.data.toList.drop 0 = dktX5_clearBuffer_0 := by decide +kernel
theorem dX5_clearBuffer_0 : decode cX5_clearBuffer 0 = .ok (.aload_n 0, 1) := dk_42 (dk_at dksX5_clearBuffer_0 0 rfl rfl)
theorem dX5_clearBuffer_1 : decode cX5_clearBuffer 1 = .ok (.iconst 0, 1) := dk_3 (dk_at dksX5_clearBuffer_0 1 rfl rfl)
theorem dX5_clearBuffer_2 : decode cX5_clearBuffer 2 = .ok (.putfield 38, 3) := dk_181 0 38 (dk_at dksX5_clearBuffer_0 2 rfl rfl)
theorem dX5_clearBuffer_5 : decode cX5_clearBuffer 5 = .ok (.aload_n 0, 1) := dk_42 (dk_at dksX5_clearBuffer_0 5 rfl rfl)
theorem dX5_clearBuffer_6 : decode cX5_clearBuffer 6 = .ok (.getfield 118, 3) := dk_180 0 118 (dk_at dksX5_clearBuffer_0 6 rfl rfl)
theorem dX5_clearBuffer_9 : decode cX5_clearBuffer 9 = .ok (.istore_n 1, 1) := dk_60 (dk_at dksX5_clearBuffer_0 9 rfl rfl)
theorem dX5_clearBuffer_10 : decode cX5_clearBuffer 10 = .ok (.aload_n 0, 1) := dk_42 (dk_at dksX5_clearBuffer_0 10 rfl rfl)
theorem dX5_clearBuffer_11 : decode cX5_clearBuffer 11 = .ok (.iconst 0, 1) := dk_3 (dk_at dksX5_clearBuffer_0 11 rfl rfl)
theorem dX5_clearBuffer_12 : decode cX5_clearBuffer 12 = .ok (.putfield 118, 3) := dk_181 0 118 (dk_at dksX5_clearBuffer_0 12 rfl rfl)
theorem dX5_clearBuffer_15 : decode cX5_clearBuffer 15 = .ok (.iload_n 1, 1) := dk_27 (dk_at dksX5_clearBuffer_0 15 rfl rfl)
theorem dX5_clearBuffer_16 : decode cX5_clearBuffer 16 = .ok (.ireturn, 1) := dk_172 (dk_at dksX5_clearBuffer_0 16 rfl rfl)
abbrev cX5_firstError : ByteArray := prog_10_method_47_code
def yX5_firstError : MethodName := ⟨RX5, "firstError", "()I"⟩
def dkwX5_firstError_0 : List UInt8 := [42, 3, 181, 0, 38, 42, 182, 0, 143, 60, 27, 2, 160, 0, 10, 42, 180, 0, 118, 167, 0, 4, 27, 172]
abbrev dktX5_firstError_0 : List UInt8 := dkwX5_firstError_0 ++ []
theorem dksX5_firstError_0 : cX5_firstError.data.toList.drop 0 = dktX5_firstError_0 := by decide +kernel
theorem dX5_firstError_0 : decode cX5_firstError 0 = .ok (.aload_n 0, 1) := dk_42 (dk_at dksX5_firstError_0 0 rfl rfl)
theorem dX5_firstError_1 : decode cX5_firstError 1 = .ok (.iconst 0, 1) := dk_3 (dk_at dksX5_firstError_0 1 rfl rfl)
theorem dX5_firstError_2 : decode cX5_firstError 2 = .ok (.putfield 38, 3) := dk_181 0 38 (dk_at dksX5_firstError_0 2 rfl rfl)
theorem dX5_firstError_5 : decode cX5_firstError 5 = .ok (.aload_n 0, 1) := dk_42 (dk_at dksX5_firstError_0 5 rfl rfl)
theorem dX5_firstError_6 : decode cX5_firstError 6 = .ok (.invokevirtual 143, 3) := dk_182 0 143 (dk_at dksX5_firstError_0 6 rfl rfl)
theorem dX5_firstError_9 : decode cX5_firstError 9 = .ok (.istore_n 1, 1) := dk_60 (dk_at dksX5_firstError_0 9 rfl rfl)
theorem dX5_firstError_10 : decode cX5_firstError 10 = .ok (.iload_n 1, 1) := dk_27 (dk_at dksX5_firstError_0 10 rfl rfl)
theorem dX5_firstError_11 : decode cX5_firstError 11 = .ok (.iconst (-1), 1) := dk_2 (dk_at dksX5_firstError_0 11 rfl rfl)
theorem dX5_firstError_12 : decode cX5_firstError 12 = .ok (.if_icmp .ne 10, 3) := dk_160 0 10 (dk_at dksX5_firstError_0 12 rfl rfl)
theorem dX5_firstError_15 : decode cX5_firstError 15 = .ok (.aload_n 0, 1) := dk_42 (dk_at dksX5_firstError_0 15 rfl rfl)
theorem dX5_firstError_16 : decode cX5_firstError 16 = .ok (.getfield 118, 3) := dk_180 0 118 (dk_at dksX5_firstError_0 16 rfl rfl)
theorem dX5_firstError_19 : decode cX5_firstError 19 = .ok (.goto 4, 3) := dk_167 0 4 (dk_at dksX5_firstError_0 19 rfl rfl)
theorem dX5_firstError_22 : decode cX5_firstError 22 = .ok (.iload_n 1, 1) := dk_27 (dk_at dksX5_firstError_0 22 rfl rfl)
theorem dX5_firstError_23 : decode cX5_firstError 23 = .ok (.ireturn, 1) := dk_172 (dk_at dksX5_firstError_0 23 rfl rfl)
abbrev cX5_fault : ByteArray := prog_10_method_46_code
def yX5_fault : MethodName := ⟨RX5, "fault", "()I"⟩
def dkwX5_fault_2 : List UInt8 := [42, 180, 0, 121, 172]
abbrev dktX5_fault_2 : List UInt8 := dkwX5_fault_2 ++ []
def dkwX5_fault_1 : List UInt8 := [180, 0, 121, 42, 180, 0, 118, 160, 0, 5, 2, 172, 42, 16, 59, 16, 59, 182, 0, 127, 60, 167, 255, 218]
abbrev dktX5_fault_1 : List UInt8 := dkwX5_fault_1 ++ dktX5_fault_2
def dkwX5_fault_0 : List UInt8 := [42, 3, 181, 0, 121, 4, 60, 27, 153, 0, 40, 42, 182, 0, 140, 154, 0, 8, 42, 180, 0, 121, 172, 42]
abbrev dktX5_fault_0 : List UInt8 := dkwX5_fault_0 ++ dktX5_fault_1
theorem dksX5_fault_0 : cX5_fault.data.toList.drop 0 = dktX5_fault_0 := by decide +kernel
theorem dksX5_fault_1 : cX5_fault.data.toList.drop 24 = dktX5_fault_1 := dk_seg dksX5_fault_0 24 rfl rfl
theorem dksX5_fault_2 : cX5_fault.data.toList.drop 48 = dktX5_fault_2 := dk_seg dksX5_fault_1 24 rfl rfl
theorem dX5_fault_0 : decode cX5_fault 0 = .ok (.aload_n 0, 1) := dk_42 (dk_at dksX5_fault_0 0 rfl rfl)
theorem dX5_fault_1 : decode cX5_fault 1 = .ok (.iconst 0, 1) := dk_3 (dk_at dksX5_fault_0 1 rfl rfl)
theorem dX5_fault_2 : decode cX5_fault 2 = .ok (.putfield 121, 3) := dk_181 0 121 (dk_at dksX5_fault_0 2 rfl rfl)
theorem dX5_fault_5 : decode cX5_fault 5 = .ok (.iconst 1, 1) := dk_4 (dk_at dksX5_fault_0 5 rfl rfl)
theorem dX5_fault_6 : decode cX5_fault 6 = .ok (.istore_n 1, 1) := dk_60 (dk_at dksX5_fault_0 6 rfl rfl)
theorem dX5_fault_7 : decode cX5_fault 7 = .ok (.iload_n 1, 1) := dk_27 (dk_at dksX5_fault_0 7 rfl rfl)
theorem dX5_fault_8 : decode cX5_fault 8 = .ok (.ifCond .eq 40, 3) := dk_153 0 40 (dk_at dksX5_fault_0 8 rfl rfl)
theorem dX5_fault_11 : decode cX5_fault 11 = .ok (.aload_n 0, 1) := dk_42 (dk_at dksX5_fault_0 11 rfl rfl)
theorem dX5_fault_12 : decode cX5_fault 12 = .ok (.invokevirtual 140, 3) := dk_182 0 140 (dk_at dksX5_fault_0 12 rfl rfl)
theorem dX5_fault_15 : decode cX5_fault 15 = .ok (.ifCond .ne 8, 3) := dk_154 0 8 (dk_at dksX5_fault_0 15 rfl rfl)
theorem dX5_fault_18 : decode cX5_fault 18 = .ok (.aload_n 0, 1) := dk_42 (dk_at dksX5_fault_0 18 rfl rfl)
theorem dX5_fault_19 : decode cX5_fault 19 = .ok (.getfield 121, 3) := dk_180 0 121 (dk_at dksX5_fault_0 19 rfl rfl)
theorem dX5_fault_22 : decode cX5_fault 22 = .ok (.ireturn, 1) := dk_172 (dk_at dksX5_fault_0 22 rfl rfl)
theorem dX5_fault_23 : decode cX5_fault 23 = .ok (.aload_n 0, 1) := dk_42 (dk_at dksX5_fault_0 23 rfl rfl)
theorem dX5_fault_24 : decode cX5_fault 24 = .ok (.getfield 121, 3) := dk_180 0 121 (dk_at dksX5_fault_1 0 rfl rfl)
theorem dX5_fault_27 : decode cX5_fault 27 = .ok (.aload_n 0, 1) := dk_42 (dk_at dksX5_fault_1 3 rfl rfl)
theorem dX5_fault_28 : decode cX5_fault 28 = .ok (.getfield 118, 3) := dk_180 0 118 (dk_at dksX5_fault_1 4 rfl rfl)
theorem dX5_fault_31 : decode cX5_fault 31 = .ok (.if_icmp .ne 5, 3) := dk_160 0 5 (dk_at dksX5_fault_1 7 rfl rfl)
theorem dX5_fault_34 : decode cX5_fault 34 = .ok (.iconst (-1), 1) := dk_2 (dk_at dksX5_fault_1 10 rfl rfl)
theorem dX5_fault_35 : decode cX5_fault 35 = .ok (.ireturn, 1) := dk_172 (dk_at dksX5_fault_1 11 rfl rfl)
theorem dX5_fault_36 : decode cX5_fault 36 = .ok (.aload_n 0, 1) := dk_42 (dk_at dksX5_fault_1 12 rfl rfl)
theorem dX5_fault_37 : decode cX5_fault 37 = .ok (.bipush 59, 2) := dk_16 59 (dk_at dksX5_fault_1 13 rfl rfl)
theorem dX5_fault_39 : decode cX5_fault 39 = .ok (.bipush 59, 2) := dk_16 59 (dk_at dksX5_fault_1 15 rfl rfl)
theorem dX5_fault_41 : decode cX5_fault 41 = .ok (.invokevirtual 127, 3) := dk_182 0 127 (dk_at dksX5_fault_1 17 rfl rfl)
theorem dX5_fault_44 : decode cX5_fault 44 = .ok (.istore_n 1, 1) := dk_60 (dk_at dksX5_fault_1 20 rfl rfl)
theorem dX5_fault_45 : decode cX5_fault 45 = .ok (.goto (-38), 3) := dk_167 255 218 (dk_at dksX5_fault_1 21 rfl rfl)
theorem dX5_fault_48 : decode cX5_fault 48 = .ok (.aload_n 0, 1) := dk_42 (dk_at dksX5_fault_2 0 rfl rfl)
theorem dX5_fault_49 : decode cX5_fault 49 = .ok (.getfield 121, 3) := dk_180 0 121 (dk_at dksX5_fault_2 1 rfl rfl)
theorem dX5_fault_52 : decode cX5_fault 52 = .ok (.ireturn, 1) := dk_172 (dk_at dksX5_fault_2 4 rfl rfl)
abbrev cX5_passesPart : ByteArray := prog_10_method_45_code
def yX5_passesPart : MethodName := ⟨RX5, "passesPart", "()Z"⟩
def dkwX5_passesPart_8 : List UInt8 := [167, 0, 4, 3, 172]
abbrev dktX5_passesPart_8 : List UInt8 := dkwX5_passesPart_8 ++ []
def dkwX5_passesPart_7 : List UInt8 := [167, 0, 4, 3, 172, 42, 16, 98, 16, 98, 182, 0, 127, 153, 0, 14, 42, 182, 0, 136, 153, 0, 7, 4]
abbrev dktX5_passesPart_7 : List UInt8 := dkwX5_passesPart_7 ++ dktX5_passesPart_8
def dkwX5_passesPart_6 : List UInt8 := [16, 43, 16, 43, 182, 0, 127, 154, 0, 14, 42, 16, 48, 16, 48, 182, 0, 127, 153, 0, 7, 4]
abbrev dktX5_passesPart_6 : List UInt8 := dkwX5_passesPart_6 ++ dktX5_passesPart_7
def dkwX5_passesPart_5 : List UInt8 := [42, 16, 48, 16, 51, 182, 0, 127, 153, 0, 40, 42, 16, 45, 16, 45, 182, 0, 127, 154, 0, 25, 42]
abbrev dktX5_passesPart_5 : List UInt8 := dkwX5_passesPart_5 ++ dktX5_passesPart_6
def dkwX5_passesPart_4 : List UInt8 := [182, 0, 127, 153, 0, 10, 42, 16, 39, 182, 0, 130, 172, 42, 16, 119, 16, 119, 182, 0, 127, 153, 0, 53]
abbrev dktX5_passesPart_4 : List UInt8 := dkwX5_passesPart_4 ++ dktX5_passesPart_5
def dkwX5_passesPart_3 : List UInt8 := [153, 0, 16, 42, 16, 99, 182, 0, 130, 153, 0, 7, 4, 167, 0, 4, 3, 172, 42, 16, 114, 16, 114]
abbrev dktX5_passesPart_3 : List UInt8 := dkwX5_passesPart_3 ++ dktX5_passesPart_4
def dkwX5_passesPart_2 : List UInt8 := [182, 0, 127, 153, 0, 36, 42, 16, 99, 182, 0, 130, 153, 0, 27, 42, 16, 44, 16, 44, 182, 0, 127]
abbrev dktX5_passesPart_2 : List UInt8 := dkwX5_passesPart_2 ++ dktX5_passesPart_3
def dkwX5_passesPart_1 : List UInt8 := [16, 44, 182, 0, 127, 153, 0, 56, 42, 16, 99, 182, 0, 130, 153, 0, 47, 42, 16, 44, 16, 44]
abbrev dktX5_passesPart_1 : List UInt8 := dkwX5_passesPart_1 ++ dktX5_passesPart_2
def dkwX5_passesPart_0 : List UInt8 := [42, 16, 97, 16, 97, 182, 0, 127, 153, 0, 78, 42, 16, 99, 182, 0, 130, 153, 0, 67, 42, 16, 44]
abbrev dktX5_passesPart_0 : List UInt8 := dkwX5_passesPart_0 ++ dktX5_passesPart_1
theorem dksX5_passesPart_0 : cX5_passesPart.data.toList.drop 0 = dktX5_passesPart_0 := by decide +kernel
theorem dksX5_passesPart_1 : cX5_passesPart.data.toList.drop 23 = dktX5_passesPart_1 := dk_seg dksX5_passesPart_0 23 rfl rfl
theorem dksX5_passesPart_2 : cX5_passesPart.data.toList.drop 45 = dktX5_passesPart_2 := dk_seg dksX5_passesPart_1 22 rfl rfl
theorem dksX5_passesPart_3 : cX5_passesPart.data.toList.drop 68 = dktX5_passesPart_3 := dk_seg dksX5_passesPart_2 23 rfl rfl
theorem dksX5_passesPart_4 : cX5_passesPart.data.toList.drop 91 = dktX5_passesPart_4 := dk_seg dksX5_passesPart_3 23 rfl rfl
theorem dksX5_passesPart_5 : cX5_passesPart.data.toList.drop 115 = dktX5_passesPart_5 := dk_seg dksX5_passesPart_4 24 rfl rfl
theorem dksX5_passesPart_6 : cX5_passesPart.data.toList.drop 138 = dktX5_passesPart_6 := dk_seg dksX5_passesPart_5 23 rfl rfl
theorem dksX5_passesPart_7 : cX5_passesPart.data.toList.drop 160 = dktX5_passesPart_7 := dk_seg dksX5_passesPart_6 22 rfl rfl
theorem dksX5_passesPart_8 : cX5_passesPart.data.toList.drop 184 = dktX5_passesPart_8 := dk_seg dksX5_passesPart_7 24 rfl rfl
theorem dX5_passesPart_0 : decode cX5_passesPart 0 = .ok (.aload_n 0, 1) := dk_42 (dk_at dksX5_passesPart_0 0 rfl rfl)
theorem dX5_passesPart_1 : decode cX5_passesPart 1 = .ok (.bipush 97, 2) := dk_16 97 (dk_at dksX5_passesPart_0 1 rfl rfl)
theorem dX5_passesPart_3 : decode cX5_passesPart 3 = .ok (.bipush 97, 2) := dk_16 97 (dk_at dksX5_passesPart_0 3 rfl rfl)
theorem dX5_passesPart_5 : decode cX5_passesPart 5 = .ok (.invokevirtual 127, 3) := dk_182 0 127 (dk_at dksX5_passesPart_0 5 rfl rfl)
theorem dX5_passesPart_8 : decode cX5_passesPart 8 = .ok (.ifCond .eq 78, 3) := dk_153 0 78 (dk_at dksX5_passesPart_0 8 rfl rfl)
theorem dX5_passesPart_11 : decode cX5_passesPart 11 = .ok (.aload_n 0, 1) := dk_42 (dk_at dksX5_passesPart_0 11 rfl rfl)
theorem dX5_passesPart_12 : decode cX5_passesPart 12 = .ok (.bipush 99, 2) := dk_16 99 (dk_at dksX5_passesPart_0 12 rfl rfl)
theorem dX5_passesPart_14 : decode cX5_passesPart 14 = .ok (.invokevirtual 130, 3) := dk_182 0 130 (dk_at dksX5_passesPart_0 14 rfl rfl)
theorem dX5_passesPart_17 : decode cX5_passesPart 17 = .ok (.ifCond .eq 67, 3) := dk_153 0 67 (dk_at dksX5_passesPart_0 17 rfl rfl)
theorem dX5_passesPart_20 : decode cX5_passesPart 20 = .ok (.aload_n 0, 1) := dk_42 (dk_at dksX5_passesPart_0 20 rfl rfl)
theorem dX5_passesPart_21 : decode cX5_passesPart 21 = .ok (.bipush 44, 2) := dk_16 44 (dk_at dksX5_passesPart_0 21 rfl rfl)
theorem dX5_passesPart_23 : decode cX5_passesPart 23 = .ok (.bipush 44, 2) := dk_16 44 (dk_at dksX5_passesPart_1 0 rfl rfl)
theorem dX5_passesPart_25 : decode cX5_passesPart 25 = .ok (.invokevirtual 127, 3) := dk_182 0 127 (dk_at dksX5_passesPart_1 2 rfl rfl)
theorem dX5_passesPart_28 : decode cX5_passesPart 28 = .ok (.ifCond .eq 56, 3) := dk_153 0 56 (dk_at dksX5_passesPart_1 5 rfl rfl)
theorem dX5_passesPart_31 : decode cX5_passesPart 31 = .ok (.aload_n 0, 1) := dk_42 (dk_at dksX5_passesPart_1 8 rfl rfl)
theorem dX5_passesPart_32 : decode cX5_passesPart 32 = .ok (.bipush 99, 2) := dk_16 99 (dk_at dksX5_passesPart_1 9 rfl rfl)
theorem dX5_passesPart_34 : decode cX5_passesPart 34 = .ok (.invokevirtual 130, 3) := dk_182 0 130 (dk_at dksX5_passesPart_1 11 rfl rfl)
theorem dX5_passesPart_37 : decode cX5_passesPart 37 = .ok (.ifCond .eq 47, 3) := dk_153 0 47 (dk_at dksX5_passesPart_1 14 rfl rfl)
theorem dX5_passesPart_40 : decode cX5_passesPart 40 = .ok (.aload_n 0, 1) := dk_42 (dk_at dksX5_passesPart_1 17 rfl rfl)
theorem dX5_passesPart_41 : decode cX5_passesPart 41 = .ok (.bipush 44, 2) := dk_16 44 (dk_at dksX5_passesPart_1 18 rfl rfl)
theorem dX5_passesPart_43 : decode cX5_passesPart 43 = .ok (.bipush 44, 2) := dk_16 44 (dk_at dksX5_passesPart_1 20 rfl rfl)
theorem dX5_passesPart_45 : decode cX5_passesPart 45 = .ok (.invokevirtual 127, 3) := dk_182 0 127 (dk_at dksX5_passesPart_2 0 rfl rfl)
theorem dX5_passesPart_48 : decode cX5_passesPart 48 = .ok (.ifCond .eq 36, 3) := dk_153 0 36 (dk_at dksX5_passesPart_2 3 rfl rfl)
theorem dX5_passesPart_51 : decode cX5_passesPart 51 = .ok (.aload_n 0, 1) := dk_42 (dk_at dksX5_passesPart_2 6 rfl rfl)
theorem dX5_passesPart_52 : decode cX5_passesPart 52 = .ok (.bipush 99, 2) := dk_16 99 (dk_at dksX5_passesPart_2 7 rfl rfl)
theorem dX5_passesPart_54 : decode cX5_passesPart 54 = .ok (.invokevirtual 130, 3) := dk_182 0 130 (dk_at dksX5_passesPart_2 9 rfl rfl)
theorem dX5_passesPart_57 : decode cX5_passesPart 57 = .ok (.ifCond .eq 27, 3) := dk_153 0 27 (dk_at dksX5_passesPart_2 12 rfl rfl)
theorem dX5_passesPart_60 : decode cX5_passesPart 60 = .ok (.aload_n 0, 1) := dk_42 (dk_at dksX5_passesPart_2 15 rfl rfl)
theorem dX5_passesPart_61 : decode cX5_passesPart 61 = .ok (.bipush 44, 2) := dk_16 44 (dk_at dksX5_passesPart_2 16 rfl rfl)
theorem dX5_passesPart_63 : decode cX5_passesPart 63 = .ok (.bipush 44, 2) := dk_16 44 (dk_at dksX5_passesPart_2 18 rfl rfl)
theorem dX5_passesPart_65 : decode cX5_passesPart 65 = .ok (.invokevirtual 127, 3) := dk_182 0 127 (dk_at dksX5_passesPart_2 20 rfl rfl)
theorem dX5_passesPart_68 : decode cX5_passesPart 68 = .ok (.ifCond .eq 16, 3) := dk_153 0 16 (dk_at dksX5_passesPart_3 0 rfl rfl)
theorem dX5_passesPart_71 : decode cX5_passesPart 71 = .ok (.aload_n 0, 1) := dk_42 (dk_at dksX5_passesPart_3 3 rfl rfl)
theorem dX5_passesPart_72 : decode cX5_passesPart 72 = .ok (.bipush 99, 2) := dk_16 99 (dk_at dksX5_passesPart_3 4 rfl rfl)
theorem dX5_passesPart_74 : decode cX5_passesPart 74 = .ok (.invokevirtual 130, 3) := dk_182 0 130 (dk_at dksX5_passesPart_3 6 rfl rfl)
theorem dX5_passesPart_77 : decode cX5_passesPart 77 = .ok (.ifCond .eq 7, 3) := dk_153 0 7 (dk_at dksX5_passesPart_3 9 rfl rfl)
theorem dX5_passesPart_80 : decode cX5_passesPart 80 = .ok (.iconst 1, 1) := dk_4 (dk_at dksX5_passesPart_3 12 rfl rfl)
theorem dX5_passesPart_81 : decode cX5_passesPart 81 = .ok (.goto 4, 3) := dk_167 0 4 (dk_at dksX5_passesPart_3 13 rfl rfl)
theorem dX5_passesPart_84 : decode cX5_passesPart 84 = .ok (.iconst 0, 1) := dk_3 (dk_at dksX5_passesPart_3 16 rfl rfl)
theorem dX5_passesPart_85 : decode cX5_passesPart 85 = .ok (.ireturn, 1) := dk_172 (dk_at dksX5_passesPart_3 17 rfl rfl)
theorem dX5_passesPart_86 : decode cX5_passesPart 86 = .ok (.aload_n 0, 1) := dk_42 (dk_at dksX5_passesPart_3 18 rfl rfl)
theorem dX5_passesPart_87 : decode cX5_passesPart 87 = .ok (.bipush 114, 2) := dk_16 114 (dk_at dksX5_passesPart_3 19 rfl rfl)
theorem dX5_passesPart_89 : decode cX5_passesPart 89 = .ok (.bipush 114, 2) := dk_16 114 (dk_at dksX5_passesPart_3 21 rfl rfl)
theorem dX5_passesPart_91 : decode cX5_passesPart 91 = .ok (.invokevirtual 127, 3) := dk_182 0 127 (dk_at dksX5_passesPart_4 0 rfl rfl)
theorem dX5_passesPart_94 : decode cX5_passesPart 94 = .ok (.ifCond .eq 10, 3) := dk_153 0 10 (dk_at dksX5_passesPart_4 3 rfl rfl)
theorem dX5_passesPart_97 : decode cX5_passesPart 97 = .ok (.aload_n 0, 1) := dk_42 (dk_at dksX5_passesPart_4 6 rfl rfl)
theorem dX5_passesPart_98 : decode cX5_passesPart 98 = .ok (.bipush 39, 2) := dk_16 39 (dk_at dksX5_passesPart_4 7 rfl rfl)
theorem dX5_passesPart_100 : decode cX5_passesPart 100 = .ok (.invokevirtual 130, 3) := dk_182 0 130 (dk_at dksX5_passesPart_4 9 rfl rfl)
theorem dX5_passesPart_103 : decode cX5_passesPart 103 = .ok (.ireturn, 1) := dk_172 (dk_at dksX5_passesPart_4 12 rfl rfl)
theorem dX5_passesPart_104 : decode cX5_passesPart 104 = .ok (.aload_n 0, 1) := dk_42 (dk_at dksX5_passesPart_4 13 rfl rfl)
theorem dX5_passesPart_105 : decode cX5_passesPart 105 = .ok (.bipush 119, 2) := dk_16 119 (dk_at dksX5_passesPart_4 14 rfl rfl)
theorem dX5_passesPart_107 : decode cX5_passesPart 107 = .ok (.bipush 119, 2) := dk_16 119 (dk_at dksX5_passesPart_4 16 rfl rfl)
theorem dX5_passesPart_109 : decode cX5_passesPart 109 = .ok (.invokevirtual 127, 3) := dk_182 0 127 (dk_at dksX5_passesPart_4 18 rfl rfl)
theorem dX5_passesPart_112 : decode cX5_passesPart 112 = .ok (.ifCond .eq 53, 3) := dk_153 0 53 (dk_at dksX5_passesPart_4 21 rfl rfl)
theorem dX5_passesPart_115 : decode cX5_passesPart 115 = .ok (.aload_n 0, 1) := dk_42 (dk_at dksX5_passesPart_5 0 rfl rfl)
theorem dX5_passesPart_116 : decode cX5_passesPart 116 = .ok (.bipush 48, 2) := dk_16 48 (dk_at dksX5_passesPart_5 1 rfl rfl)
theorem dX5_passesPart_118 : decode cX5_passesPart 118 = .ok (.bipush 51, 2) := dk_16 51 (dk_at dksX5_passesPart_5 3 rfl rfl)
theorem dX5_passesPart_120 : decode cX5_passesPart 120 = .ok (.invokevirtual 127, 3) := dk_182 0 127 (dk_at dksX5_passesPart_5 5 rfl rfl)
theorem dX5_passesPart_123 : decode cX5_passesPart 123 = .ok (.ifCond .eq 40, 3) := dk_153 0 40 (dk_at dksX5_passesPart_5 8 rfl rfl)
theorem dX5_passesPart_126 : decode cX5_passesPart 126 = .ok (.aload_n 0, 1) := dk_42 (dk_at dksX5_passesPart_5 11 rfl rfl)
theorem dX5_passesPart_127 : decode cX5_passesPart 127 = .ok (.bipush 45, 2) := dk_16 45 (dk_at dksX5_passesPart_5 12 rfl rfl)
theorem dX5_passesPart_129 : decode cX5_passesPart 129 = .ok (.bipush 45, 2) := dk_16 45 (dk_at dksX5_passesPart_5 14 rfl rfl)
theorem dX5_passesPart_131 : decode cX5_passesPart 131 = .ok (.invokevirtual 127, 3) := dk_182 0 127 (dk_at dksX5_passesPart_5 16 rfl rfl)
theorem dX5_passesPart_134 : decode cX5_passesPart 134 = .ok (.ifCond .ne 25, 3) := dk_154 0 25 (dk_at dksX5_passesPart_5 19 rfl rfl)
theorem dX5_passesPart_137 : decode cX5_passesPart 137 = .ok (.aload_n 0, 1) := dk_42 (dk_at dksX5_passesPart_5 22 rfl rfl)
theorem dX5_passesPart_138 : decode cX5_passesPart 138 = .ok (.bipush 43, 2) := dk_16 43 (dk_at dksX5_passesPart_6 0 rfl rfl)
theorem dX5_passesPart_140 : decode cX5_passesPart 140 = .ok (.bipush 43, 2) := dk_16 43 (dk_at dksX5_passesPart_6 2 rfl rfl)
theorem dX5_passesPart_142 : decode cX5_passesPart 142 = .ok (.invokevirtual 127, 3) := dk_182 0 127 (dk_at dksX5_passesPart_6 4 rfl rfl)
theorem dX5_passesPart_145 : decode cX5_passesPart 145 = .ok (.ifCond .ne 14, 3) := dk_154 0 14 (dk_at dksX5_passesPart_6 7 rfl rfl)
theorem dX5_passesPart_148 : decode cX5_passesPart 148 = .ok (.aload_n 0, 1) := dk_42 (dk_at dksX5_passesPart_6 10 rfl rfl)
theorem dX5_passesPart_149 : decode cX5_passesPart 149 = .ok (.bipush 48, 2) := dk_16 48 (dk_at dksX5_passesPart_6 11 rfl rfl)
theorem dX5_passesPart_151 : decode cX5_passesPart 151 = .ok (.bipush 48, 2) := dk_16 48 (dk_at dksX5_passesPart_6 13 rfl rfl)
theorem dX5_passesPart_153 : decode cX5_passesPart 153 = .ok (.invokevirtual 127, 3) := dk_182 0 127 (dk_at dksX5_passesPart_6 15 rfl rfl)
theorem dX5_passesPart_156 : decode cX5_passesPart 156 = .ok (.ifCond .eq 7, 3) := dk_153 0 7 (dk_at dksX5_passesPart_6 18 rfl rfl)
theorem dX5_passesPart_159 : decode cX5_passesPart 159 = .ok (.iconst 1, 1) := dk_4 (dk_at dksX5_passesPart_6 21 rfl rfl)
theorem dX5_passesPart_160 : decode cX5_passesPart 160 = .ok (.goto 4, 3) := dk_167 0 4 (dk_at dksX5_passesPart_7 0 rfl rfl)
theorem dX5_passesPart_163 : decode cX5_passesPart 163 = .ok (.iconst 0, 1) := dk_3 (dk_at dksX5_passesPart_7 3 rfl rfl)
theorem dX5_passesPart_164 : decode cX5_passesPart 164 = .ok (.ireturn, 1) := dk_172 (dk_at dksX5_passesPart_7 4 rfl rfl)
theorem dX5_passesPart_165 : decode cX5_passesPart 165 = .ok (.aload_n 0, 1) := dk_42 (dk_at dksX5_passesPart_7 5 rfl rfl)
theorem dX5_passesPart_166 : decode cX5_passesPart 166 = .ok (.bipush 98, 2) := dk_16 98 (dk_at dksX5_passesPart_7 6 rfl rfl)
theorem dX5_passesPart_168 : decode cX5_passesPart 168 = .ok (.bipush 98, 2) := dk_16 98 (dk_at dksX5_passesPart_7 8 rfl rfl)
theorem dX5_passesPart_170 : decode cX5_passesPart 170 = .ok (.invokevirtual 127, 3) := dk_182 0 127 (dk_at dksX5_passesPart_7 10 rfl rfl)
theorem dX5_passesPart_173 : decode cX5_passesPart 173 = .ok (.ifCond .eq 14, 3) := dk_153 0 14 (dk_at dksX5_passesPart_7 13 rfl rfl)
theorem dX5_passesPart_176 : decode cX5_passesPart 176 = .ok (.aload_n 0, 1) := dk_42 (dk_at dksX5_passesPart_7 16 rfl rfl)
theorem dX5_passesPart_177 : decode cX5_passesPart 177 = .ok (.invokevirtual 136, 3) := dk_182 0 136 (dk_at dksX5_passesPart_7 17 rfl rfl)
theorem dX5_passesPart_180 : decode cX5_passesPart 180 = .ok (.ifCond .eq 7, 3) := dk_153 0 7 (dk_at dksX5_passesPart_7 20 rfl rfl)
theorem dX5_passesPart_183 : decode cX5_passesPart 183 = .ok (.iconst 1, 1) := dk_4 (dk_at dksX5_passesPart_7 23 rfl rfl)
theorem dX5_passesPart_184 : decode cX5_passesPart 184 = .ok (.goto 4, 3) := dk_167 0 4 (dk_at dksX5_passesPart_8 0 rfl rfl)
theorem dX5_passesPart_187 : decode cX5_passesPart 187 = .ok (.iconst 0, 1) := dk_3 (dk_at dksX5_passesPart_8 3 rfl rfl)
theorem dX5_passesPart_188 : decode cX5_passesPart 188 = .ok (.ireturn, 1) := dk_172 (dk_at dksX5_passesPart_8 4 rfl rfl)
abbrev cX5_passes : ByteArray := prog_10_method_41_code
def yX5_passes : MethodName := ⟨RX5, "passes", "(II)Z"⟩
def dkwX5_passes_1 : List UInt8 := [181, 0, 121, 29, 172]
abbrev dktX5_passes_1 : List UInt8 := dkwX5_passes_1 ++ []
def dkwX5_passes_0 : List UInt8 := [42, 27, 28, 182, 0, 124, 62, 42, 89, 180, 0, 121, 29, 153, 0, 7, 4, 167, 0, 4, 3, 96]
abbrev dktX5_passes_0 : List UInt8 := dkwX5_passes_0 ++ dktX5_passes_1
theorem dksX5_passes_0 : cX5_passes.data.toList.drop 0 = dktX5_passes_0 := by decide +kernel
theorem dksX5_passes_1 : cX5_passes.data.toList.drop 22 = dktX5_passes_1 := dk_seg dksX5_passes_0 22 rfl rfl
theorem dX5_passes_0 : decode cX5_passes 0 = .ok (.aload_n 0, 1) := dk_42 (dk_at dksX5_passes_0 0 rfl rfl)
theorem dX5_passes_1 : decode cX5_passes 1 = .ok (.iload_n 1, 1) := dk_27 (dk_at dksX5_passes_0 1 rfl rfl)
theorem dX5_passes_2 : decode cX5_passes 2 = .ok (.iload_n 2, 1) := dk_28 (dk_at dksX5_passes_0 2 rfl rfl)
theorem dX5_passes_3 : decode cX5_passes 3 = .ok (.invokevirtual 124, 3) := dk_182 0 124 (dk_at dksX5_passes_0 3 rfl rfl)
theorem dX5_passes_6 : decode cX5_passes 6 = .ok (.istore_n 3, 1) := dk_62 (dk_at dksX5_passes_0 6 rfl rfl)
theorem dX5_passes_7 : decode cX5_passes 7 = .ok (.aload_n 0, 1) := dk_42 (dk_at dksX5_passes_0 7 rfl rfl)
theorem dX5_passes_8 : decode cX5_passes 8 = .ok (.dup, 1) := dk_89 (dk_at dksX5_passes_0 8 rfl rfl)
theorem dX5_passes_9 : decode cX5_passes 9 = .ok (.getfield 121, 3) := dk_180 0 121 (dk_at dksX5_passes_0 9 rfl rfl)
theorem dX5_passes_12 : decode cX5_passes 12 = .ok (.iload_n 3, 1) := dk_29 (dk_at dksX5_passes_0 12 rfl rfl)
theorem dX5_passes_13 : decode cX5_passes 13 = .ok (.ifCond .eq 7, 3) := dk_153 0 7 (dk_at dksX5_passes_0 13 rfl rfl)
theorem dX5_passes_16 : decode cX5_passes 16 = .ok (.iconst 1, 1) := dk_4 (dk_at dksX5_passes_0 16 rfl rfl)
theorem dX5_passes_17 : decode cX5_passes 17 = .ok (.goto 4, 3) := dk_167 0 4 (dk_at dksX5_passes_0 17 rfl rfl)
theorem dX5_passes_20 : decode cX5_passes 20 = .ok (.iconst 0, 1) := dk_3 (dk_at dksX5_passes_0 20 rfl rfl)
theorem dX5_passes_21 : decode cX5_passes 21 = .ok (.iadd, 1) := dk_96 (dk_at dksX5_passes_0 21 rfl rfl)
theorem dX5_passes_22 : decode cX5_passes 22 = .ok (.putfield 121, 3) := dk_181 0 121 (dk_at dksX5_passes_1 0 rfl rfl)
theorem dX5_passes_25 : decode cX5_passes 25 = .ok (.iload_n 3, 1) := dk_29 (dk_at dksX5_passes_1 3 rfl rfl)
theorem dX5_passes_26 : decode cX5_passes 26 = .ok (.ireturn, 1) := dk_172 (dk_at dksX5_passes_1 4 rfl rfl)
abbrev cX5_sees : ByteArray := prog_10_method_40_code
def yX5_sees : MethodName := ⟨RX5, "sees", "(II)Z"⟩
def dkwX5_sees_1 : List UInt8 := [184, 0, 42, 153, 0, 7, 4, 167, 0, 4, 3, 172]
abbrev dktX5_sees_1 : List UInt8 := dkwX5_sees_1 ++ []
def dkwX5_sees_0 : List UInt8 := [42, 180, 0, 121, 42, 180, 0, 118, 162, 0, 24, 42, 180, 0, 22, 42, 180, 0, 121, 46, 27, 28]
abbrev dktX5_sees_0 : List UInt8 := dkwX5_sees_0 ++ dktX5_sees_1
theorem dksX5_sees_0 : cX5_sees.data.toList.drop 0 = dktX5_sees_0 := by decide +kernel
theorem dksX5_sees_1 : cX5_sees.data.toList.drop 22 = dktX5_sees_1 := dk_seg dksX5_sees_0 22 rfl rfl
theorem dX5_sees_0 : decode cX5_sees 0 = .ok (.aload_n 0, 1) := dk_42 (dk_at dksX5_sees_0 0 rfl rfl)
theorem dX5_sees_1 : decode cX5_sees 1 = .ok (.getfield 121, 3) := dk_180 0 121 (dk_at dksX5_sees_0 1 rfl rfl)
theorem dX5_sees_4 : decode cX5_sees 4 = .ok (.aload_n 0, 1) := dk_42 (dk_at dksX5_sees_0 4 rfl rfl)
theorem dX5_sees_5 : decode cX5_sees 5 = .ok (.getfield 118, 3) := dk_180 0 118 (dk_at dksX5_sees_0 5 rfl rfl)
theorem dX5_sees_8 : decode cX5_sees 8 = .ok (.if_icmp .ge 24, 3) := dk_162 0 24 (dk_at dksX5_sees_0 8 rfl rfl)
theorem dX5_sees_11 : decode cX5_sees 11 = .ok (.aload_n 0, 1) := dk_42 (dk_at dksX5_sees_0 11 rfl rfl)
theorem dX5_sees_12 : decode cX5_sees 12 = .ok (.getfield 22, 3) := dk_180 0 22 (dk_at dksX5_sees_0 12 rfl rfl)
theorem dX5_sees_15 : decode cX5_sees 15 = .ok (.aload_n 0, 1) := dk_42 (dk_at dksX5_sees_0 15 rfl rfl)
theorem dX5_sees_16 : decode cX5_sees 16 = .ok (.getfield 121, 3) := dk_180 0 121 (dk_at dksX5_sees_0 16 rfl rfl)
theorem dX5_sees_19 : decode cX5_sees 19 = .ok (.iaload, 1) := dk_46 (dk_at dksX5_sees_0 19 rfl rfl)
theorem dX5_sees_20 : decode cX5_sees 20 = .ok (.iload_n 1, 1) := dk_27 (dk_at dksX5_sees_0 20 rfl rfl)
theorem dX5_sees_21 : decode cX5_sees 21 = .ok (.iload_n 2, 1) := dk_28 (dk_at dksX5_sees_0 21 rfl rfl)
theorem dX5_sees_22 : decode cX5_sees 22 = .ok (.invokestatic 42, 3) := dk_184 0 42 (dk_at dksX5_sees_1 0 rfl rfl)
theorem dX5_sees_25 : decode cX5_sees 25 = .ok (.ifCond .eq 7, 3) := dk_153 0 7 (dk_at dksX5_sees_1 3 rfl rfl)
theorem dX5_sees_28 : decode cX5_sees 28 = .ok (.iconst 1, 1) := dk_4 (dk_at dksX5_sees_1 6 rfl rfl)
theorem dX5_sees_29 : decode cX5_sees 29 = .ok (.goto 4, 3) := dk_167 0 4 (dk_at dksX5_sees_1 7 rfl rfl)
theorem dX5_sees_32 : decode cX5_sees 32 = .ok (.iconst 0, 1) := dk_3 (dk_at dksX5_sees_1 10 rfl rfl)
theorem dX5_sees_33 : decode cX5_sees 33 = .ok (.ireturn, 1) := dk_172 (dk_at dksX5_sees_1 11 rfl rfl)
abbrev cX5_passesNumber : ByteArray := prog_10_method_42_code
def yX5_passesNumber : MethodName := ⟨RX5, "passesNumber", "(I)Z"⟩
def dkwX5_passesNumber_3 : List UInt8 := [27, 163, 0, 7, 4, 167, 0, 4, 3, 96, 181, 0, 121, 4, 172]
abbrev dktX5_passesNumber_3 : List UInt8 := dkwX5_passesNumber_3 ++ []
def dkwX5_passesNumber_2 : List UInt8 := [42, 180, 0, 121, 4, 100, 46, 16, 48, 100, 104, 42, 180, 0, 22, 42, 180, 0, 121, 46, 96, 16, 48, 100]
abbrev dktX5_passesNumber_2 : List UInt8 := dkwX5_passesNumber_2 ++ dktX5_passesNumber_3
def dkwX5_passesNumber_1 : List UInt8 := [3, 172, 42, 89, 180, 0, 121, 42, 16, 48, 16, 57, 182, 0, 124, 153, 0, 41, 16, 10, 42, 180, 0, 22]
abbrev dktX5_passesNumber_1 : List UInt8 := dkwX5_passesNumber_1 ++ dktX5_passesNumber_2
def dkwX5_passesNumber_0 : List UInt8 := [42, 16, 48, 16, 48, 182, 0, 127, 153, 0, 5, 4, 172, 42, 16, 49, 16, 57, 182, 0, 127, 154, 0, 5]
abbrev dktX5_passesNumber_0 : List UInt8 := dkwX5_passesNumber_0 ++ dktX5_passesNumber_1
theorem dksX5_passesNumber_0 : cX5_passesNumber.data.toList.drop 0 = dktX5_passesNumber_0 := by decide +kernel
theorem dksX5_passesNumber_1 : cX5_passesNumber.data.toList.drop 24 = dktX5_passesNumber_1 := dk_seg dksX5_passesNumber_0 24 rfl rfl
theorem dksX5_passesNumber_2 : cX5_passesNumber.data.toList.drop 48 = dktX5_passesNumber_2 := dk_seg dksX5_passesNumber_1 24 rfl rfl
theorem dksX5_passesNumber_3 : cX5_passesNumber.data.toList.drop 72 = dktX5_passesNumber_3 := dk_seg dksX5_passesNumber_2 24 rfl rfl
theorem dX5_passesNumber_0 : decode cX5_passesNumber 0 = .ok (.aload_n 0, 1) := dk_42 (dk_at dksX5_passesNumber_0 0 rfl rfl)
theorem dX5_passesNumber_1 : decode cX5_passesNumber 1 = .ok (.bipush 48, 2) := dk_16 48 (dk_at dksX5_passesNumber_0 1 rfl rfl)
theorem dX5_passesNumber_3 : decode cX5_passesNumber 3 = .ok (.bipush 48, 2) := dk_16 48 (dk_at dksX5_passesNumber_0 3 rfl rfl)
theorem dX5_passesNumber_5 : decode cX5_passesNumber 5 = .ok (.invokevirtual 127, 3) := dk_182 0 127 (dk_at dksX5_passesNumber_0 5 rfl rfl)
theorem dX5_passesNumber_8 : decode cX5_passesNumber 8 = .ok (.ifCond .eq 5, 3) := dk_153 0 5 (dk_at dksX5_passesNumber_0 8 rfl rfl)
theorem dX5_passesNumber_11 : decode cX5_passesNumber 11 = .ok (.iconst 1, 1) := dk_4 (dk_at dksX5_passesNumber_0 11 rfl rfl)
theorem dX5_passesNumber_12 : decode cX5_passesNumber 12 = .ok (.ireturn, 1) := dk_172 (dk_at dksX5_passesNumber_0 12 rfl rfl)
theorem dX5_passesNumber_13 : decode cX5_passesNumber 13 = .ok (.aload_n 0, 1) := dk_42 (dk_at dksX5_passesNumber_0 13 rfl rfl)
theorem dX5_passesNumber_14 : decode cX5_passesNumber 14 = .ok (.bipush 49, 2) := dk_16 49 (dk_at dksX5_passesNumber_0 14 rfl rfl)
theorem dX5_passesNumber_16 : decode cX5_passesNumber 16 = .ok (.bipush 57, 2) := dk_16 57 (dk_at dksX5_passesNumber_0 16 rfl rfl)
theorem dX5_passesNumber_18 : decode cX5_passesNumber 18 = .ok (.invokevirtual 127, 3) := dk_182 0 127 (dk_at dksX5_passesNumber_0 18 rfl rfl)
theorem dX5_passesNumber_21 : decode cX5_passesNumber 21 = .ok (.ifCond .ne 5, 3) := dk_154 0 5 (dk_at dksX5_passesNumber_0 21 rfl rfl)
theorem dX5_passesNumber_24 : decode cX5_passesNumber 24 = .ok (.iconst 0, 1) := dk_3 (dk_at dksX5_passesNumber_1 0 rfl rfl)
theorem dX5_passesNumber_25 : decode cX5_passesNumber 25 = .ok (.ireturn, 1) := dk_172 (dk_at dksX5_passesNumber_1 1 rfl rfl)
theorem dX5_passesNumber_26 : decode cX5_passesNumber 26 = .ok (.aload_n 0, 1) := dk_42 (dk_at dksX5_passesNumber_1 2 rfl rfl)
theorem dX5_passesNumber_27 : decode cX5_passesNumber 27 = .ok (.dup, 1) := dk_89 (dk_at dksX5_passesNumber_1 3 rfl rfl)
theorem dX5_passesNumber_28 : decode cX5_passesNumber 28 = .ok (.getfield 121, 3) := dk_180 0 121 (dk_at dksX5_passesNumber_1 4 rfl rfl)
theorem dX5_passesNumber_31 : decode cX5_passesNumber 31 = .ok (.aload_n 0, 1) := dk_42 (dk_at dksX5_passesNumber_1 7 rfl rfl)
theorem dX5_passesNumber_32 : decode cX5_passesNumber 32 = .ok (.bipush 48, 2) := dk_16 48 (dk_at dksX5_passesNumber_1 8 rfl rfl)
theorem dX5_passesNumber_34 : decode cX5_passesNumber 34 = .ok (.bipush 57, 2) := dk_16 57 (dk_at dksX5_passesNumber_1 10 rfl rfl)
theorem dX5_passesNumber_36 : decode cX5_passesNumber 36 = .ok (.invokevirtual 124, 3) := dk_182 0 124 (dk_at dksX5_passesNumber_1 12 rfl rfl)
theorem dX5_passesNumber_39 : decode cX5_passesNumber 39 = .ok (.ifCond .eq 41, 3) := dk_153 0 41 (dk_at dksX5_passesNumber_1 15 rfl rfl)
theorem dX5_passesNumber_42 : decode cX5_passesNumber 42 = .ok (.bipush 10, 2) := dk_16 10 (dk_at dksX5_passesNumber_1 18 rfl rfl)
theorem dX5_passesNumber_44 : decode cX5_passesNumber 44 = .ok (.aload_n 0, 1) := dk_42 (dk_at dksX5_passesNumber_1 20 rfl rfl)
theorem dX5_passesNumber_45 : decode cX5_passesNumber 45 = .ok (.getfield 22, 3) := dk_180 0 22 (dk_at dksX5_passesNumber_1 21 rfl rfl)
theorem dX5_passesNumber_48 : decode cX5_passesNumber 48 = .ok (.aload_n 0, 1) := dk_42 (dk_at dksX5_passesNumber_2 0 rfl rfl)
theorem dX5_passesNumber_49 : decode cX5_passesNumber 49 = .ok (.getfield 121, 3) := dk_180 0 121 (dk_at dksX5_passesNumber_2 1 rfl rfl)
theorem dX5_passesNumber_52 : decode cX5_passesNumber 52 = .ok (.iconst 1, 1) := dk_4 (dk_at dksX5_passesNumber_2 4 rfl rfl)
theorem dX5_passesNumber_53 : decode cX5_passesNumber 53 = .ok (.isub, 1) := dk_100 (dk_at dksX5_passesNumber_2 5 rfl rfl)
theorem dX5_passesNumber_54 : decode cX5_passesNumber 54 = .ok (.iaload, 1) := dk_46 (dk_at dksX5_passesNumber_2 6 rfl rfl)
theorem dX5_passesNumber_55 : decode cX5_passesNumber 55 = .ok (.bipush 48, 2) := dk_16 48 (dk_at dksX5_passesNumber_2 7 rfl rfl)
theorem dX5_passesNumber_57 : decode cX5_passesNumber 57 = .ok (.isub, 1) := dk_100 (dk_at dksX5_passesNumber_2 9 rfl rfl)
theorem dX5_passesNumber_58 : decode cX5_passesNumber 58 = .ok (.imul, 1) := dk_104 (dk_at dksX5_passesNumber_2 10 rfl rfl)
theorem dX5_passesNumber_59 : decode cX5_passesNumber 59 = .ok (.aload_n 0, 1) := dk_42 (dk_at dksX5_passesNumber_2 11 rfl rfl)
theorem dX5_passesNumber_60 : decode cX5_passesNumber 60 = .ok (.getfield 22, 3) := dk_180 0 22 (dk_at dksX5_passesNumber_2 12 rfl rfl)
theorem dX5_passesNumber_63 : decode cX5_passesNumber 63 = .ok (.aload_n 0, 1) := dk_42 (dk_at dksX5_passesNumber_2 15 rfl rfl)
theorem dX5_passesNumber_64 : decode cX5_passesNumber 64 = .ok (.getfield 121, 3) := dk_180 0 121 (dk_at dksX5_passesNumber_2 16 rfl rfl)
theorem dX5_passesNumber_67 : decode cX5_passesNumber 67 = .ok (.iaload, 1) := dk_46 (dk_at dksX5_passesNumber_2 19 rfl rfl)
theorem dX5_passesNumber_68 : decode cX5_passesNumber 68 = .ok (.iadd, 1) := dk_96 (dk_at dksX5_passesNumber_2 20 rfl rfl)
theorem dX5_passesNumber_69 : decode cX5_passesNumber 69 = .ok (.bipush 48, 2) := dk_16 48 (dk_at dksX5_passesNumber_2 21 rfl rfl)
theorem dX5_passesNumber_71 : decode cX5_passesNumber 71 = .ok (.isub, 1) := dk_100 (dk_at dksX5_passesNumber_2 23 rfl rfl)
theorem dX5_passesNumber_72 : decode cX5_passesNumber 72 = .ok (.iload_n 1, 1) := dk_27 (dk_at dksX5_passesNumber_3 0 rfl rfl)
theorem dX5_passesNumber_73 : decode cX5_passesNumber 73 = .ok (.if_icmp .gt 7, 3) := dk_163 0 7 (dk_at dksX5_passesNumber_3 1 rfl rfl)
theorem dX5_passesNumber_76 : decode cX5_passesNumber 76 = .ok (.iconst 1, 1) := dk_4 (dk_at dksX5_passesNumber_3 4 rfl rfl)
theorem dX5_passesNumber_77 : decode cX5_passesNumber 77 = .ok (.goto 4, 3) := dk_167 0 4 (dk_at dksX5_passesNumber_3 5 rfl rfl)
theorem dX5_passesNumber_80 : decode cX5_passesNumber 80 = .ok (.iconst 0, 1) := dk_3 (dk_at dksX5_passesNumber_3 8 rfl rfl)
theorem dX5_passesNumber_81 : decode cX5_passesNumber 81 = .ok (.iadd, 1) := dk_96 (dk_at dksX5_passesNumber_3 9 rfl rfl)
theorem dX5_passesNumber_82 : decode cX5_passesNumber 82 = .ok (.putfield 121, 3) := dk_181 0 121 (dk_at dksX5_passesNumber_3 10 rfl rfl)
theorem dX5_passesNumber_85 : decode cX5_passesNumber 85 = .ok (.iconst 1, 1) := dk_4 (dk_at dksX5_passesNumber_3 13 rfl rfl)
theorem dX5_passesNumber_86 : decode cX5_passesNumber 86 = .ok (.ireturn, 1) := dk_172 (dk_at dksX5_passesNumber_3 14 rfl rfl)
abbrev cX5_passesBounds : ByteArray := prog_10_method_44_code
def yX5_passesBounds : MethodName := ⟨RX5, "passesBounds", "()Z"⟩
def dkwX5_passesBounds_4 : List UInt8 := [167, 0, 4, 3, 172]
abbrev dktX5_passesBounds_4 : List UInt8 := dkwX5_passesBounds_4 ++ []
def dkwX5_passesBounds_3 : List UInt8 := [167, 255, 230, 42, 16, 45, 16, 45, 182, 0, 127, 153, 0, 15, 42, 28, 182, 0, 133, 153, 0, 7, 4]
abbrev dktX5_passesBounds_3 : List UInt8 := dkwX5_passesBounds_3 ++ dktX5_passesBounds_4
def dkwX5_passesBounds_2 : List UInt8 := [180, 0, 121, 162, 0, 24, 16, 10, 28, 104, 42, 180, 0, 22, 29, 46, 96, 16, 48, 100, 61, 132, 3, 1]
abbrev dktX5_passesBounds_2 : List UInt8 := dkwX5_passesBounds_2 ++ dktX5_passesBounds_3
def dkwX5_passesBounds_1 : List UInt8 := [42, 180, 0, 121, 60, 42, 16, 99, 182, 0, 130, 154, 0, 5, 3, 172, 3, 61, 27, 62, 29, 42]
abbrev dktX5_passesBounds_1 : List UInt8 := dkwX5_passesBounds_1 ++ dktX5_passesBounds_2
def dkwX5_passesBounds_0 : List UInt8 := [42, 16, 48, 16, 51, 182, 0, 127, 153, 0, 14, 42, 16, 61, 16, 61, 182, 0, 127, 154, 0, 5, 3, 172]
abbrev dktX5_passesBounds_0 : List UInt8 := dkwX5_passesBounds_0 ++ dktX5_passesBounds_1
theorem dksX5_passesBounds_0 : cX5_passesBounds.data.toList.drop 0 = dktX5_passesBounds_0 := by decide +kernel
theorem dksX5_passesBounds_1 : cX5_passesBounds.data.toList.drop 24 = dktX5_passesBounds_1 := dk_seg dksX5_passesBounds_0 24 rfl rfl
theorem dksX5_passesBounds_2 : cX5_passesBounds.data.toList.drop 46 = dktX5_passesBounds_2 := dk_seg dksX5_passesBounds_1 22 rfl rfl
theorem dksX5_passesBounds_3 : cX5_passesBounds.data.toList.drop 70 = dktX5_passesBounds_3 := dk_seg dksX5_passesBounds_2 24 rfl rfl
theorem dksX5_passesBounds_4 : cX5_passesBounds.data.toList.drop 93 = dktX5_passesBounds_4 := dk_seg dksX5_passesBounds_3 23 rfl rfl
theorem dX5_passesBounds_0 : decode cX5_passesBounds 0 = .ok (.aload_n 0, 1) := dk_42 (dk_at dksX5_passesBounds_0 0 rfl rfl)
theorem dX5_passesBounds_1 : decode cX5_passesBounds 1 = .ok (.bipush 48, 2) := dk_16 48 (dk_at dksX5_passesBounds_0 1 rfl rfl)
theorem dX5_passesBounds_3 : decode cX5_passesBounds 3 = .ok (.bipush 51, 2) := dk_16 51 (dk_at dksX5_passesBounds_0 3 rfl rfl)
theorem dX5_passesBounds_5 : decode cX5_passesBounds 5 = .ok (.invokevirtual 127, 3) := dk_182 0 127 (dk_at dksX5_passesBounds_0 5 rfl rfl)
theorem dX5_passesBounds_8 : decode cX5_passesBounds 8 = .ok (.ifCond .eq 14, 3) := dk_153 0 14 (dk_at dksX5_passesBounds_0 8 rfl rfl)
theorem dX5_passesBounds_11 : decode cX5_passesBounds 11 = .ok (.aload_n 0, 1) := dk_42 (dk_at dksX5_passesBounds_0 11 rfl rfl)
theorem dX5_passesBounds_12 : decode cX5_passesBounds 12 = .ok (.bipush 61, 2) := dk_16 61 (dk_at dksX5_passesBounds_0 12 rfl rfl)
theorem dX5_passesBounds_14 : decode cX5_passesBounds 14 = .ok (.bipush 61, 2) := dk_16 61 (dk_at dksX5_passesBounds_0 14 rfl rfl)
theorem dX5_passesBounds_16 : decode cX5_passesBounds 16 = .ok (.invokevirtual 127, 3) := dk_182 0 127 (dk_at dksX5_passesBounds_0 16 rfl rfl)
theorem dX5_passesBounds_19 : decode cX5_passesBounds 19 = .ok (.ifCond .ne 5, 3) := dk_154 0 5 (dk_at dksX5_passesBounds_0 19 rfl rfl)
theorem dX5_passesBounds_22 : decode cX5_passesBounds 22 = .ok (.iconst 0, 1) := dk_3 (dk_at dksX5_passesBounds_0 22 rfl rfl)
theorem dX5_passesBounds_23 : decode cX5_passesBounds 23 = .ok (.ireturn, 1) := dk_172 (dk_at dksX5_passesBounds_0 23 rfl rfl)
theorem dX5_passesBounds_24 : decode cX5_passesBounds 24 = .ok (.aload_n 0, 1) := dk_42 (dk_at dksX5_passesBounds_1 0 rfl rfl)
theorem dX5_passesBounds_25 : decode cX5_passesBounds 25 = .ok (.getfield 121, 3) := dk_180 0 121 (dk_at dksX5_passesBounds_1 1 rfl rfl)
theorem dX5_passesBounds_28 : decode cX5_passesBounds 28 = .ok (.istore_n 1, 1) := dk_60 (dk_at dksX5_passesBounds_1 4 rfl rfl)
theorem dX5_passesBounds_29 : decode cX5_passesBounds 29 = .ok (.aload_n 0, 1) := dk_42 (dk_at dksX5_passesBounds_1 5 rfl rfl)
theorem dX5_passesBounds_30 : decode cX5_passesBounds 30 = .ok (.bipush 99, 2) := dk_16 99 (dk_at dksX5_passesBounds_1 6 rfl rfl)
theorem dX5_passesBounds_32 : decode cX5_passesBounds 32 = .ok (.invokevirtual 130, 3) := dk_182 0 130 (dk_at dksX5_passesBounds_1 8 rfl rfl)
theorem dX5_passesBounds_35 : decode cX5_passesBounds 35 = .ok (.ifCond .ne 5, 3) := dk_154 0 5 (dk_at dksX5_passesBounds_1 11 rfl rfl)
theorem dX5_passesBounds_38 : decode cX5_passesBounds 38 = .ok (.iconst 0, 1) := dk_3 (dk_at dksX5_passesBounds_1 14 rfl rfl)
theorem dX5_passesBounds_39 : decode cX5_passesBounds 39 = .ok (.ireturn, 1) := dk_172 (dk_at dksX5_passesBounds_1 15 rfl rfl)
theorem dX5_passesBounds_40 : decode cX5_passesBounds 40 = .ok (.iconst 0, 1) := dk_3 (dk_at dksX5_passesBounds_1 16 rfl rfl)
theorem dX5_passesBounds_41 : decode cX5_passesBounds 41 = .ok (.istore_n 2, 1) := dk_61 (dk_at dksX5_passesBounds_1 17 rfl rfl)
theorem dX5_passesBounds_42 : decode cX5_passesBounds 42 = .ok (.iload_n 1, 1) := dk_27 (dk_at dksX5_passesBounds_1 18 rfl rfl)
theorem dX5_passesBounds_43 : decode cX5_passesBounds 43 = .ok (.istore_n 3, 1) := dk_62 (dk_at dksX5_passesBounds_1 19 rfl rfl)
theorem dX5_passesBounds_44 : decode cX5_passesBounds 44 = .ok (.iload_n 3, 1) := dk_29 (dk_at dksX5_passesBounds_1 20 rfl rfl)
theorem dX5_passesBounds_45 : decode cX5_passesBounds 45 = .ok (.aload_n 0, 1) := dk_42 (dk_at dksX5_passesBounds_1 21 rfl rfl)
theorem dX5_passesBounds_46 : decode cX5_passesBounds 46 = .ok (.getfield 121, 3) := dk_180 0 121 (dk_at dksX5_passesBounds_2 0 rfl rfl)
theorem dX5_passesBounds_49 : decode cX5_passesBounds 49 = .ok (.if_icmp .ge 24, 3) := dk_162 0 24 (dk_at dksX5_passesBounds_2 3 rfl rfl)
theorem dX5_passesBounds_52 : decode cX5_passesBounds 52 = .ok (.bipush 10, 2) := dk_16 10 (dk_at dksX5_passesBounds_2 6 rfl rfl)
theorem dX5_passesBounds_54 : decode cX5_passesBounds 54 = .ok (.iload_n 2, 1) := dk_28 (dk_at dksX5_passesBounds_2 8 rfl rfl)
theorem dX5_passesBounds_55 : decode cX5_passesBounds 55 = .ok (.imul, 1) := dk_104 (dk_at dksX5_passesBounds_2 9 rfl rfl)
theorem dX5_passesBounds_56 : decode cX5_passesBounds 56 = .ok (.aload_n 0, 1) := dk_42 (dk_at dksX5_passesBounds_2 10 rfl rfl)
theorem dX5_passesBounds_57 : decode cX5_passesBounds 57 = .ok (.getfield 22, 3) := dk_180 0 22 (dk_at dksX5_passesBounds_2 11 rfl rfl)
theorem dX5_passesBounds_60 : decode cX5_passesBounds 60 = .ok (.iload_n 3, 1) := dk_29 (dk_at dksX5_passesBounds_2 14 rfl rfl)
theorem dX5_passesBounds_61 : decode cX5_passesBounds 61 = .ok (.iaload, 1) := dk_46 (dk_at dksX5_passesBounds_2 15 rfl rfl)
theorem dX5_passesBounds_62 : decode cX5_passesBounds 62 = .ok (.iadd, 1) := dk_96 (dk_at dksX5_passesBounds_2 16 rfl rfl)
theorem dX5_passesBounds_63 : decode cX5_passesBounds 63 = .ok (.bipush 48, 2) := dk_16 48 (dk_at dksX5_passesBounds_2 17 rfl rfl)
theorem dX5_passesBounds_65 : decode cX5_passesBounds 65 = .ok (.isub, 1) := dk_100 (dk_at dksX5_passesBounds_2 19 rfl rfl)
theorem dX5_passesBounds_66 : decode cX5_passesBounds 66 = .ok (.istore_n 2, 1) := dk_61 (dk_at dksX5_passesBounds_2 20 rfl rfl)
theorem dX5_passesBounds_67 : decode cX5_passesBounds 67 = .ok (.iinc 3 1, 3) := dk_132 3 1 (dk_at dksX5_passesBounds_2 21 rfl rfl)
theorem dX5_passesBounds_70 : decode cX5_passesBounds 70 = .ok (.goto (-26), 3) := dk_167 255 230 (dk_at dksX5_passesBounds_3 0 rfl rfl)
theorem dX5_passesBounds_73 : decode cX5_passesBounds 73 = .ok (.aload_n 0, 1) := dk_42 (dk_at dksX5_passesBounds_3 3 rfl rfl)
theorem dX5_passesBounds_74 : decode cX5_passesBounds 74 = .ok (.bipush 45, 2) := dk_16 45 (dk_at dksX5_passesBounds_3 4 rfl rfl)
theorem dX5_passesBounds_76 : decode cX5_passesBounds 76 = .ok (.bipush 45, 2) := dk_16 45 (dk_at dksX5_passesBounds_3 6 rfl rfl)
theorem dX5_passesBounds_78 : decode cX5_passesBounds 78 = .ok (.invokevirtual 127, 3) := dk_182 0 127 (dk_at dksX5_passesBounds_3 8 rfl rfl)
theorem dX5_passesBounds_81 : decode cX5_passesBounds 81 = .ok (.ifCond .eq 15, 3) := dk_153 0 15 (dk_at dksX5_passesBounds_3 11 rfl rfl)
theorem dX5_passesBounds_84 : decode cX5_passesBounds 84 = .ok (.aload_n 0, 1) := dk_42 (dk_at dksX5_passesBounds_3 14 rfl rfl)
theorem dX5_passesBounds_85 : decode cX5_passesBounds 85 = .ok (.iload_n 2, 1) := dk_28 (dk_at dksX5_passesBounds_3 15 rfl rfl)
theorem dX5_passesBounds_86 : decode cX5_passesBounds 86 = .ok (.invokevirtual 133, 3) := dk_182 0 133 (dk_at dksX5_passesBounds_3 16 rfl rfl)
theorem dX5_passesBounds_89 : decode cX5_passesBounds 89 = .ok (.ifCond .eq 7, 3) := dk_153 0 7 (dk_at dksX5_passesBounds_3 19 rfl rfl)
theorem dX5_passesBounds_92 : decode cX5_passesBounds 92 = .ok (.iconst 1, 1) := dk_4 (dk_at dksX5_passesBounds_3 22 rfl rfl)
theorem dX5_passesBounds_93 : decode cX5_passesBounds 93 = .ok (.goto 4, 3) := dk_167 0 4 (dk_at dksX5_passesBounds_4 0 rfl rfl)
theorem dX5_passesBounds_96 : decode cX5_passesBounds 96 = .ok (.iconst 0, 1) := dk_3 (dk_at dksX5_passesBounds_4 3 rfl rfl)
theorem dX5_passesBounds_97 : decode cX5_passesBounds 97 = .ok (.ireturn, 1) := dk_172 (dk_at dksX5_passesBounds_4 4 rfl rfl)
abbrev cX5_passesFrom : ByteArray := prog_10_method_43_code
def yX5_passesFrom : MethodName := ⟨RX5, "passesFrom", "(I)Z"⟩
def dkwX5_passesFrom_6 : List UInt8 := [167, 0, 4, 3, 96, 181, 0, 121, 21, 4, 154, 0, 8, 28, 27, 161, 0, 7, 4, 167, 0, 4, 3, 172]
abbrev dktX5_passesFrom_6 : List UInt8 := dkwX5_passesFrom_6 ++ []
def dkwX5_passesFrom_5 : List UInt8 := [96, 27, 161, 0, 7, 4, 167, 0, 4, 3, 54, 4, 42, 89, 180, 0, 121, 21, 4, 153, 0, 7, 4]
abbrev dktX5_passesFrom_5 : List UInt8 := dkwX5_passesFrom_5 ++ dktX5_passesFrom_6
def dkwX5_passesFrom_4 : List UInt8 := [167, 0, 4, 2, 62, 28, 158, 0, 27, 29, 3, 16, 9, 184, 0, 42, 153, 0, 17, 16, 10, 28, 104, 29]
abbrev dktX5_passesFrom_4 : List UInt8 := dkwX5_passesFrom_4 ++ dktX5_passesFrom_5
def dkwX5_passesFrom_3 : List UInt8 := [180, 0, 121, 42, 180, 0, 118, 162, 0, 18, 42, 180, 0, 22, 42, 180, 0, 121, 46, 16, 48, 100]
abbrev dktX5_passesFrom_3 : List UInt8 := dkwX5_passesFrom_3 ++ dktX5_passesFrom_4
def dkwX5_passesFrom_2 : List UInt8 := [16, 10, 28, 104, 16, 9, 96, 27, 162, 0, 5, 3, 172, 42, 89, 180, 0, 121, 4, 96, 181, 0, 121, 42]
abbrev dktX5_passesFrom_2 : List UInt8 := dkwX5_passesFrom_2 ++ dktX5_passesFrom_3
def dkwX5_passesFrom_1 : List UInt8 := [167, 0, 4, 2, 61, 28, 3, 16, 9, 184, 0, 42, 153, 0, 23, 28, 27, 162, 0, 20, 28, 153, 0, 14]
abbrev dktX5_passesFrom_1 : List UInt8 := dkwX5_passesFrom_1 ++ dktX5_passesFrom_2
def dkwX5_passesFrom_0 : List UInt8 := [42, 180, 0, 121, 42, 180, 0, 118, 162, 0, 18, 42, 180, 0, 22, 42, 180, 0, 121, 46, 16, 48, 100]
abbrev dktX5_passesFrom_0 : List UInt8 := dkwX5_passesFrom_0 ++ dktX5_passesFrom_1
theorem dksX5_passesFrom_0 : cX5_passesFrom.data.toList.drop 0 = dktX5_passesFrom_0 := by decide +kernel
theorem dksX5_passesFrom_1 : cX5_passesFrom.data.toList.drop 23 = dktX5_passesFrom_1 := dk_seg dksX5_passesFrom_0 23 rfl rfl
theorem dksX5_passesFrom_2 : cX5_passesFrom.data.toList.drop 47 = dktX5_passesFrom_2 := dk_seg dksX5_passesFrom_1 24 rfl rfl
theorem dksX5_passesFrom_3 : cX5_passesFrom.data.toList.drop 71 = dktX5_passesFrom_3 := dk_seg dksX5_passesFrom_2 24 rfl rfl
theorem dksX5_passesFrom_4 : cX5_passesFrom.data.toList.drop 93 = dktX5_passesFrom_4 := dk_seg dksX5_passesFrom_3 22 rfl rfl
theorem dksX5_passesFrom_5 : cX5_passesFrom.data.toList.drop 117 = dktX5_passesFrom_5 := dk_seg dksX5_passesFrom_4 24 rfl rfl
theorem dksX5_passesFrom_6 : cX5_passesFrom.data.toList.drop 140 = dktX5_passesFrom_6 := dk_seg dksX5_passesFrom_5 23 rfl rfl
theorem dX5_passesFrom_0 : decode cX5_passesFrom 0 = .ok (.aload_n 0, 1) := dk_42 (dk_at dksX5_passesFrom_0 0 rfl rfl)
theorem dX5_passesFrom_1 : decode cX5_passesFrom 1 = .ok (.getfield 121, 3) := dk_180 0 121 (dk_at dksX5_passesFrom_0 1 rfl rfl)
theorem dX5_passesFrom_4 : decode cX5_passesFrom 4 = .ok (.aload_n 0, 1) := dk_42 (dk_at dksX5_passesFrom_0 4 rfl rfl)
theorem dX5_passesFrom_5 : decode cX5_passesFrom 5 = .ok (.getfield 118, 3) := dk_180 0 118 (dk_at dksX5_passesFrom_0 5 rfl rfl)
theorem dX5_passesFrom_8 : decode cX5_passesFrom 8 = .ok (.if_icmp .ge 18, 3) := dk_162 0 18 (dk_at dksX5_passesFrom_0 8 rfl rfl)
theorem dX5_passesFrom_11 : decode cX5_passesFrom 11 = .ok (.aload_n 0, 1) := dk_42 (dk_at dksX5_passesFrom_0 11 rfl rfl)
theorem dX5_passesFrom_12 : decode cX5_passesFrom 12 = .ok (.getfield 22, 3) := dk_180 0 22 (dk_at dksX5_passesFrom_0 12 rfl rfl)
theorem dX5_passesFrom_15 : decode cX5_passesFrom 15 = .ok (.aload_n 0, 1) := dk_42 (dk_at dksX5_passesFrom_0 15 rfl rfl)
theorem dX5_passesFrom_16 : decode cX5_passesFrom 16 = .ok (.getfield 121, 3) := dk_180 0 121 (dk_at dksX5_passesFrom_0 16 rfl rfl)
theorem dX5_passesFrom_19 : decode cX5_passesFrom 19 = .ok (.iaload, 1) := dk_46 (dk_at dksX5_passesFrom_0 19 rfl rfl)
theorem dX5_passesFrom_20 : decode cX5_passesFrom 20 = .ok (.bipush 48, 2) := dk_16 48 (dk_at dksX5_passesFrom_0 20 rfl rfl)
theorem dX5_passesFrom_22 : decode cX5_passesFrom 22 = .ok (.isub, 1) := dk_100 (dk_at dksX5_passesFrom_0 22 rfl rfl)
theorem dX5_passesFrom_23 : decode cX5_passesFrom 23 = .ok (.goto 4, 3) := dk_167 0 4 (dk_at dksX5_passesFrom_1 0 rfl rfl)
theorem dX5_passesFrom_26 : decode cX5_passesFrom 26 = .ok (.iconst (-1), 1) := dk_2 (dk_at dksX5_passesFrom_1 3 rfl rfl)
theorem dX5_passesFrom_27 : decode cX5_passesFrom 27 = .ok (.istore_n 2, 1) := dk_61 (dk_at dksX5_passesFrom_1 4 rfl rfl)
theorem dX5_passesFrom_28 : decode cX5_passesFrom 28 = .ok (.iload_n 2, 1) := dk_28 (dk_at dksX5_passesFrom_1 5 rfl rfl)
theorem dX5_passesFrom_29 : decode cX5_passesFrom 29 = .ok (.iconst 0, 1) := dk_3 (dk_at dksX5_passesFrom_1 6 rfl rfl)
theorem dX5_passesFrom_30 : decode cX5_passesFrom 30 = .ok (.bipush 9, 2) := dk_16 9 (dk_at dksX5_passesFrom_1 7 rfl rfl)
theorem dX5_passesFrom_32 : decode cX5_passesFrom 32 = .ok (.invokestatic 42, 3) := dk_184 0 42 (dk_at dksX5_passesFrom_1 9 rfl rfl)
theorem dX5_passesFrom_35 : decode cX5_passesFrom 35 = .ok (.ifCond .eq 23, 3) := dk_153 0 23 (dk_at dksX5_passesFrom_1 12 rfl rfl)
theorem dX5_passesFrom_38 : decode cX5_passesFrom 38 = .ok (.iload_n 2, 1) := dk_28 (dk_at dksX5_passesFrom_1 15 rfl rfl)
theorem dX5_passesFrom_39 : decode cX5_passesFrom 39 = .ok (.iload_n 1, 1) := dk_27 (dk_at dksX5_passesFrom_1 16 rfl rfl)
theorem dX5_passesFrom_40 : decode cX5_passesFrom 40 = .ok (.if_icmp .ge 20, 3) := dk_162 0 20 (dk_at dksX5_passesFrom_1 17 rfl rfl)
theorem dX5_passesFrom_43 : decode cX5_passesFrom 43 = .ok (.iload_n 2, 1) := dk_28 (dk_at dksX5_passesFrom_1 20 rfl rfl)
theorem dX5_passesFrom_44 : decode cX5_passesFrom 44 = .ok (.ifCond .eq 14, 3) := dk_153 0 14 (dk_at dksX5_passesFrom_1 21 rfl rfl)
theorem dX5_passesFrom_47 : decode cX5_passesFrom 47 = .ok (.bipush 10, 2) := dk_16 10 (dk_at dksX5_passesFrom_2 0 rfl rfl)
theorem dX5_passesFrom_49 : decode cX5_passesFrom 49 = .ok (.iload_n 2, 1) := dk_28 (dk_at dksX5_passesFrom_2 2 rfl rfl)
theorem dX5_passesFrom_50 : decode cX5_passesFrom 50 = .ok (.imul, 1) := dk_104 (dk_at dksX5_passesFrom_2 3 rfl rfl)
theorem dX5_passesFrom_51 : decode cX5_passesFrom 51 = .ok (.bipush 9, 2) := dk_16 9 (dk_at dksX5_passesFrom_2 4 rfl rfl)
theorem dX5_passesFrom_53 : decode cX5_passesFrom 53 = .ok (.iadd, 1) := dk_96 (dk_at dksX5_passesFrom_2 6 rfl rfl)
theorem dX5_passesFrom_54 : decode cX5_passesFrom 54 = .ok (.iload_n 1, 1) := dk_27 (dk_at dksX5_passesFrom_2 7 rfl rfl)
theorem dX5_passesFrom_55 : decode cX5_passesFrom 55 = .ok (.if_icmp .ge 5, 3) := dk_162 0 5 (dk_at dksX5_passesFrom_2 8 rfl rfl)
theorem dX5_passesFrom_58 : decode cX5_passesFrom 58 = .ok (.iconst 0, 1) := dk_3 (dk_at dksX5_passesFrom_2 11 rfl rfl)
theorem dX5_passesFrom_59 : decode cX5_passesFrom 59 = .ok (.ireturn, 1) := dk_172 (dk_at dksX5_passesFrom_2 12 rfl rfl)
theorem dX5_passesFrom_60 : decode cX5_passesFrom 60 = .ok (.aload_n 0, 1) := dk_42 (dk_at dksX5_passesFrom_2 13 rfl rfl)
theorem dX5_passesFrom_61 : decode cX5_passesFrom 61 = .ok (.dup, 1) := dk_89 (dk_at dksX5_passesFrom_2 14 rfl rfl)
theorem dX5_passesFrom_62 : decode cX5_passesFrom 62 = .ok (.getfield 121, 3) := dk_180 0 121 (dk_at dksX5_passesFrom_2 15 rfl rfl)
theorem dX5_passesFrom_65 : decode cX5_passesFrom 65 = .ok (.iconst 1, 1) := dk_4 (dk_at dksX5_passesFrom_2 18 rfl rfl)
theorem dX5_passesFrom_66 : decode cX5_passesFrom 66 = .ok (.iadd, 1) := dk_96 (dk_at dksX5_passesFrom_2 19 rfl rfl)
theorem dX5_passesFrom_67 : decode cX5_passesFrom 67 = .ok (.putfield 121, 3) := dk_181 0 121 (dk_at dksX5_passesFrom_2 20 rfl rfl)
theorem dX5_passesFrom_70 : decode cX5_passesFrom 70 = .ok (.aload_n 0, 1) := dk_42 (dk_at dksX5_passesFrom_2 23 rfl rfl)
theorem dX5_passesFrom_71 : decode cX5_passesFrom 71 = .ok (.getfield 121, 3) := dk_180 0 121 (dk_at dksX5_passesFrom_3 0 rfl rfl)
theorem dX5_passesFrom_74 : decode cX5_passesFrom 74 = .ok (.aload_n 0, 1) := dk_42 (dk_at dksX5_passesFrom_3 3 rfl rfl)
theorem dX5_passesFrom_75 : decode cX5_passesFrom 75 = .ok (.getfield 118, 3) := dk_180 0 118 (dk_at dksX5_passesFrom_3 4 rfl rfl)
theorem dX5_passesFrom_78 : decode cX5_passesFrom 78 = .ok (.if_icmp .ge 18, 3) := dk_162 0 18 (dk_at dksX5_passesFrom_3 7 rfl rfl)
theorem dX5_passesFrom_81 : decode cX5_passesFrom 81 = .ok (.aload_n 0, 1) := dk_42 (dk_at dksX5_passesFrom_3 10 rfl rfl)
theorem dX5_passesFrom_82 : decode cX5_passesFrom 82 = .ok (.getfield 22, 3) := dk_180 0 22 (dk_at dksX5_passesFrom_3 11 rfl rfl)
theorem dX5_passesFrom_85 : decode cX5_passesFrom 85 = .ok (.aload_n 0, 1) := dk_42 (dk_at dksX5_passesFrom_3 14 rfl rfl)
theorem dX5_passesFrom_86 : decode cX5_passesFrom 86 = .ok (.getfield 121, 3) := dk_180 0 121 (dk_at dksX5_passesFrom_3 15 rfl rfl)
theorem dX5_passesFrom_89 : decode cX5_passesFrom 89 = .ok (.iaload, 1) := dk_46 (dk_at dksX5_passesFrom_3 18 rfl rfl)
theorem dX5_passesFrom_90 : decode cX5_passesFrom 90 = .ok (.bipush 48, 2) := dk_16 48 (dk_at dksX5_passesFrom_3 19 rfl rfl)
theorem dX5_passesFrom_92 : decode cX5_passesFrom 92 = .ok (.isub, 1) := dk_100 (dk_at dksX5_passesFrom_3 21 rfl rfl)
theorem dX5_passesFrom_93 : decode cX5_passesFrom 93 = .ok (.goto 4, 3) := dk_167 0 4 (dk_at dksX5_passesFrom_4 0 rfl rfl)
theorem dX5_passesFrom_96 : decode cX5_passesFrom 96 = .ok (.iconst (-1), 1) := dk_2 (dk_at dksX5_passesFrom_4 3 rfl rfl)
theorem dX5_passesFrom_97 : decode cX5_passesFrom 97 = .ok (.istore_n 3, 1) := dk_62 (dk_at dksX5_passesFrom_4 4 rfl rfl)
theorem dX5_passesFrom_98 : decode cX5_passesFrom 98 = .ok (.iload_n 2, 1) := dk_28 (dk_at dksX5_passesFrom_4 5 rfl rfl)
theorem dX5_passesFrom_99 : decode cX5_passesFrom 99 = .ok (.ifCond .le 27, 3) := dk_158 0 27 (dk_at dksX5_passesFrom_4 6 rfl rfl)
theorem dX5_passesFrom_102 : decode cX5_passesFrom 102 = .ok (.iload_n 3, 1) := dk_29 (dk_at dksX5_passesFrom_4 9 rfl rfl)
theorem dX5_passesFrom_103 : decode cX5_passesFrom 103 = .ok (.iconst 0, 1) := dk_3 (dk_at dksX5_passesFrom_4 10 rfl rfl)
theorem dX5_passesFrom_104 : decode cX5_passesFrom 104 = .ok (.bipush 9, 2) := dk_16 9 (dk_at dksX5_passesFrom_4 11 rfl rfl)
theorem dX5_passesFrom_106 : decode cX5_passesFrom 106 = .ok (.invokestatic 42, 3) := dk_184 0 42 (dk_at dksX5_passesFrom_4 13 rfl rfl)
theorem dX5_passesFrom_109 : decode cX5_passesFrom 109 = .ok (.ifCond .eq 17, 3) := dk_153 0 17 (dk_at dksX5_passesFrom_4 16 rfl rfl)
theorem dX5_passesFrom_112 : decode cX5_passesFrom 112 = .ok (.bipush 10, 2) := dk_16 10 (dk_at dksX5_passesFrom_4 19 rfl rfl)
theorem dX5_passesFrom_114 : decode cX5_passesFrom 114 = .ok (.iload_n 2, 1) := dk_28 (dk_at dksX5_passesFrom_4 21 rfl rfl)
theorem dX5_passesFrom_115 : decode cX5_passesFrom 115 = .ok (.imul, 1) := dk_104 (dk_at dksX5_passesFrom_4 22 rfl rfl)
theorem dX5_passesFrom_116 : decode cX5_passesFrom 116 = .ok (.iload_n 3, 1) := dk_29 (dk_at dksX5_passesFrom_4 23 rfl rfl)
theorem dX5_passesFrom_117 : decode cX5_passesFrom 117 = .ok (.iadd, 1) := dk_96 (dk_at dksX5_passesFrom_5 0 rfl rfl)
theorem dX5_passesFrom_118 : decode cX5_passesFrom 118 = .ok (.iload_n 1, 1) := dk_27 (dk_at dksX5_passesFrom_5 1 rfl rfl)
theorem dX5_passesFrom_119 : decode cX5_passesFrom 119 = .ok (.if_icmp .lt 7, 3) := dk_161 0 7 (dk_at dksX5_passesFrom_5 2 rfl rfl)
theorem dX5_passesFrom_122 : decode cX5_passesFrom 122 = .ok (.iconst 1, 1) := dk_4 (dk_at dksX5_passesFrom_5 5 rfl rfl)
theorem dX5_passesFrom_123 : decode cX5_passesFrom 123 = .ok (.goto 4, 3) := dk_167 0 4 (dk_at dksX5_passesFrom_5 6 rfl rfl)
theorem dX5_passesFrom_126 : decode cX5_passesFrom 126 = .ok (.iconst 0, 1) := dk_3 (dk_at dksX5_passesFrom_5 9 rfl rfl)
theorem dX5_passesFrom_127 : decode cX5_passesFrom 127 = .ok (.istore 4, 2) := dk_54 4 (dk_at dksX5_passesFrom_5 10 rfl rfl)
theorem dX5_passesFrom_129 : decode cX5_passesFrom 129 = .ok (.aload_n 0, 1) := dk_42 (dk_at dksX5_passesFrom_5 12 rfl rfl)
theorem dX5_passesFrom_130 : decode cX5_passesFrom 130 = .ok (.dup, 1) := dk_89 (dk_at dksX5_passesFrom_5 13 rfl rfl)
theorem dX5_passesFrom_131 : decode cX5_passesFrom 131 = .ok (.getfield 121, 3) := dk_180 0 121 (dk_at dksX5_passesFrom_5 14 rfl rfl)
theorem dX5_passesFrom_134 : decode cX5_passesFrom 134 = .ok (.iload 4, 2) := dk_21 4 (dk_at dksX5_passesFrom_5 17 rfl rfl)
theorem dX5_passesFrom_136 : decode cX5_passesFrom 136 = .ok (.ifCond .eq 7, 3) := dk_153 0 7 (dk_at dksX5_passesFrom_5 19 rfl rfl)
theorem dX5_passesFrom_139 : decode cX5_passesFrom 139 = .ok (.iconst 1, 1) := dk_4 (dk_at dksX5_passesFrom_5 22 rfl rfl)
theorem dX5_passesFrom_140 : decode cX5_passesFrom 140 = .ok (.goto 4, 3) := dk_167 0 4 (dk_at dksX5_passesFrom_6 0 rfl rfl)
theorem dX5_passesFrom_143 : decode cX5_passesFrom 143 = .ok (.iconst 0, 1) := dk_3 (dk_at dksX5_passesFrom_6 3 rfl rfl)
theorem dX5_passesFrom_144 : decode cX5_passesFrom 144 = .ok (.iadd, 1) := dk_96 (dk_at dksX5_passesFrom_6 4 rfl rfl)
theorem dX5_passesFrom_145 : decode cX5_passesFrom 145 = .ok (.putfield 121, 3) := dk_181 0 121 (dk_at dksX5_passesFrom_6 5 rfl rfl)
theorem dX5_passesFrom_148 : decode cX5_passesFrom 148 = .ok (.iload 4, 2) := dk_21 4 (dk_at dksX5_passesFrom_6 8 rfl rfl)
theorem dX5_passesFrom_150 : decode cX5_passesFrom 150 = .ok (.ifCond .ne 8, 3) := dk_154 0 8 (dk_at dksX5_passesFrom_6 10 rfl rfl)
theorem dX5_passesFrom_153 : decode cX5_passesFrom 153 = .ok (.iload_n 2, 1) := dk_28 (dk_at dksX5_passesFrom_6 13 rfl rfl)
theorem dX5_passesFrom_154 : decode cX5_passesFrom 154 = .ok (.iload_n 1, 1) := dk_27 (dk_at dksX5_passesFrom_6 14 rfl rfl)
theorem dX5_passesFrom_155 : decode cX5_passesFrom 155 = .ok (.if_icmp .lt 7, 3) := dk_161 0 7 (dk_at dksX5_passesFrom_6 15 rfl rfl)
theorem dX5_passesFrom_158 : decode cX5_passesFrom 158 = .ok (.iconst 1, 1) := dk_4 (dk_at dksX5_passesFrom_6 18 rfl rfl)
theorem dX5_passesFrom_159 : decode cX5_passesFrom 159 = .ok (.goto 4, 3) := dk_167 0 4 (dk_at dksX5_passesFrom_6 19 rfl rfl)
theorem dX5_passesFrom_162 : decode cX5_passesFrom 162 = .ok (.iconst 0, 1) := dk_3 (dk_at dksX5_passesFrom_6 22 rfl rfl)
theorem dX5_passesFrom_163 : decode cX5_passesFrom 163 = .ok (.ireturn, 1) := dk_172 (dk_at dksX5_passesFrom_6 23 rfl rfl)
abbrev cX5_follow : ByteArray := prog_10_method_51_code
def yX5_follow : MethodName := ⟨RX5, "follow", "()I"⟩
def dkwX5_follow_7 : List UInt8 := [46, 79, 132, 2, 1, 167, 255, 234, 42, 3, 181, 0, 118, 42, 180, 0, 7, 17, 0, 160, 46, 172]
abbrev dktX5_follow_7 : List UInt8 := dkwX5_follow_7 ++ []
def dkwX5_follow_6 : List UInt8 := [172, 42, 182, 0, 95, 3, 61, 28, 17, 0, 179, 162, 0, 21, 42, 180, 0, 7, 28, 42, 180, 0, 13, 28]
abbrev dktX5_follow_6 : List UInt8 := dkwX5_follow_6 ++ dktX5_follow_7
def dkwX5_follow_5 : List UInt8 := [46, 79, 42, 180, 0, 13, 28, 29, 79, 132, 2, 1, 167, 255, 220, 27, 154, 0, 9, 42, 5, 182, 0, 105]
abbrev dktX5_follow_5 : List UInt8 := dkwX5_follow_5 ++ dktX5_follow_6
def dkwX5_follow_4 : List UInt8 := [28, 17, 0, 179, 162, 0, 35, 42, 180, 0, 7, 28, 46, 62, 42, 180, 0, 7, 28, 42, 180, 0, 13, 28]
abbrev dktX5_follow_4 : List UInt8 := dkwX5_follow_4 ++ dktX5_follow_5
def dkwX5_follow_3 : List UInt8 := [27, 153, 0, 21, 42, 182, 0, 152, 60, 42, 89, 180, 0, 121, 4, 96, 181, 0, 121, 167, 255, 226, 3, 61]
abbrev dktX5_follow_3 : List UInt8 := dkwX5_follow_3 ++ dktX5_follow_4
def dkwX5_follow_2 : List UInt8 := [132, 1, 1, 167, 255, 234, 42, 3, 181, 0, 121, 4, 60, 42, 180, 0, 121, 42, 180, 0, 118, 162, 0, 25]
abbrev dktX5_follow_2 : List UInt8 := dkwX5_follow_2 ++ dktX5_follow_3
def dkwX5_follow_1 : List UInt8 := [3, 172, 3, 60, 27, 17, 0, 179, 162, 0, 21, 42, 180, 0, 13, 27, 42, 180, 0, 7, 27, 46, 79]
abbrev dktX5_follow_1 : List UInt8 := dkwX5_follow_1 ++ dktX5_follow_2
def dkwX5_follow_0 : List UInt8 := [42, 42, 182, 0, 143, 2, 159, 0, 7, 4, 167, 0, 4, 3, 181, 0, 38, 42, 180, 0, 38, 153, 0, 5]
abbrev dktX5_follow_0 : List UInt8 := dkwX5_follow_0 ++ dktX5_follow_1
theorem dksX5_follow_0 : cX5_follow.data.toList.drop 0 = dktX5_follow_0 := by decide +kernel
theorem dksX5_follow_1 : cX5_follow.data.toList.drop 24 = dktX5_follow_1 := dk_seg dksX5_follow_0 24 rfl rfl
theorem dksX5_follow_2 : cX5_follow.data.toList.drop 47 = dktX5_follow_2 := dk_seg dksX5_follow_1 23 rfl rfl
theorem dksX5_follow_3 : cX5_follow.data.toList.drop 71 = dktX5_follow_3 := dk_seg dksX5_follow_2 24 rfl rfl
theorem dksX5_follow_4 : cX5_follow.data.toList.drop 95 = dktX5_follow_4 := dk_seg dksX5_follow_3 24 rfl rfl
theorem dksX5_follow_5 : cX5_follow.data.toList.drop 119 = dktX5_follow_5 := dk_seg dksX5_follow_4 24 rfl rfl
theorem dksX5_follow_6 : cX5_follow.data.toList.drop 143 = dktX5_follow_6 := dk_seg dksX5_follow_5 24 rfl rfl
theorem dksX5_follow_7 : cX5_follow.data.toList.drop 167 = dktX5_follow_7 := dk_seg dksX5_follow_6 24 rfl rfl
theorem dX5_follow_0 : decode cX5_follow 0 = .ok (.aload_n 0, 1) := dk_42 (dk_at dksX5_follow_0 0 rfl rfl)
theorem dX5_follow_1 : decode cX5_follow 1 = .ok (.aload_n 0, 1) := dk_42 (dk_at dksX5_follow_0 1 rfl rfl)
theorem dX5_follow_2 : decode cX5_follow 2 = .ok (.invokevirtual 143, 3) := dk_182 0 143 (dk_at dksX5_follow_0 2 rfl rfl)
theorem dX5_follow_5 : decode cX5_follow 5 = .ok (.iconst (-1), 1) := dk_2 (dk_at dksX5_follow_0 5 rfl rfl)
theorem dX5_follow_6 : decode cX5_follow 6 = .ok (.if_icmp .eq 7, 3) := dk_159 0 7 (dk_at dksX5_follow_0 6 rfl rfl)
theorem dX5_follow_9 : decode cX5_follow 9 = .ok (.iconst 1, 1) := dk_4 (dk_at dksX5_follow_0 9 rfl rfl)
theorem dX5_follow_10 : decode cX5_follow 10 = .ok (.goto 4, 3) := dk_167 0 4 (dk_at dksX5_follow_0 10 rfl rfl)
theorem dX5_follow_13 : decode cX5_follow 13 = .ok (.iconst 0, 1) := dk_3 (dk_at dksX5_follow_0 13 rfl rfl)
theorem dX5_follow_14 : decode cX5_follow 14 = .ok (.putfield 38, 3) := dk_181 0 38 (dk_at dksX5_follow_0 14 rfl rfl)
theorem dX5_follow_17 : decode cX5_follow 17 = .ok (.aload_n 0, 1) := dk_42 (dk_at dksX5_follow_0 17 rfl rfl)
theorem dX5_follow_18 : decode cX5_follow 18 = .ok (.getfield 38, 3) := dk_180 0 38 (dk_at dksX5_follow_0 18 rfl rfl)
theorem dX5_follow_21 : decode cX5_follow 21 = .ok (.ifCond .eq 5, 3) := dk_153 0 5 (dk_at dksX5_follow_0 21 rfl rfl)
theorem dX5_follow_24 : decode cX5_follow 24 = .ok (.iconst 0, 1) := dk_3 (dk_at dksX5_follow_1 0 rfl rfl)
theorem dX5_follow_25 : decode cX5_follow 25 = .ok (.ireturn, 1) := dk_172 (dk_at dksX5_follow_1 1 rfl rfl)
theorem dX5_follow_26 : decode cX5_follow 26 = .ok (.iconst 0, 1) := dk_3 (dk_at dksX5_follow_1 2 rfl rfl)
theorem dX5_follow_27 : decode cX5_follow 27 = .ok (.istore_n 1, 1) := dk_60 (dk_at dksX5_follow_1 3 rfl rfl)
theorem dX5_follow_28 : decode cX5_follow 28 = .ok (.iload_n 1, 1) := dk_27 (dk_at dksX5_follow_1 4 rfl rfl)
theorem dX5_follow_29 : decode cX5_follow 29 = .ok (.sipush 179, 3) := dk_17 0 179 (dk_at dksX5_follow_1 5 rfl rfl)
theorem dX5_follow_32 : decode cX5_follow 32 = .ok (.if_icmp .ge 21, 3) := dk_162 0 21 (dk_at dksX5_follow_1 8 rfl rfl)
theorem dX5_follow_35 : decode cX5_follow 35 = .ok (.aload_n 0, 1) := dk_42 (dk_at dksX5_follow_1 11 rfl rfl)
theorem dX5_follow_36 : decode cX5_follow 36 = .ok (.getfield 13, 3) := dk_180 0 13 (dk_at dksX5_follow_1 12 rfl rfl)
theorem dX5_follow_39 : decode cX5_follow 39 = .ok (.iload_n 1, 1) := dk_27 (dk_at dksX5_follow_1 15 rfl rfl)
theorem dX5_follow_40 : decode cX5_follow 40 = .ok (.aload_n 0, 1) := dk_42 (dk_at dksX5_follow_1 16 rfl rfl)
theorem dX5_follow_41 : decode cX5_follow 41 = .ok (.getfield 7, 3) := dk_180 0 7 (dk_at dksX5_follow_1 17 rfl rfl)
theorem dX5_follow_44 : decode cX5_follow 44 = .ok (.iload_n 1, 1) := dk_27 (dk_at dksX5_follow_1 20 rfl rfl)
theorem dX5_follow_45 : decode cX5_follow 45 = .ok (.iaload, 1) := dk_46 (dk_at dksX5_follow_1 21 rfl rfl)
theorem dX5_follow_46 : decode cX5_follow 46 = .ok (.iastore, 1) := dk_79 (dk_at dksX5_follow_1 22 rfl rfl)
theorem dX5_follow_47 : decode cX5_follow 47 = .ok (.iinc 1 1, 3) := dk_132 1 1 (dk_at dksX5_follow_2 0 rfl rfl)
theorem dX5_follow_50 : decode cX5_follow 50 = .ok (.goto (-22), 3) := dk_167 255 234 (dk_at dksX5_follow_2 3 rfl rfl)
theorem dX5_follow_53 : decode cX5_follow 53 = .ok (.aload_n 0, 1) := dk_42 (dk_at dksX5_follow_2 6 rfl rfl)
theorem dX5_follow_54 : decode cX5_follow 54 = .ok (.iconst 0, 1) := dk_3 (dk_at dksX5_follow_2 7 rfl rfl)
theorem dX5_follow_55 : decode cX5_follow 55 = .ok (.putfield 121, 3) := dk_181 0 121 (dk_at dksX5_follow_2 8 rfl rfl)
theorem dX5_follow_58 : decode cX5_follow 58 = .ok (.iconst 1, 1) := dk_4 (dk_at dksX5_follow_2 11 rfl rfl)
theorem dX5_follow_59 : decode cX5_follow 59 = .ok (.istore_n 1, 1) := dk_60 (dk_at dksX5_follow_2 12 rfl rfl)
theorem dX5_follow_60 : decode cX5_follow 60 = .ok (.aload_n 0, 1) := dk_42 (dk_at dksX5_follow_2 13 rfl rfl)
theorem dX5_follow_61 : decode cX5_follow 61 = .ok (.getfield 121, 3) := dk_180 0 121 (dk_at dksX5_follow_2 14 rfl rfl)
theorem dX5_follow_64 : decode cX5_follow 64 = .ok (.aload_n 0, 1) := dk_42 (dk_at dksX5_follow_2 17 rfl rfl)
theorem dX5_follow_65 : decode cX5_follow 65 = .ok (.getfield 118, 3) := dk_180 0 118 (dk_at dksX5_follow_2 18 rfl rfl)
theorem dX5_follow_68 : decode cX5_follow 68 = .ok (.if_icmp .ge 25, 3) := dk_162 0 25 (dk_at dksX5_follow_2 21 rfl rfl)
theorem dX5_follow_71 : decode cX5_follow 71 = .ok (.iload_n 1, 1) := dk_27 (dk_at dksX5_follow_3 0 rfl rfl)
theorem dX5_follow_72 : decode cX5_follow 72 = .ok (.ifCond .eq 21, 3) := dk_153 0 21 (dk_at dksX5_follow_3 1 rfl rfl)
theorem dX5_follow_75 : decode cX5_follow 75 = .ok (.aload_n 0, 1) := dk_42 (dk_at dksX5_follow_3 4 rfl rfl)
theorem dX5_follow_76 : decode cX5_follow 76 = .ok (.invokevirtual 152, 3) := dk_182 0 152 (dk_at dksX5_follow_3 5 rfl rfl)
theorem dX5_follow_79 : decode cX5_follow 79 = .ok (.istore_n 1, 1) := dk_60 (dk_at dksX5_follow_3 8 rfl rfl)
theorem dX5_follow_80 : decode cX5_follow 80 = .ok (.aload_n 0, 1) := dk_42 (dk_at dksX5_follow_3 9 rfl rfl)
theorem dX5_follow_81 : decode cX5_follow 81 = .ok (.dup, 1) := dk_89 (dk_at dksX5_follow_3 10 rfl rfl)
theorem dX5_follow_82 : decode cX5_follow 82 = .ok (.getfield 121, 3) := dk_180 0 121 (dk_at dksX5_follow_3 11 rfl rfl)
theorem dX5_follow_85 : decode cX5_follow 85 = .ok (.iconst 1, 1) := dk_4 (dk_at dksX5_follow_3 14 rfl rfl)
theorem dX5_follow_86 : decode cX5_follow 86 = .ok (.iadd, 1) := dk_96 (dk_at dksX5_follow_3 15 rfl rfl)
theorem dX5_follow_87 : decode cX5_follow 87 = .ok (.putfield 121, 3) := dk_181 0 121 (dk_at dksX5_follow_3 16 rfl rfl)
theorem dX5_follow_90 : decode cX5_follow 90 = .ok (.goto (-30), 3) := dk_167 255 226 (dk_at dksX5_follow_3 19 rfl rfl)
theorem dX5_follow_93 : decode cX5_follow 93 = .ok (.iconst 0, 1) := dk_3 (dk_at dksX5_follow_3 22 rfl rfl)
theorem dX5_follow_94 : decode cX5_follow 94 = .ok (.istore_n 2, 1) := dk_61 (dk_at dksX5_follow_3 23 rfl rfl)
theorem dX5_follow_95 : decode cX5_follow 95 = .ok (.iload_n 2, 1) := dk_28 (dk_at dksX5_follow_4 0 rfl rfl)
theorem dX5_follow_96 : decode cX5_follow 96 = .ok (.sipush 179, 3) := dk_17 0 179 (dk_at dksX5_follow_4 1 rfl rfl)
theorem dX5_follow_99 : decode cX5_follow 99 = .ok (.if_icmp .ge 35, 3) := dk_162 0 35 (dk_at dksX5_follow_4 4 rfl rfl)
theorem dX5_follow_102 : decode cX5_follow 102 = .ok (.aload_n 0, 1) := dk_42 (dk_at dksX5_follow_4 7 rfl rfl)
theorem dX5_follow_103 : decode cX5_follow 103 = .ok (.getfield 7, 3) := dk_180 0 7 (dk_at dksX5_follow_4 8 rfl rfl)
theorem dX5_follow_106 : decode cX5_follow 106 = .ok (.iload_n 2, 1) := dk_28 (dk_at dksX5_follow_4 11 rfl rfl)
theorem dX5_follow_107 : decode cX5_follow 107 = .ok (.iaload, 1) := dk_46 (dk_at dksX5_follow_4 12 rfl rfl)
theorem dX5_follow_108 : decode cX5_follow 108 = .ok (.istore_n 3, 1) := dk_62 (dk_at dksX5_follow_4 13 rfl rfl)
theorem dX5_follow_109 : decode cX5_follow 109 = .ok (.aload_n 0, 1) := dk_42 (dk_at dksX5_follow_4 14 rfl rfl)
theorem dX5_follow_110 : decode cX5_follow 110 = .ok (.getfield 7, 3) := dk_180 0 7 (dk_at dksX5_follow_4 15 rfl rfl)
theorem dX5_follow_113 : decode cX5_follow 113 = .ok (.iload_n 2, 1) := dk_28 (dk_at dksX5_follow_4 18 rfl rfl)
theorem dX5_follow_114 : decode cX5_follow 114 = .ok (.aload_n 0, 1) := dk_42 (dk_at dksX5_follow_4 19 rfl rfl)
theorem dX5_follow_115 : decode cX5_follow 115 = .ok (.getfield 13, 3) := dk_180 0 13 (dk_at dksX5_follow_4 20 rfl rfl)
theorem dX5_follow_118 : decode cX5_follow 118 = .ok (.iload_n 2, 1) := dk_28 (dk_at dksX5_follow_4 23 rfl rfl)
theorem dX5_follow_119 : decode cX5_follow 119 = .ok (.iaload, 1) := dk_46 (dk_at dksX5_follow_5 0 rfl rfl)
theorem dX5_follow_120 : decode cX5_follow 120 = .ok (.iastore, 1) := dk_79 (dk_at dksX5_follow_5 1 rfl rfl)
theorem dX5_follow_121 : decode cX5_follow 121 = .ok (.aload_n 0, 1) := dk_42 (dk_at dksX5_follow_5 2 rfl rfl)
theorem dX5_follow_122 : decode cX5_follow 122 = .ok (.getfield 13, 3) := dk_180 0 13 (dk_at dksX5_follow_5 3 rfl rfl)
theorem dX5_follow_125 : decode cX5_follow 125 = .ok (.iload_n 2, 1) := dk_28 (dk_at dksX5_follow_5 6 rfl rfl)
theorem dX5_follow_126 : decode cX5_follow 126 = .ok (.iload_n 3, 1) := dk_29 (dk_at dksX5_follow_5 7 rfl rfl)
theorem dX5_follow_127 : decode cX5_follow 127 = .ok (.iastore, 1) := dk_79 (dk_at dksX5_follow_5 8 rfl rfl)
theorem dX5_follow_128 : decode cX5_follow 128 = .ok (.iinc 2 1, 3) := dk_132 2 1 (dk_at dksX5_follow_5 9 rfl rfl)
theorem dX5_follow_131 : decode cX5_follow 131 = .ok (.goto (-36), 3) := dk_167 255 220 (dk_at dksX5_follow_5 12 rfl rfl)
theorem dX5_follow_134 : decode cX5_follow 134 = .ok (.iload_n 1, 1) := dk_27 (dk_at dksX5_follow_5 15 rfl rfl)
theorem dX5_follow_135 : decode cX5_follow 135 = .ok (.ifCond .ne 9, 3) := dk_154 0 9 (dk_at dksX5_follow_5 16 rfl rfl)
theorem dX5_follow_138 : decode cX5_follow 138 = .ok (.aload_n 0, 1) := dk_42 (dk_at dksX5_follow_5 19 rfl rfl)
theorem dX5_follow_139 : decode cX5_follow 139 = .ok (.iconst 2, 1) := dk_5 (dk_at dksX5_follow_5 20 rfl rfl)
theorem dX5_follow_140 : decode cX5_follow 140 = .ok (.invokevirtual 105, 3) := dk_182 0 105 (dk_at dksX5_follow_5 21 rfl rfl)
theorem dX5_follow_143 : decode cX5_follow 143 = .ok (.ireturn, 1) := dk_172 (dk_at dksX5_follow_6 0 rfl rfl)
theorem dX5_follow_144 : decode cX5_follow 144 = .ok (.aload_n 0, 1) := dk_42 (dk_at dksX5_follow_6 1 rfl rfl)
theorem dX5_follow_145 : decode cX5_follow 145 = .ok (.invokevirtual 95, 3) := dk_182 0 95 (dk_at dksX5_follow_6 2 rfl rfl)
theorem dX5_follow_148 : decode cX5_follow 148 = .ok (.iconst 0, 1) := dk_3 (dk_at dksX5_follow_6 5 rfl rfl)
theorem dX5_follow_149 : decode cX5_follow 149 = .ok (.istore_n 2, 1) := dk_61 (dk_at dksX5_follow_6 6 rfl rfl)
theorem dX5_follow_150 : decode cX5_follow 150 = .ok (.iload_n 2, 1) := dk_28 (dk_at dksX5_follow_6 7 rfl rfl)
theorem dX5_follow_151 : decode cX5_follow 151 = .ok (.sipush 179, 3) := dk_17 0 179 (dk_at dksX5_follow_6 8 rfl rfl)
theorem dX5_follow_154 : decode cX5_follow 154 = .ok (.if_icmp .ge 21, 3) := dk_162 0 21 (dk_at dksX5_follow_6 11 rfl rfl)
theorem dX5_follow_157 : decode cX5_follow 157 = .ok (.aload_n 0, 1) := dk_42 (dk_at dksX5_follow_6 14 rfl rfl)
theorem dX5_follow_158 : decode cX5_follow 158 = .ok (.getfield 7, 3) := dk_180 0 7 (dk_at dksX5_follow_6 15 rfl rfl)
theorem dX5_follow_161 : decode cX5_follow 161 = .ok (.iload_n 2, 1) := dk_28 (dk_at dksX5_follow_6 18 rfl rfl)
theorem dX5_follow_162 : decode cX5_follow 162 = .ok (.aload_n 0, 1) := dk_42 (dk_at dksX5_follow_6 19 rfl rfl)
theorem dX5_follow_163 : decode cX5_follow 163 = .ok (.getfield 13, 3) := dk_180 0 13 (dk_at dksX5_follow_6 20 rfl rfl)
theorem dX5_follow_166 : decode cX5_follow 166 = .ok (.iload_n 2, 1) := dk_28 (dk_at dksX5_follow_6 23 rfl rfl)
theorem dX5_follow_167 : decode cX5_follow 167 = .ok (.iaload, 1) := dk_46 (dk_at dksX5_follow_7 0 rfl rfl)
theorem dX5_follow_168 : decode cX5_follow 168 = .ok (.iastore, 1) := dk_79 (dk_at dksX5_follow_7 1 rfl rfl)
theorem dX5_follow_169 : decode cX5_follow 169 = .ok (.iinc 2 1, 3) := dk_132 2 1 (dk_at dksX5_follow_7 2 rfl rfl)
theorem dX5_follow_172 : decode cX5_follow 172 = .ok (.goto (-22), 3) := dk_167 255 234 (dk_at dksX5_follow_7 5 rfl rfl)
theorem dX5_follow_175 : decode cX5_follow 175 = .ok (.aload_n 0, 1) := dk_42 (dk_at dksX5_follow_7 8 rfl rfl)
theorem dX5_follow_176 : decode cX5_follow 176 = .ok (.iconst 0, 1) := dk_3 (dk_at dksX5_follow_7 9 rfl rfl)
theorem dX5_follow_177 : decode cX5_follow 177 = .ok (.putfield 118, 3) := dk_181 0 118 (dk_at dksX5_follow_7 10 rfl rfl)
theorem dX5_follow_180 : decode cX5_follow 180 = .ok (.aload_n 0, 1) := dk_42 (dk_at dksX5_follow_7 13 rfl rfl)
theorem dX5_follow_181 : decode cX5_follow 181 = .ok (.getfield 7, 3) := dk_180 0 7 (dk_at dksX5_follow_7 14 rfl rfl)
theorem dX5_follow_184 : decode cX5_follow 184 = .ok (.sipush 160, 3) := dk_17 0 160 (dk_at dksX5_follow_7 17 rfl rfl)
theorem dX5_follow_187 : decode cX5_follow 187 = .ok (.iaload, 1) := dk_46 (dk_at dksX5_follow_7 20 rfl rfl)
theorem dX5_follow_188 : decode cX5_follow 188 = .ok (.ireturn, 1) := dk_172 (dk_at dksX5_follow_7 21 rfl rfl)
abbrev cX5_follows : ByteArray := prog_10_method_50_code
def yX5_follows : MethodName := ⟨RX5, "follows", "()Z"⟩
def dkwX5_follows_10 : List UInt8 := [182, 0, 149, 79, 4, 172]
abbrev dktX5_follows_10 : List UInt8 := dkwX5_follows_10 ++ []
def dkwX5_follows_9 : List UInt8 := [180, 0, 7, 17, 0, 165, 28, 96, 42, 182, 0, 149, 79, 42, 180, 0, 7, 17, 0, 169, 28, 96, 42]
abbrev dktX5_follows_9 : List UInt8 := dkwX5_follows_9 ++ dktX5_follows_10
def dkwX5_follows_8 : List UInt8 := [160, 0, 7, 4, 167, 0, 4, 5, 79, 42, 89, 180, 0, 121, 4, 96, 181, 0, 121, 167, 0, 31, 42]
abbrev dktX5_follows_8 : List UInt8 := dkwX5_follows_8 ++ dktX5_follows_9
def dkwX5_follows_7 : List UInt8 := [180, 0, 121, 46, 16, 45, 160, 0, 7, 3, 167, 0, 22, 42, 180, 0, 22, 42, 180, 0, 121, 46, 16, 43]
abbrev dktX5_follows_7 : List UInt8 := dkwX5_follows_7 ++ dktX5_follows_8
def dkwX5_follows_6 : List UInt8 := [181, 0, 121, 27, 16, 119, 160, 0, 63, 42, 180, 0, 7, 17, 0, 161, 28, 96, 42, 180, 0, 22, 42]
abbrev dktX5_follows_6 : List UInt8 := dkwX5_follows_6 ++ dktX5_follows_7
def dkwX5_follows_5 : List UInt8 := [42, 180, 0, 22, 42, 180, 0, 121, 4, 96, 46, 16, 48, 100, 61, 42, 89, 180, 0, 121, 5, 96]
abbrev dktX5_follows_5 : List UInt8 := dkwX5_follows_5 ++ dktX5_follows_6
def dkwX5_follows_4 : List UInt8 := [28, 182, 0, 102, 154, 0, 7, 4, 167, 0, 4, 3, 62, 29, 153, 0, 8, 42, 28, 182, 0, 108, 29, 172]
abbrev dktX5_follows_4 : List UInt8 := dkwX5_follows_4 ++ dktX5_follows_5
def dkwX5_follows_3 : List UInt8 := [182, 0, 98, 155, 0, 7, 4, 167, 0, 4, 3, 172, 27, 16, 114, 160, 0, 33, 42, 182, 0, 149, 61, 42]
abbrev dktX5_follows_3 : List UInt8 := dkwX5_follows_3 ++ dktX5_follows_4
def dkwX5_follows_2 : List UInt8 := [182, 0, 149, 54, 5, 42, 182, 0, 149, 54, 6, 28, 153, 0, 21, 42, 29, 21, 4, 21, 5, 21, 6]
abbrev dktX5_follows_2 : List UInt8 := dkwX5_follows_2 ++ dktX5_follows_3
def dkwX5_follows_1 : List UInt8 := [16, 40, 162, 0, 7, 4, 167, 0, 4, 3, 61, 42, 182, 0, 149, 62, 42, 182, 0, 149, 54, 4, 42]
abbrev dktX5_follows_1 : List UInt8 := dkwX5_follows_1 ++ dktX5_follows_2
def dkwX5_follows_0 : List UInt8 := [42, 180, 0, 22, 42, 180, 0, 121, 46, 60, 27, 16, 97, 160, 0, 69, 42, 180, 0, 7, 17, 0, 160, 46]
abbrev dktX5_follows_0 : List UInt8 := dkwX5_follows_0 ++ dktX5_follows_1
theorem dksX5_follows_0 : cX5_follows.data.toList.drop 0 = dktX5_follows_0 := by decide +kernel
theorem dksX5_follows_1 : cX5_follows.data.toList.drop 24 = dktX5_follows_1 := dk_seg dksX5_follows_0 24 rfl rfl
theorem dksX5_follows_2 : cX5_follows.data.toList.drop 47 = dktX5_follows_2 := dk_seg dksX5_follows_1 23 rfl rfl
theorem dksX5_follows_3 : cX5_follows.data.toList.drop 70 = dktX5_follows_3 := dk_seg dksX5_follows_2 23 rfl rfl
theorem dksX5_follows_4 : cX5_follows.data.toList.drop 94 = dktX5_follows_4 := dk_seg dksX5_follows_3 24 rfl rfl
theorem dksX5_follows_5 : cX5_follows.data.toList.drop 118 = dktX5_follows_5 := dk_seg dksX5_follows_4 24 rfl rfl
theorem dksX5_follows_6 : cX5_follows.data.toList.drop 140 = dktX5_follows_6 := dk_seg dksX5_follows_5 22 rfl rfl
theorem dksX5_follows_7 : cX5_follows.data.toList.drop 163 = dktX5_follows_7 := dk_seg dksX5_follows_6 23 rfl rfl
theorem dksX5_follows_8 : cX5_follows.data.toList.drop 187 = dktX5_follows_8 := dk_seg dksX5_follows_7 24 rfl rfl
theorem dksX5_follows_9 : cX5_follows.data.toList.drop 210 = dktX5_follows_9 := dk_seg dksX5_follows_8 23 rfl rfl
theorem dksX5_follows_10 : cX5_follows.data.toList.drop 233 = dktX5_follows_10 := dk_seg dksX5_follows_9 23 rfl rfl
theorem dX5_follows_0 : decode cX5_follows 0 = .ok (.aload_n 0, 1) := dk_42 (dk_at dksX5_follows_0 0 rfl rfl)
theorem dX5_follows_1 : decode cX5_follows 1 = .ok (.getfield 22, 3) := dk_180 0 22 (dk_at dksX5_follows_0 1 rfl rfl)
theorem dX5_follows_4 : decode cX5_follows 4 = .ok (.aload_n 0, 1) := dk_42 (dk_at dksX5_follows_0 4 rfl rfl)
theorem dX5_follows_5 : decode cX5_follows 5 = .ok (.getfield 121, 3) := dk_180 0 121 (dk_at dksX5_follows_0 5 rfl rfl)
theorem dX5_follows_8 : decode cX5_follows 8 = .ok (.iaload, 1) := dk_46 (dk_at dksX5_follows_0 8 rfl rfl)
theorem dX5_follows_9 : decode cX5_follows 9 = .ok (.istore_n 1, 1) := dk_60 (dk_at dksX5_follows_0 9 rfl rfl)
theorem dX5_follows_10 : decode cX5_follows 10 = .ok (.iload_n 1, 1) := dk_27 (dk_at dksX5_follows_0 10 rfl rfl)
theorem dX5_follows_11 : decode cX5_follows 11 = .ok (.bipush 97, 2) := dk_16 97 (dk_at dksX5_follows_0 11 rfl rfl)
theorem dX5_follows_13 : decode cX5_follows 13 = .ok (.if_icmp .ne 69, 3) := dk_160 0 69 (dk_at dksX5_follows_0 13 rfl rfl)
theorem dX5_follows_16 : decode cX5_follows 16 = .ok (.aload_n 0, 1) := dk_42 (dk_at dksX5_follows_0 16 rfl rfl)
theorem dX5_follows_17 : decode cX5_follows 17 = .ok (.getfield 7, 3) := dk_180 0 7 (dk_at dksX5_follows_0 17 rfl rfl)
theorem dX5_follows_20 : decode cX5_follows 20 = .ok (.sipush 160, 3) := dk_17 0 160 (dk_at dksX5_follows_0 20 rfl rfl)
theorem dX5_follows_23 : decode cX5_follows 23 = .ok (.iaload, 1) := dk_46 (dk_at dksX5_follows_0 23 rfl rfl)
theorem dX5_follows_24 : decode cX5_follows 24 = .ok (.bipush 40, 2) := dk_16 40 (dk_at dksX5_follows_1 0 rfl rfl)
theorem dX5_follows_26 : decode cX5_follows 26 = .ok (.if_icmp .ge 7, 3) := dk_162 0 7 (dk_at dksX5_follows_1 2 rfl rfl)
theorem dX5_follows_29 : decode cX5_follows 29 = .ok (.iconst 1, 1) := dk_4 (dk_at dksX5_follows_1 5 rfl rfl)
theorem dX5_follows_30 : decode cX5_follows 30 = .ok (.goto 4, 3) := dk_167 0 4 (dk_at dksX5_follows_1 6 rfl rfl)
theorem dX5_follows_33 : decode cX5_follows 33 = .ok (.iconst 0, 1) := dk_3 (dk_at dksX5_follows_1 9 rfl rfl)
theorem dX5_follows_34 : decode cX5_follows 34 = .ok (.istore_n 2, 1) := dk_61 (dk_at dksX5_follows_1 10 rfl rfl)
theorem dX5_follows_35 : decode cX5_follows 35 = .ok (.aload_n 0, 1) := dk_42 (dk_at dksX5_follows_1 11 rfl rfl)
theorem dX5_follows_36 : decode cX5_follows 36 = .ok (.invokevirtual 149, 3) := dk_182 0 149 (dk_at dksX5_follows_1 12 rfl rfl)
theorem dX5_follows_39 : decode cX5_follows 39 = .ok (.istore_n 3, 1) := dk_62 (dk_at dksX5_follows_1 15 rfl rfl)
theorem dX5_follows_40 : decode cX5_follows 40 = .ok (.aload_n 0, 1) := dk_42 (dk_at dksX5_follows_1 16 rfl rfl)
theorem dX5_follows_41 : decode cX5_follows 41 = .ok (.invokevirtual 149, 3) := dk_182 0 149 (dk_at dksX5_follows_1 17 rfl rfl)
theorem dX5_follows_44 : decode cX5_follows 44 = .ok (.istore 4, 2) := dk_54 4 (dk_at dksX5_follows_1 20 rfl rfl)
theorem dX5_follows_46 : decode cX5_follows 46 = .ok (.aload_n 0, 1) := dk_42 (dk_at dksX5_follows_1 22 rfl rfl)
theorem dX5_follows_47 : decode cX5_follows 47 = .ok (.invokevirtual 149, 3) := dk_182 0 149 (dk_at dksX5_follows_2 0 rfl rfl)
theorem dX5_follows_50 : decode cX5_follows 50 = .ok (.istore 5, 2) := dk_54 5 (dk_at dksX5_follows_2 3 rfl rfl)
theorem dX5_follows_52 : decode cX5_follows 52 = .ok (.aload_n 0, 1) := dk_42 (dk_at dksX5_follows_2 5 rfl rfl)
theorem dX5_follows_53 : decode cX5_follows 53 = .ok (.invokevirtual 149, 3) := dk_182 0 149 (dk_at dksX5_follows_2 6 rfl rfl)
theorem dX5_follows_56 : decode cX5_follows 56 = .ok (.istore 6, 2) := dk_54 6 (dk_at dksX5_follows_2 9 rfl rfl)
theorem dX5_follows_58 : decode cX5_follows 58 = .ok (.iload_n 2, 1) := dk_28 (dk_at dksX5_follows_2 11 rfl rfl)
theorem dX5_follows_59 : decode cX5_follows 59 = .ok (.ifCond .eq 21, 3) := dk_153 0 21 (dk_at dksX5_follows_2 12 rfl rfl)
theorem dX5_follows_62 : decode cX5_follows 62 = .ok (.aload_n 0, 1) := dk_42 (dk_at dksX5_follows_2 15 rfl rfl)
theorem dX5_follows_63 : decode cX5_follows 63 = .ok (.iload_n 3, 1) := dk_29 (dk_at dksX5_follows_2 16 rfl rfl)
theorem dX5_follows_64 : decode cX5_follows 64 = .ok (.iload 4, 2) := dk_21 4 (dk_at dksX5_follows_2 17 rfl rfl)
theorem dX5_follows_66 : decode cX5_follows 66 = .ok (.iload 5, 2) := dk_21 5 (dk_at dksX5_follows_2 19 rfl rfl)
theorem dX5_follows_68 : decode cX5_follows 68 = .ok (.iload 6, 2) := dk_21 6 (dk_at dksX5_follows_2 21 rfl rfl)
theorem dX5_follows_70 : decode cX5_follows 70 = .ok (.invokevirtual 98, 3) := dk_182 0 98 (dk_at dksX5_follows_3 0 rfl rfl)
theorem dX5_follows_73 : decode cX5_follows 73 = .ok (.ifCond .lt 7, 3) := dk_155 0 7 (dk_at dksX5_follows_3 3 rfl rfl)
theorem dX5_follows_76 : decode cX5_follows 76 = .ok (.iconst 1, 1) := dk_4 (dk_at dksX5_follows_3 6 rfl rfl)
theorem dX5_follows_77 : decode cX5_follows 77 = .ok (.goto 4, 3) := dk_167 0 4 (dk_at dksX5_follows_3 7 rfl rfl)
theorem dX5_follows_80 : decode cX5_follows 80 = .ok (.iconst 0, 1) := dk_3 (dk_at dksX5_follows_3 10 rfl rfl)
theorem dX5_follows_81 : decode cX5_follows 81 = .ok (.ireturn, 1) := dk_172 (dk_at dksX5_follows_3 11 rfl rfl)
theorem dX5_follows_82 : decode cX5_follows 82 = .ok (.iload_n 1, 1) := dk_27 (dk_at dksX5_follows_3 12 rfl rfl)
theorem dX5_follows_83 : decode cX5_follows 83 = .ok (.bipush 114, 2) := dk_16 114 (dk_at dksX5_follows_3 13 rfl rfl)
theorem dX5_follows_85 : decode cX5_follows 85 = .ok (.if_icmp .ne 33, 3) := dk_160 0 33 (dk_at dksX5_follows_3 15 rfl rfl)
theorem dX5_follows_88 : decode cX5_follows 88 = .ok (.aload_n 0, 1) := dk_42 (dk_at dksX5_follows_3 18 rfl rfl)
theorem dX5_follows_89 : decode cX5_follows 89 = .ok (.invokevirtual 149, 3) := dk_182 0 149 (dk_at dksX5_follows_3 19 rfl rfl)
theorem dX5_follows_92 : decode cX5_follows 92 = .ok (.istore_n 2, 1) := dk_61 (dk_at dksX5_follows_3 22 rfl rfl)
theorem dX5_follows_93 : decode cX5_follows 93 = .ok (.aload_n 0, 1) := dk_42 (dk_at dksX5_follows_3 23 rfl rfl)
theorem dX5_follows_94 : decode cX5_follows 94 = .ok (.iload_n 2, 1) := dk_28 (dk_at dksX5_follows_4 0 rfl rfl)
theorem dX5_follows_95 : decode cX5_follows 95 = .ok (.invokevirtual 102, 3) := dk_182 0 102 (dk_at dksX5_follows_4 1 rfl rfl)
theorem dX5_follows_98 : decode cX5_follows 98 = .ok (.ifCond .ne 7, 3) := dk_154 0 7 (dk_at dksX5_follows_4 4 rfl rfl)
theorem dX5_follows_101 : decode cX5_follows 101 = .ok (.iconst 1, 1) := dk_4 (dk_at dksX5_follows_4 7 rfl rfl)
theorem dX5_follows_102 : decode cX5_follows 102 = .ok (.goto 4, 3) := dk_167 0 4 (dk_at dksX5_follows_4 8 rfl rfl)
theorem dX5_follows_105 : decode cX5_follows 105 = .ok (.iconst 0, 1) := dk_3 (dk_at dksX5_follows_4 11 rfl rfl)
theorem dX5_follows_106 : decode cX5_follows 106 = .ok (.istore_n 3, 1) := dk_62 (dk_at dksX5_follows_4 12 rfl rfl)
theorem dX5_follows_107 : decode cX5_follows 107 = .ok (.iload_n 3, 1) := dk_29 (dk_at dksX5_follows_4 13 rfl rfl)
theorem dX5_follows_108 : decode cX5_follows 108 = .ok (.ifCond .eq 8, 3) := dk_153 0 8 (dk_at dksX5_follows_4 14 rfl rfl)
theorem dX5_follows_111 : decode cX5_follows 111 = .ok (.aload_n 0, 1) := dk_42 (dk_at dksX5_follows_4 17 rfl rfl)
theorem dX5_follows_112 : decode cX5_follows 112 = .ok (.iload_n 2, 1) := dk_28 (dk_at dksX5_follows_4 18 rfl rfl)
theorem dX5_follows_113 : decode cX5_follows 113 = .ok (.invokevirtual 108, 3) := dk_182 0 108 (dk_at dksX5_follows_4 19 rfl rfl)
theorem dX5_follows_116 : decode cX5_follows 116 = .ok (.iload_n 3, 1) := dk_29 (dk_at dksX5_follows_4 22 rfl rfl)
theorem dX5_follows_117 : decode cX5_follows 117 = .ok (.ireturn, 1) := dk_172 (dk_at dksX5_follows_4 23 rfl rfl)
theorem dX5_follows_118 : decode cX5_follows 118 = .ok (.aload_n 0, 1) := dk_42 (dk_at dksX5_follows_5 0 rfl rfl)
theorem dX5_follows_119 : decode cX5_follows 119 = .ok (.getfield 22, 3) := dk_180 0 22 (dk_at dksX5_follows_5 1 rfl rfl)
theorem dX5_follows_122 : decode cX5_follows 122 = .ok (.aload_n 0, 1) := dk_42 (dk_at dksX5_follows_5 4 rfl rfl)
theorem dX5_follows_123 : decode cX5_follows 123 = .ok (.getfield 121, 3) := dk_180 0 121 (dk_at dksX5_follows_5 5 rfl rfl)
theorem dX5_follows_126 : decode cX5_follows 126 = .ok (.iconst 1, 1) := dk_4 (dk_at dksX5_follows_5 8 rfl rfl)
theorem dX5_follows_127 : decode cX5_follows 127 = .ok (.iadd, 1) := dk_96 (dk_at dksX5_follows_5 9 rfl rfl)
theorem dX5_follows_128 : decode cX5_follows 128 = .ok (.iaload, 1) := dk_46 (dk_at dksX5_follows_5 10 rfl rfl)
theorem dX5_follows_129 : decode cX5_follows 129 = .ok (.bipush 48, 2) := dk_16 48 (dk_at dksX5_follows_5 11 rfl rfl)
theorem dX5_follows_131 : decode cX5_follows 131 = .ok (.isub, 1) := dk_100 (dk_at dksX5_follows_5 13 rfl rfl)
theorem dX5_follows_132 : decode cX5_follows 132 = .ok (.istore_n 2, 1) := dk_61 (dk_at dksX5_follows_5 14 rfl rfl)
theorem dX5_follows_133 : decode cX5_follows 133 = .ok (.aload_n 0, 1) := dk_42 (dk_at dksX5_follows_5 15 rfl rfl)
theorem dX5_follows_134 : decode cX5_follows 134 = .ok (.dup, 1) := dk_89 (dk_at dksX5_follows_5 16 rfl rfl)
theorem dX5_follows_135 : decode cX5_follows 135 = .ok (.getfield 121, 3) := dk_180 0 121 (dk_at dksX5_follows_5 17 rfl rfl)
theorem dX5_follows_138 : decode cX5_follows 138 = .ok (.iconst 2, 1) := dk_5 (dk_at dksX5_follows_5 20 rfl rfl)
theorem dX5_follows_139 : decode cX5_follows 139 = .ok (.iadd, 1) := dk_96 (dk_at dksX5_follows_5 21 rfl rfl)
theorem dX5_follows_140 : decode cX5_follows 140 = .ok (.putfield 121, 3) := dk_181 0 121 (dk_at dksX5_follows_6 0 rfl rfl)
theorem dX5_follows_143 : decode cX5_follows 143 = .ok (.iload_n 1, 1) := dk_27 (dk_at dksX5_follows_6 3 rfl rfl)
theorem dX5_follows_144 : decode cX5_follows 144 = .ok (.bipush 119, 2) := dk_16 119 (dk_at dksX5_follows_6 4 rfl rfl)
theorem dX5_follows_146 : decode cX5_follows 146 = .ok (.if_icmp .ne 63, 3) := dk_160 0 63 (dk_at dksX5_follows_6 6 rfl rfl)
theorem dX5_follows_149 : decode cX5_follows 149 = .ok (.aload_n 0, 1) := dk_42 (dk_at dksX5_follows_6 9 rfl rfl)
theorem dX5_follows_150 : decode cX5_follows 150 = .ok (.getfield 7, 3) := dk_180 0 7 (dk_at dksX5_follows_6 10 rfl rfl)
theorem dX5_follows_153 : decode cX5_follows 153 = .ok (.sipush 161, 3) := dk_17 0 161 (dk_at dksX5_follows_6 13 rfl rfl)
theorem dX5_follows_156 : decode cX5_follows 156 = .ok (.iload_n 2, 1) := dk_28 (dk_at dksX5_follows_6 16 rfl rfl)
theorem dX5_follows_157 : decode cX5_follows 157 = .ok (.iadd, 1) := dk_96 (dk_at dksX5_follows_6 17 rfl rfl)
theorem dX5_follows_158 : decode cX5_follows 158 = .ok (.aload_n 0, 1) := dk_42 (dk_at dksX5_follows_6 18 rfl rfl)
theorem dX5_follows_159 : decode cX5_follows 159 = .ok (.getfield 22, 3) := dk_180 0 22 (dk_at dksX5_follows_6 19 rfl rfl)
theorem dX5_follows_162 : decode cX5_follows 162 = .ok (.aload_n 0, 1) := dk_42 (dk_at dksX5_follows_6 22 rfl rfl)
theorem dX5_follows_163 : decode cX5_follows 163 = .ok (.getfield 121, 3) := dk_180 0 121 (dk_at dksX5_follows_7 0 rfl rfl)
theorem dX5_follows_166 : decode cX5_follows 166 = .ok (.iaload, 1) := dk_46 (dk_at dksX5_follows_7 3 rfl rfl)
theorem dX5_follows_167 : decode cX5_follows 167 = .ok (.bipush 45, 2) := dk_16 45 (dk_at dksX5_follows_7 4 rfl rfl)
theorem dX5_follows_169 : decode cX5_follows 169 = .ok (.if_icmp .ne 7, 3) := dk_160 0 7 (dk_at dksX5_follows_7 6 rfl rfl)
theorem dX5_follows_172 : decode cX5_follows 172 = .ok (.iconst 0, 1) := dk_3 (dk_at dksX5_follows_7 9 rfl rfl)
theorem dX5_follows_173 : decode cX5_follows 173 = .ok (.goto 22, 3) := dk_167 0 22 (dk_at dksX5_follows_7 10 rfl rfl)
theorem dX5_follows_176 : decode cX5_follows 176 = .ok (.aload_n 0, 1) := dk_42 (dk_at dksX5_follows_7 13 rfl rfl)
theorem dX5_follows_177 : decode cX5_follows 177 = .ok (.getfield 22, 3) := dk_180 0 22 (dk_at dksX5_follows_7 14 rfl rfl)
theorem dX5_follows_180 : decode cX5_follows 180 = .ok (.aload_n 0, 1) := dk_42 (dk_at dksX5_follows_7 17 rfl rfl)
theorem dX5_follows_181 : decode cX5_follows 181 = .ok (.getfield 121, 3) := dk_180 0 121 (dk_at dksX5_follows_7 18 rfl rfl)
theorem dX5_follows_184 : decode cX5_follows 184 = .ok (.iaload, 1) := dk_46 (dk_at dksX5_follows_7 21 rfl rfl)
theorem dX5_follows_185 : decode cX5_follows 185 = .ok (.bipush 43, 2) := dk_16 43 (dk_at dksX5_follows_7 22 rfl rfl)
theorem dX5_follows_187 : decode cX5_follows 187 = .ok (.if_icmp .ne 7, 3) := dk_160 0 7 (dk_at dksX5_follows_8 0 rfl rfl)
theorem dX5_follows_190 : decode cX5_follows 190 = .ok (.iconst 1, 1) := dk_4 (dk_at dksX5_follows_8 3 rfl rfl)
theorem dX5_follows_191 : decode cX5_follows 191 = .ok (.goto 4, 3) := dk_167 0 4 (dk_at dksX5_follows_8 4 rfl rfl)
theorem dX5_follows_194 : decode cX5_follows 194 = .ok (.iconst 2, 1) := dk_5 (dk_at dksX5_follows_8 7 rfl rfl)
theorem dX5_follows_195 : decode cX5_follows 195 = .ok (.iastore, 1) := dk_79 (dk_at dksX5_follows_8 8 rfl rfl)
theorem dX5_follows_196 : decode cX5_follows 196 = .ok (.aload_n 0, 1) := dk_42 (dk_at dksX5_follows_8 9 rfl rfl)
theorem dX5_follows_197 : decode cX5_follows 197 = .ok (.dup, 1) := dk_89 (dk_at dksX5_follows_8 10 rfl rfl)
theorem dX5_follows_198 : decode cX5_follows 198 = .ok (.getfield 121, 3) := dk_180 0 121 (dk_at dksX5_follows_8 11 rfl rfl)
theorem dX5_follows_201 : decode cX5_follows 201 = .ok (.iconst 1, 1) := dk_4 (dk_at dksX5_follows_8 14 rfl rfl)
theorem dX5_follows_202 : decode cX5_follows 202 = .ok (.iadd, 1) := dk_96 (dk_at dksX5_follows_8 15 rfl rfl)
theorem dX5_follows_203 : decode cX5_follows 203 = .ok (.putfield 121, 3) := dk_181 0 121 (dk_at dksX5_follows_8 16 rfl rfl)
theorem dX5_follows_206 : decode cX5_follows 206 = .ok (.goto 31, 3) := dk_167 0 31 (dk_at dksX5_follows_8 19 rfl rfl)
theorem dX5_follows_209 : decode cX5_follows 209 = .ok (.aload_n 0, 1) := dk_42 (dk_at dksX5_follows_8 22 rfl rfl)
theorem dX5_follows_210 : decode cX5_follows 210 = .ok (.getfield 7, 3) := dk_180 0 7 (dk_at dksX5_follows_9 0 rfl rfl)
theorem dX5_follows_213 : decode cX5_follows 213 = .ok (.sipush 165, 3) := dk_17 0 165 (dk_at dksX5_follows_9 3 rfl rfl)
theorem dX5_follows_216 : decode cX5_follows 216 = .ok (.iload_n 2, 1) := dk_28 (dk_at dksX5_follows_9 6 rfl rfl)
theorem dX5_follows_217 : decode cX5_follows 217 = .ok (.iadd, 1) := dk_96 (dk_at dksX5_follows_9 7 rfl rfl)
theorem dX5_follows_218 : decode cX5_follows 218 = .ok (.aload_n 0, 1) := dk_42 (dk_at dksX5_follows_9 8 rfl rfl)
theorem dX5_follows_219 : decode cX5_follows 219 = .ok (.invokevirtual 149, 3) := dk_182 0 149 (dk_at dksX5_follows_9 9 rfl rfl)
theorem dX5_follows_222 : decode cX5_follows 222 = .ok (.iastore, 1) := dk_79 (dk_at dksX5_follows_9 12 rfl rfl)
theorem dX5_follows_223 : decode cX5_follows 223 = .ok (.aload_n 0, 1) := dk_42 (dk_at dksX5_follows_9 13 rfl rfl)
theorem dX5_follows_224 : decode cX5_follows 224 = .ok (.getfield 7, 3) := dk_180 0 7 (dk_at dksX5_follows_9 14 rfl rfl)
theorem dX5_follows_227 : decode cX5_follows 227 = .ok (.sipush 169, 3) := dk_17 0 169 (dk_at dksX5_follows_9 17 rfl rfl)
theorem dX5_follows_230 : decode cX5_follows 230 = .ok (.iload_n 2, 1) := dk_28 (dk_at dksX5_follows_9 20 rfl rfl)
theorem dX5_follows_231 : decode cX5_follows 231 = .ok (.iadd, 1) := dk_96 (dk_at dksX5_follows_9 21 rfl rfl)
theorem dX5_follows_232 : decode cX5_follows 232 = .ok (.aload_n 0, 1) := dk_42 (dk_at dksX5_follows_9 22 rfl rfl)
theorem dX5_follows_233 : decode cX5_follows 233 = .ok (.invokevirtual 149, 3) := dk_182 0 149 (dk_at dksX5_follows_10 0 rfl rfl)
theorem dX5_follows_236 : decode cX5_follows 236 = .ok (.iastore, 1) := dk_79 (dk_at dksX5_follows_10 3 rfl rfl)
theorem dX5_follows_237 : decode cX5_follows 237 = .ok (.iconst 1, 1) := dk_4 (dk_at dksX5_follows_10 4 rfl rfl)
theorem dX5_follows_238 : decode cX5_follows 238 = .ok (.ireturn, 1) := dk_172 (dk_at dksX5_follows_10 5 rfl rfl)
abbrev cX5_next : ByteArray := prog_10_method_49_code
def yX5_next : MethodName := ⟨RX5, "next", "()I"⟩
def dkwX5_next_0 : List UInt8 := [42, 89, 180, 0, 121, 4, 96, 181, 0, 121, 42, 182, 0, 146, 172]
abbrev dktX5_next_0 : List UInt8 := dkwX5_next_0 ++ []
theorem dksX5_next_0 : cX5_next.data.toList.drop 0 = dktX5_next_0 := by decide +kernel
theorem dX5_next_0 : decode cX5_next 0 = .ok (.aload_n 0, 1) := dk_42 (dk_at dksX5_next_0 0 rfl rfl)
theorem dX5_next_1 : decode cX5_next 1 = .ok (.dup, 1) := dk_89 (dk_at dksX5_next_0 1 rfl rfl)
theorem dX5_next_2 : decode cX5_next 2 = .ok (.getfield 121, 3) := dk_180 0 121 (dk_at dksX5_next_0 2 rfl rfl)
theorem dX5_next_5 : decode cX5_next 5 = .ok (.iconst 1, 1) := dk_4 (dk_at dksX5_next_0 5 rfl rfl)
theorem dX5_next_6 : decode cX5_next 6 = .ok (.iadd, 1) := dk_96 (dk_at dksX5_next_0 6 rfl rfl)
theorem dX5_next_7 : decode cX5_next 7 = .ok (.putfield 121, 3) := dk_181 0 121 (dk_at dksX5_next_0 7 rfl rfl)
theorem dX5_next_10 : decode cX5_next 10 = .ok (.aload_n 0, 1) := dk_42 (dk_at dksX5_next_0 10 rfl rfl)
theorem dX5_next_11 : decode cX5_next 11 = .ok (.invokevirtual 146, 3) := dk_182 0 146 (dk_at dksX5_next_0 11 rfl rfl)
theorem dX5_next_14 : decode cX5_next 14 = .ok (.ireturn, 1) := dk_172 (dk_at dksX5_next_0 14 rfl rfl)
abbrev cX5_number : ByteArray := prog_10_method_48_code
def yX5_number : MethodName := ⟨RX5, "number", "()I"⟩
def dkwX5_number_1 : List UInt8 := [180, 0, 121, 46, 96, 16, 48, 100, 60, 42, 89, 180, 0, 121, 4, 96, 181, 0, 121, 167, 255, 217, 27, 172]
abbrev dktX5_number_1 : List UInt8 := dkwX5_number_1 ++ []
def dkwX5_number_0 : List UInt8 := [3, 60, 42, 16, 48, 16, 57, 182, 0, 124, 153, 0, 34, 16, 10, 27, 104, 42, 180, 0, 22, 42]
abbrev dktX5_number_0 : List UInt8 := dkwX5_number_0 ++ dktX5_number_1
theorem dksX5_number_0 : cX5_number.data.toList.drop 0 = dktX5_number_0 := by decide +kernel
theorem dksX5_number_1 : cX5_number.data.toList.drop 22 = dktX5_number_1 := dk_seg dksX5_number_0 22 rfl rfl
theorem dX5_number_0 : decode cX5_number 0 = .ok (.iconst 0, 1) := dk_3 (dk_at dksX5_number_0 0 rfl rfl)
theorem dX5_number_1 : decode cX5_number 1 = .ok (.istore_n 1, 1) := dk_60 (dk_at dksX5_number_0 1 rfl rfl)
theorem dX5_number_2 : decode cX5_number 2 = .ok (.aload_n 0, 1) := dk_42 (dk_at dksX5_number_0 2 rfl rfl)
theorem dX5_number_3 : decode cX5_number 3 = .ok (.bipush 48, 2) := dk_16 48 (dk_at dksX5_number_0 3 rfl rfl)
theorem dX5_number_5 : decode cX5_number 5 = .ok (.bipush 57, 2) := dk_16 57 (dk_at dksX5_number_0 5 rfl rfl)
theorem dX5_number_7 : decode cX5_number 7 = .ok (.invokevirtual 124, 3) := dk_182 0 124 (dk_at dksX5_number_0 7 rfl rfl)
theorem dX5_number_10 : decode cX5_number 10 = .ok (.ifCond .eq 34, 3) := dk_153 0 34 (dk_at dksX5_number_0 10 rfl rfl)
theorem dX5_number_13 : decode cX5_number 13 = .ok (.bipush 10, 2) := dk_16 10 (dk_at dksX5_number_0 13 rfl rfl)
theorem dX5_number_15 : decode cX5_number 15 = .ok (.iload_n 1, 1) := dk_27 (dk_at dksX5_number_0 15 rfl rfl)
theorem dX5_number_16 : decode cX5_number 16 = .ok (.imul, 1) := dk_104 (dk_at dksX5_number_0 16 rfl rfl)
theorem dX5_number_17 : decode cX5_number 17 = .ok (.aload_n 0, 1) := dk_42 (dk_at dksX5_number_0 17 rfl rfl)
theorem dX5_number_18 : decode cX5_number 18 = .ok (.getfield 22, 3) := dk_180 0 22 (dk_at dksX5_number_0 18 rfl rfl)
theorem dX5_number_21 : decode cX5_number 21 = .ok (.aload_n 0, 1) := dk_42 (dk_at dksX5_number_0 21 rfl rfl)
theorem dX5_number_22 : decode cX5_number 22 = .ok (.getfield 121, 3) := dk_180 0 121 (dk_at dksX5_number_1 0 rfl rfl)
theorem dX5_number_25 : decode cX5_number 25 = .ok (.iaload, 1) := dk_46 (dk_at dksX5_number_1 3 rfl rfl)
theorem dX5_number_26 : decode cX5_number 26 = .ok (.iadd, 1) := dk_96 (dk_at dksX5_number_1 4 rfl rfl)
theorem dX5_number_27 : decode cX5_number 27 = .ok (.bipush 48, 2) := dk_16 48 (dk_at dksX5_number_1 5 rfl rfl)
theorem dX5_number_29 : decode cX5_number 29 = .ok (.isub, 1) := dk_100 (dk_at dksX5_number_1 7 rfl rfl)
theorem dX5_number_30 : decode cX5_number 30 = .ok (.istore_n 1, 1) := dk_60 (dk_at dksX5_number_1 8 rfl rfl)
theorem dX5_number_31 : decode cX5_number 31 = .ok (.aload_n 0, 1) := dk_42 (dk_at dksX5_number_1 9 rfl rfl)
theorem dX5_number_32 : decode cX5_number 32 = .ok (.dup, 1) := dk_89 (dk_at dksX5_number_1 10 rfl rfl)
theorem dX5_number_33 : decode cX5_number 33 = .ok (.getfield 121, 3) := dk_180 0 121 (dk_at dksX5_number_1 11 rfl rfl)
theorem dX5_number_36 : decode cX5_number 36 = .ok (.iconst 1, 1) := dk_4 (dk_at dksX5_number_1 14 rfl rfl)
theorem dX5_number_37 : decode cX5_number 37 = .ok (.iadd, 1) := dk_96 (dk_at dksX5_number_1 15 rfl rfl)
theorem dX5_number_38 : decode cX5_number 38 = .ok (.putfield 121, 3) := dk_181 0 121 (dk_at dksX5_number_1 16 rfl rfl)
theorem dX5_number_41 : decode cX5_number 41 = .ok (.goto (-39), 3) := dk_167 255 217 (dk_at dksX5_number_1 19 rfl rfl)
theorem dX5_number_44 : decode cX5_number 44 = .ok (.iload_n 1, 1) := dk_27 (dk_at dksX5_number_1 22 rfl rfl)
theorem dX5_number_45 : decode cX5_number 45 = .ok (.ireturn, 1) := dk_172 (dk_at dksX5_number_1 23 rfl rfl)
abbrev cX5_keep : ByteArray := prog_10_method_52_code
def yX5_keep : MethodName := ⟨RX5, "keep", "(I)V"⟩
def dkwX5_keep_4 : List UInt8 := [167, 0, 4, 3, 181, 0, 159, 177]
abbrev dktX5_keep_4 : List UInt8 := dkwX5_keep_4 ++ []
def dkwX5_keep_3 : List UInt8 := [4, 167, 0, 4, 3, 181, 0, 155, 42, 42, 180, 0, 159, 154, 0, 8, 27, 4, 160, 0, 7, 4]
abbrev dktX5_keep_3 : List UInt8 := dkwX5_keep_3 ++ dktX5_keep_4
def dkwX5_keep_2 : List UInt8 := [180, 0, 7, 28, 46, 79, 132, 2, 1, 167, 255, 221, 42, 42, 180, 0, 155, 154, 0, 7, 27, 154, 0, 7]
abbrev dktX5_keep_2 : List UInt8 := dkwX5_keep_2 ++ dktX5_keep_3
def dkwX5_keep_1 : List UInt8 := [162, 0, 34, 42, 180, 0, 38, 154, 0, 27, 42, 180, 0, 19, 17, 0, 179, 27, 104, 28, 96, 42]
abbrev dktX5_keep_1 : List UInt8 := dkwX5_keep_1 ++ dktX5_keep_2
def dkwX5_keep_0 : List UInt8 := [42, 27, 3, 4, 184, 0, 42, 154, 0, 7, 4, 167, 0, 4, 3, 181, 0, 38, 3, 61, 28, 17, 0, 179]
abbrev dktX5_keep_0 : List UInt8 := dkwX5_keep_0 ++ dktX5_keep_1
theorem dksX5_keep_0 : cX5_keep.data.toList.drop 0 = dktX5_keep_0 := by decide +kernel
theorem dksX5_keep_1 : cX5_keep.data.toList.drop 24 = dktX5_keep_1 := dk_seg dksX5_keep_0 24 rfl rfl
theorem dksX5_keep_2 : cX5_keep.data.toList.drop 46 = dktX5_keep_2 := dk_seg dksX5_keep_1 22 rfl rfl
theorem dksX5_keep_3 : cX5_keep.data.toList.drop 70 = dktX5_keep_3 := dk_seg dksX5_keep_2 24 rfl rfl
theorem dksX5_keep_4 : cX5_keep.data.toList.drop 92 = dktX5_keep_4 := dk_seg dksX5_keep_3 22 rfl rfl
theorem dX5_keep_0 : decode cX5_keep 0 = .ok (.aload_n 0, 1) := dk_42 (dk_at dksX5_keep_0 0 rfl rfl)
theorem dX5_keep_1 : decode cX5_keep 1 = .ok (.iload_n 1, 1) := dk_27 (dk_at dksX5_keep_0 1 rfl rfl)
theorem dX5_keep_2 : decode cX5_keep 2 = .ok (.iconst 0, 1) := dk_3 (dk_at dksX5_keep_0 2 rfl rfl)
theorem dX5_keep_3 : decode cX5_keep 3 = .ok (.iconst 1, 1) := dk_4 (dk_at dksX5_keep_0 3 rfl rfl)
theorem dX5_keep_4 : decode cX5_keep 4 = .ok (.invokestatic 42, 3) := dk_184 0 42 (dk_at dksX5_keep_0 4 rfl rfl)
theorem dX5_keep_7 : decode cX5_keep 7 = .ok (.ifCond .ne 7, 3) := dk_154 0 7 (dk_at dksX5_keep_0 7 rfl rfl)
theorem dX5_keep_10 : decode cX5_keep 10 = .ok (.iconst 1, 1) := dk_4 (dk_at dksX5_keep_0 10 rfl rfl)
theorem dX5_keep_11 : decode cX5_keep 11 = .ok (.goto 4, 3) := dk_167 0 4 (dk_at dksX5_keep_0 11 rfl rfl)
theorem dX5_keep_14 : decode cX5_keep 14 = .ok (.iconst 0, 1) := dk_3 (dk_at dksX5_keep_0 14 rfl rfl)
theorem dX5_keep_15 : decode cX5_keep 15 = .ok (.putfield 38, 3) := dk_181 0 38 (dk_at dksX5_keep_0 15 rfl rfl)
theorem dX5_keep_18 : decode cX5_keep 18 = .ok (.iconst 0, 1) := dk_3 (dk_at dksX5_keep_0 18 rfl rfl)
theorem dX5_keep_19 : decode cX5_keep 19 = .ok (.istore_n 2, 1) := dk_61 (dk_at dksX5_keep_0 19 rfl rfl)
theorem dX5_keep_20 : decode cX5_keep 20 = .ok (.iload_n 2, 1) := dk_28 (dk_at dksX5_keep_0 20 rfl rfl)
theorem dX5_keep_21 : decode cX5_keep 21 = .ok (.sipush 179, 3) := dk_17 0 179 (dk_at dksX5_keep_0 21 rfl rfl)
theorem dX5_keep_24 : decode cX5_keep 24 = .ok (.if_icmp .ge 34, 3) := dk_162 0 34 (dk_at dksX5_keep_1 0 rfl rfl)
theorem dX5_keep_27 : decode cX5_keep 27 = .ok (.aload_n 0, 1) := dk_42 (dk_at dksX5_keep_1 3 rfl rfl)
theorem dX5_keep_28 : decode cX5_keep 28 = .ok (.getfield 38, 3) := dk_180 0 38 (dk_at dksX5_keep_1 4 rfl rfl)
theorem dX5_keep_31 : decode cX5_keep 31 = .ok (.ifCond .ne 27, 3) := dk_154 0 27 (dk_at dksX5_keep_1 7 rfl rfl)
theorem dX5_keep_34 : decode cX5_keep 34 = .ok (.aload_n 0, 1) := dk_42 (dk_at dksX5_keep_1 10 rfl rfl)
theorem dX5_keep_35 : decode cX5_keep 35 = .ok (.getfield 19, 3) := dk_180 0 19 (dk_at dksX5_keep_1 11 rfl rfl)
theorem dX5_keep_38 : decode cX5_keep 38 = .ok (.sipush 179, 3) := dk_17 0 179 (dk_at dksX5_keep_1 14 rfl rfl)
theorem dX5_keep_41 : decode cX5_keep 41 = .ok (.iload_n 1, 1) := dk_27 (dk_at dksX5_keep_1 17 rfl rfl)
theorem dX5_keep_42 : decode cX5_keep 42 = .ok (.imul, 1) := dk_104 (dk_at dksX5_keep_1 18 rfl rfl)
theorem dX5_keep_43 : decode cX5_keep 43 = .ok (.iload_n 2, 1) := dk_28 (dk_at dksX5_keep_1 19 rfl rfl)
theorem dX5_keep_44 : decode cX5_keep 44 = .ok (.iadd, 1) := dk_96 (dk_at dksX5_keep_1 20 rfl rfl)
theorem dX5_keep_45 : decode cX5_keep 45 = .ok (.aload_n 0, 1) := dk_42 (dk_at dksX5_keep_1 21 rfl rfl)
theorem dX5_keep_46 : decode cX5_keep 46 = .ok (.getfield 7, 3) := dk_180 0 7 (dk_at dksX5_keep_2 0 rfl rfl)
theorem dX5_keep_49 : decode cX5_keep 49 = .ok (.iload_n 2, 1) := dk_28 (dk_at dksX5_keep_2 3 rfl rfl)
theorem dX5_keep_50 : decode cX5_keep 50 = .ok (.iaload, 1) := dk_46 (dk_at dksX5_keep_2 4 rfl rfl)
theorem dX5_keep_51 : decode cX5_keep 51 = .ok (.iastore, 1) := dk_79 (dk_at dksX5_keep_2 5 rfl rfl)
theorem dX5_keep_52 : decode cX5_keep 52 = .ok (.iinc 2 1, 3) := dk_132 2 1 (dk_at dksX5_keep_2 6 rfl rfl)
theorem dX5_keep_55 : decode cX5_keep 55 = .ok (.goto (-35), 3) := dk_167 255 221 (dk_at dksX5_keep_2 9 rfl rfl)
theorem dX5_keep_58 : decode cX5_keep 58 = .ok (.aload_n 0, 1) := dk_42 (dk_at dksX5_keep_2 12 rfl rfl)
theorem dX5_keep_59 : decode cX5_keep 59 = .ok (.aload_n 0, 1) := dk_42 (dk_at dksX5_keep_2 13 rfl rfl)
theorem dX5_keep_60 : decode cX5_keep 60 = .ok (.getfield 155, 3) := dk_180 0 155 (dk_at dksX5_keep_2 14 rfl rfl)
theorem dX5_keep_63 : decode cX5_keep 63 = .ok (.ifCond .ne 7, 3) := dk_154 0 7 (dk_at dksX5_keep_2 17 rfl rfl)
theorem dX5_keep_66 : decode cX5_keep 66 = .ok (.iload_n 1, 1) := dk_27 (dk_at dksX5_keep_2 20 rfl rfl)
theorem dX5_keep_67 : decode cX5_keep 67 = .ok (.ifCond .ne 7, 3) := dk_154 0 7 (dk_at dksX5_keep_2 21 rfl rfl)
theorem dX5_keep_70 : decode cX5_keep 70 = .ok (.iconst 1, 1) := dk_4 (dk_at dksX5_keep_3 0 rfl rfl)
theorem dX5_keep_71 : decode cX5_keep 71 = .ok (.goto 4, 3) := dk_167 0 4 (dk_at dksX5_keep_3 1 rfl rfl)
theorem dX5_keep_74 : decode cX5_keep 74 = .ok (.iconst 0, 1) := dk_3 (dk_at dksX5_keep_3 4 rfl rfl)
theorem dX5_keep_75 : decode cX5_keep 75 = .ok (.putfield 155, 3) := dk_181 0 155 (dk_at dksX5_keep_3 5 rfl rfl)
theorem dX5_keep_78 : decode cX5_keep 78 = .ok (.aload_n 0, 1) := dk_42 (dk_at dksX5_keep_3 8 rfl rfl)
theorem dX5_keep_79 : decode cX5_keep 79 = .ok (.aload_n 0, 1) := dk_42 (dk_at dksX5_keep_3 9 rfl rfl)
theorem dX5_keep_80 : decode cX5_keep 80 = .ok (.getfield 159, 3) := dk_180 0 159 (dk_at dksX5_keep_3 10 rfl rfl)
theorem dX5_keep_83 : decode cX5_keep 83 = .ok (.ifCond .ne 8, 3) := dk_154 0 8 (dk_at dksX5_keep_3 13 rfl rfl)
theorem dX5_keep_86 : decode cX5_keep 86 = .ok (.iload_n 1, 1) := dk_27 (dk_at dksX5_keep_3 16 rfl rfl)
theorem dX5_keep_87 : decode cX5_keep 87 = .ok (.iconst 1, 1) := dk_4 (dk_at dksX5_keep_3 17 rfl rfl)
theorem dX5_keep_88 : decode cX5_keep 88 = .ok (.if_icmp .ne 7, 3) := dk_160 0 7 (dk_at dksX5_keep_3 18 rfl rfl)
theorem dX5_keep_91 : decode cX5_keep 91 = .ok (.iconst 1, 1) := dk_4 (dk_at dksX5_keep_3 21 rfl rfl)
theorem dX5_keep_92 : decode cX5_keep 92 = .ok (.goto 4, 3) := dk_167 0 4 (dk_at dksX5_keep_4 0 rfl rfl)
theorem dX5_keep_95 : decode cX5_keep 95 = .ok (.iconst 0, 1) := dk_3 (dk_at dksX5_keep_4 3 rfl rfl)
theorem dX5_keep_96 : decode cX5_keep 96 = .ok (.putfield 159, 3) := dk_181 0 159 (dk_at dksX5_keep_4 4 rfl rfl)
theorem dX5_keep_99 : decode cX5_keep 99 = .ok (.return_, 1) := dk_177 (dk_at dksX5_keep_4 7 rfl rfl)
abbrev cX5_goBack : ByteArray := prog_10_method_53_code
def yX5_goBack : MethodName := ⟨RX5, "goBack", "(I)V"⟩
def dkwX5_goBack_4 : List UInt8 := [167, 255, 221, 177]
abbrev dktX5_goBack_4 : List UInt8 := dkwX5_goBack_4 ++ []
def dkwX5_goBack_3 : List UInt8 := [154, 0, 27, 42, 180, 0, 7, 28, 42, 180, 0, 19, 17, 0, 179, 27, 104, 28, 96, 46, 79, 132, 2, 1]
abbrev dktX5_goBack_3 : List UInt8 := dkwX5_goBack_3 ++ dktX5_goBack_4
def dkwX5_goBack_2 : List UInt8 := [180, 0, 38, 154, 0, 7, 42, 182, 0, 95, 3, 61, 28, 17, 0, 179, 162, 0, 34, 42, 180, 0, 38]
abbrev dktX5_goBack_2 : List UInt8 := dkwX5_goBack_2 ++ dktX5_goBack_3
def dkwX5_goBack_1 : List UInt8 := [154, 0, 17, 167, 0, 10, 42, 180, 0, 159, 154, 0, 7, 5, 167, 0, 4, 3, 181, 0, 38, 42]
abbrev dktX5_goBack_1 : List UInt8 := dkwX5_goBack_1 ++ dktX5_goBack_2
def dkwX5_goBack_0 : List UInt8 := [42, 27, 3, 4, 184, 0, 42, 154, 0, 7, 4, 167, 0, 29, 27, 154, 0, 13, 42, 180, 0, 155]
abbrev dktX5_goBack_0 : List UInt8 := dkwX5_goBack_0 ++ dktX5_goBack_1
theorem dksX5_goBack_0 : cX5_goBack.data.toList.drop 0 = dktX5_goBack_0 := by decide +kernel
theorem dksX5_goBack_1 : cX5_goBack.data.toList.drop 22 = dktX5_goBack_1 := dk_seg dksX5_goBack_0 22 rfl rfl
theorem dksX5_goBack_2 : cX5_goBack.data.toList.drop 44 = dktX5_goBack_2 := dk_seg dksX5_goBack_1 22 rfl rfl
theorem dksX5_goBack_3 : cX5_goBack.data.toList.drop 67 = dktX5_goBack_3 := dk_seg dksX5_goBack_2 23 rfl rfl
theorem dksX5_goBack_4 : cX5_goBack.data.toList.drop 91 = dktX5_goBack_4 := dk_seg dksX5_goBack_3 24 rfl rfl
theorem dX5_goBack_0 : decode cX5_goBack 0 = .ok (.aload_n 0, 1) := dk_42 (dk_at dksX5_goBack_0 0 rfl rfl)
theorem dX5_goBack_1 : decode cX5_goBack 1 = .ok (.iload_n 1, 1) := dk_27 (dk_at dksX5_goBack_0 1 rfl rfl)
theorem dX5_goBack_2 : decode cX5_goBack 2 = .ok (.iconst 0, 1) := dk_3 (dk_at dksX5_goBack_0 2 rfl rfl)
theorem dX5_goBack_3 : decode cX5_goBack 3 = .ok (.iconst 1, 1) := dk_4 (dk_at dksX5_goBack_0 3 rfl rfl)
theorem dX5_goBack_4 : decode cX5_goBack 4 = .ok (.invokestatic 42, 3) := dk_184 0 42 (dk_at dksX5_goBack_0 4 rfl rfl)
theorem dX5_goBack_7 : decode cX5_goBack 7 = .ok (.ifCond .ne 7, 3) := dk_154 0 7 (dk_at dksX5_goBack_0 7 rfl rfl)
theorem dX5_goBack_10 : decode cX5_goBack 10 = .ok (.iconst 1, 1) := dk_4 (dk_at dksX5_goBack_0 10 rfl rfl)
theorem dX5_goBack_11 : decode cX5_goBack 11 = .ok (.goto 29, 3) := dk_167 0 29 (dk_at dksX5_goBack_0 11 rfl rfl)
theorem dX5_goBack_14 : decode cX5_goBack 14 = .ok (.iload_n 1, 1) := dk_27 (dk_at dksX5_goBack_0 14 rfl rfl)
theorem dX5_goBack_15 : decode cX5_goBack 15 = .ok (.ifCond .ne 13, 3) := dk_154 0 13 (dk_at dksX5_goBack_0 15 rfl rfl)
theorem dX5_goBack_18 : decode cX5_goBack 18 = .ok (.aload_n 0, 1) := dk_42 (dk_at dksX5_goBack_0 18 rfl rfl)
theorem dX5_goBack_19 : decode cX5_goBack 19 = .ok (.getfield 155, 3) := dk_180 0 155 (dk_at dksX5_goBack_0 19 rfl rfl)
theorem dX5_goBack_22 : decode cX5_goBack 22 = .ok (.ifCond .ne 17, 3) := dk_154 0 17 (dk_at dksX5_goBack_1 0 rfl rfl)
theorem dX5_goBack_25 : decode cX5_goBack 25 = .ok (.goto 10, 3) := dk_167 0 10 (dk_at dksX5_goBack_1 3 rfl rfl)
theorem dX5_goBack_28 : decode cX5_goBack 28 = .ok (.aload_n 0, 1) := dk_42 (dk_at dksX5_goBack_1 6 rfl rfl)
theorem dX5_goBack_29 : decode cX5_goBack 29 = .ok (.getfield 159, 3) := dk_180 0 159 (dk_at dksX5_goBack_1 7 rfl rfl)
theorem dX5_goBack_32 : decode cX5_goBack 32 = .ok (.ifCond .ne 7, 3) := dk_154 0 7 (dk_at dksX5_goBack_1 10 rfl rfl)
theorem dX5_goBack_35 : decode cX5_goBack 35 = .ok (.iconst 2, 1) := dk_5 (dk_at dksX5_goBack_1 13 rfl rfl)
theorem dX5_goBack_36 : decode cX5_goBack 36 = .ok (.goto 4, 3) := dk_167 0 4 (dk_at dksX5_goBack_1 14 rfl rfl)
theorem dX5_goBack_39 : decode cX5_goBack 39 = .ok (.iconst 0, 1) := dk_3 (dk_at dksX5_goBack_1 17 rfl rfl)
theorem dX5_goBack_40 : decode cX5_goBack 40 = .ok (.putfield 38, 3) := dk_181 0 38 (dk_at dksX5_goBack_1 18 rfl rfl)
theorem dX5_goBack_43 : decode cX5_goBack 43 = .ok (.aload_n 0, 1) := dk_42 (dk_at dksX5_goBack_1 21 rfl rfl)
theorem dX5_goBack_44 : decode cX5_goBack 44 = .ok (.getfield 38, 3) := dk_180 0 38 (dk_at dksX5_goBack_2 0 rfl rfl)
theorem dX5_goBack_47 : decode cX5_goBack 47 = .ok (.ifCond .ne 7, 3) := dk_154 0 7 (dk_at dksX5_goBack_2 3 rfl rfl)
theorem dX5_goBack_50 : decode cX5_goBack 50 = .ok (.aload_n 0, 1) := dk_42 (dk_at dksX5_goBack_2 6 rfl rfl)
theorem dX5_goBack_51 : decode cX5_goBack 51 = .ok (.invokevirtual 95, 3) := dk_182 0 95 (dk_at dksX5_goBack_2 7 rfl rfl)
theorem dX5_goBack_54 : decode cX5_goBack 54 = .ok (.iconst 0, 1) := dk_3 (dk_at dksX5_goBack_2 10 rfl rfl)
theorem dX5_goBack_55 : decode cX5_goBack 55 = .ok (.istore_n 2, 1) := dk_61 (dk_at dksX5_goBack_2 11 rfl rfl)
theorem dX5_goBack_56 : decode cX5_goBack 56 = .ok (.iload_n 2, 1) := dk_28 (dk_at dksX5_goBack_2 12 rfl rfl)
theorem dX5_goBack_57 : decode cX5_goBack 57 = .ok (.sipush 179, 3) := dk_17 0 179 (dk_at dksX5_goBack_2 13 rfl rfl)
theorem dX5_goBack_60 : decode cX5_goBack 60 = .ok (.if_icmp .ge 34, 3) := dk_162 0 34 (dk_at dksX5_goBack_2 16 rfl rfl)
theorem dX5_goBack_63 : decode cX5_goBack 63 = .ok (.aload_n 0, 1) := dk_42 (dk_at dksX5_goBack_2 19 rfl rfl)
theorem dX5_goBack_64 : decode cX5_goBack 64 = .ok (.getfield 38, 3) := dk_180 0 38 (dk_at dksX5_goBack_2 20 rfl rfl)
theorem dX5_goBack_67 : decode cX5_goBack 67 = .ok (.ifCond .ne 27, 3) := dk_154 0 27 (dk_at dksX5_goBack_3 0 rfl rfl)
theorem dX5_goBack_70 : decode cX5_goBack 70 = .ok (.aload_n 0, 1) := dk_42 (dk_at dksX5_goBack_3 3 rfl rfl)
theorem dX5_goBack_71 : decode cX5_goBack 71 = .ok (.getfield 7, 3) := dk_180 0 7 (dk_at dksX5_goBack_3 4 rfl rfl)
theorem dX5_goBack_74 : decode cX5_goBack 74 = .ok (.iload_n 2, 1) := dk_28 (dk_at dksX5_goBack_3 7 rfl rfl)
theorem dX5_goBack_75 : decode cX5_goBack 75 = .ok (.aload_n 0, 1) := dk_42 (dk_at dksX5_goBack_3 8 rfl rfl)
theorem dX5_goBack_76 : decode cX5_goBack 76 = .ok (.getfield 19, 3) := dk_180 0 19 (dk_at dksX5_goBack_3 9 rfl rfl)
theorem dX5_goBack_79 : decode cX5_goBack 79 = .ok (.sipush 179, 3) := dk_17 0 179 (dk_at dksX5_goBack_3 12 rfl rfl)
theorem dX5_goBack_82 : decode cX5_goBack 82 = .ok (.iload_n 1, 1) := dk_27 (dk_at dksX5_goBack_3 15 rfl rfl)
theorem dX5_goBack_83 : decode cX5_goBack 83 = .ok (.imul, 1) := dk_104 (dk_at dksX5_goBack_3 16 rfl rfl)
theorem dX5_goBack_84 : decode cX5_goBack 84 = .ok (.iload_n 2, 1) := dk_28 (dk_at dksX5_goBack_3 17 rfl rfl)
theorem dX5_goBack_85 : decode cX5_goBack 85 = .ok (.iadd, 1) := dk_96 (dk_at dksX5_goBack_3 18 rfl rfl)
theorem dX5_goBack_86 : decode cX5_goBack 86 = .ok (.iaload, 1) := dk_46 (dk_at dksX5_goBack_3 19 rfl rfl)
theorem dX5_goBack_87 : decode cX5_goBack 87 = .ok (.iastore, 1) := dk_79 (dk_at dksX5_goBack_3 20 rfl rfl)
theorem dX5_goBack_88 : decode cX5_goBack 88 = .ok (.iinc 2 1, 3) := dk_132 2 1 (dk_at dksX5_goBack_3 21 rfl rfl)
theorem dX5_goBack_91 : decode cX5_goBack 91 = .ok (.goto (-35), 3) := dk_167 255 221 (dk_at dksX5_goBack_4 0 rfl rfl)
theorem dX5_goBack_94 : decode cX5_goBack 94 = .ok (.return_, 1) := dk_177 (dk_at dksX5_goBack_4 3 rfl rfl)
abbrev cX5_undo : ByteArray := prog_10_method_54_code
def yX5_undo : MethodName := ⟨RX5, "undo", "()V"⟩
def dkwX5_undo_3 : List UInt8 := [27, 96, 46, 79, 132, 1, 1, 167, 255, 218, 177]
abbrev dktX5_undo_3 : List UInt8 := dkwX5_undo_3 ++ []
def dkwX5_undo_2 : List UInt8 := [42, 180, 0, 38, 154, 0, 30, 42, 180, 0, 7, 27, 42, 180, 0, 16, 17, 0, 179, 42, 180, 0, 46, 104]
abbrev dktX5_undo_2 : List UInt8 := dkwX5_undo_2 ++ dktX5_undo_3
def dkwX5_undo_1 : List UInt8 := [180, 0, 46, 154, 0, 7, 3, 167, 0, 4, 4, 100, 181, 0, 46, 3, 60, 27, 17, 0, 179, 162, 0, 37]
abbrev dktX5_undo_1 : List UInt8 := dkwX5_undo_1 ++ dktX5_undo_2
def dkwX5_undo_0 : List UInt8 := [42, 42, 180, 0, 46, 154, 0, 7, 4, 167, 0, 4, 3, 181, 0, 38, 42, 89, 180, 0, 46, 42]
abbrev dktX5_undo_0 : List UInt8 := dkwX5_undo_0 ++ dktX5_undo_1
theorem dksX5_undo_0 : cX5_undo.data.toList.drop 0 = dktX5_undo_0 := by decide +kernel
theorem dksX5_undo_1 : cX5_undo.data.toList.drop 22 = dktX5_undo_1 := dk_seg dksX5_undo_0 22 rfl rfl
theorem dksX5_undo_2 : cX5_undo.data.toList.drop 46 = dktX5_undo_2 := dk_seg dksX5_undo_1 24 rfl rfl
theorem dksX5_undo_3 : cX5_undo.data.toList.drop 70 = dktX5_undo_3 := dk_seg dksX5_undo_2 24 rfl rfl
theorem dX5_undo_0 : decode cX5_undo 0 = .ok (.aload_n 0, 1) := dk_42 (dk_at dksX5_undo_0 0 rfl rfl)
theorem dX5_undo_1 : decode cX5_undo 1 = .ok (.aload_n 0, 1) := dk_42 (dk_at dksX5_undo_0 1 rfl rfl)
theorem dX5_undo_2 : decode cX5_undo 2 = .ok (.getfield 46, 3) := dk_180 0 46 (dk_at dksX5_undo_0 2 rfl rfl)
theorem dX5_undo_5 : decode cX5_undo 5 = .ok (.ifCond .ne 7, 3) := dk_154 0 7 (dk_at dksX5_undo_0 5 rfl rfl)
theorem dX5_undo_8 : decode cX5_undo 8 = .ok (.iconst 1, 1) := dk_4 (dk_at dksX5_undo_0 8 rfl rfl)
theorem dX5_undo_9 : decode cX5_undo 9 = .ok (.goto 4, 3) := dk_167 0 4 (dk_at dksX5_undo_0 9 rfl rfl)
theorem dX5_undo_12 : decode cX5_undo 12 = .ok (.iconst 0, 1) := dk_3 (dk_at dksX5_undo_0 12 rfl rfl)
theorem dX5_undo_13 : decode cX5_undo 13 = .ok (.putfield 38, 3) := dk_181 0 38 (dk_at dksX5_undo_0 13 rfl rfl)
theorem dX5_undo_16 : decode cX5_undo 16 = .ok (.aload_n 0, 1) := dk_42 (dk_at dksX5_undo_0 16 rfl rfl)
theorem dX5_undo_17 : decode cX5_undo 17 = .ok (.dup, 1) := dk_89 (dk_at dksX5_undo_0 17 rfl rfl)
theorem dX5_undo_18 : decode cX5_undo 18 = .ok (.getfield 46, 3) := dk_180 0 46 (dk_at dksX5_undo_0 18 rfl rfl)
theorem dX5_undo_21 : decode cX5_undo 21 = .ok (.aload_n 0, 1) := dk_42 (dk_at dksX5_undo_0 21 rfl rfl)
theorem dX5_undo_22 : decode cX5_undo 22 = .ok (.getfield 46, 3) := dk_180 0 46 (dk_at dksX5_undo_1 0 rfl rfl)
theorem dX5_undo_25 : decode cX5_undo 25 = .ok (.ifCond .ne 7, 3) := dk_154 0 7 (dk_at dksX5_undo_1 3 rfl rfl)
theorem dX5_undo_28 : decode cX5_undo 28 = .ok (.iconst 0, 1) := dk_3 (dk_at dksX5_undo_1 6 rfl rfl)
theorem dX5_undo_29 : decode cX5_undo 29 = .ok (.goto 4, 3) := dk_167 0 4 (dk_at dksX5_undo_1 7 rfl rfl)
theorem dX5_undo_32 : decode cX5_undo 32 = .ok (.iconst 1, 1) := dk_4 (dk_at dksX5_undo_1 10 rfl rfl)
theorem dX5_undo_33 : decode cX5_undo 33 = .ok (.isub, 1) := dk_100 (dk_at dksX5_undo_1 11 rfl rfl)
theorem dX5_undo_34 : decode cX5_undo 34 = .ok (.putfield 46, 3) := dk_181 0 46 (dk_at dksX5_undo_1 12 rfl rfl)
theorem dX5_undo_37 : decode cX5_undo 37 = .ok (.iconst 0, 1) := dk_3 (dk_at dksX5_undo_1 15 rfl rfl)
theorem dX5_undo_38 : decode cX5_undo 38 = .ok (.istore_n 1, 1) := dk_60 (dk_at dksX5_undo_1 16 rfl rfl)
theorem dX5_undo_39 : decode cX5_undo 39 = .ok (.iload_n 1, 1) := dk_27 (dk_at dksX5_undo_1 17 rfl rfl)
theorem dX5_undo_40 : decode cX5_undo 40 = .ok (.sipush 179, 3) := dk_17 0 179 (dk_at dksX5_undo_1 18 rfl rfl)
theorem dX5_undo_43 : decode cX5_undo 43 = .ok (.if_icmp .ge 37, 3) := dk_162 0 37 (dk_at dksX5_undo_1 21 rfl rfl)
theorem dX5_undo_46 : decode cX5_undo 46 = .ok (.aload_n 0, 1) := dk_42 (dk_at dksX5_undo_2 0 rfl rfl)
theorem dX5_undo_47 : decode cX5_undo 47 = .ok (.getfield 38, 3) := dk_180 0 38 (dk_at dksX5_undo_2 1 rfl rfl)
theorem dX5_undo_50 : decode cX5_undo 50 = .ok (.ifCond .ne 30, 3) := dk_154 0 30 (dk_at dksX5_undo_2 4 rfl rfl)
theorem dX5_undo_53 : decode cX5_undo 53 = .ok (.aload_n 0, 1) := dk_42 (dk_at dksX5_undo_2 7 rfl rfl)
theorem dX5_undo_54 : decode cX5_undo 54 = .ok (.getfield 7, 3) := dk_180 0 7 (dk_at dksX5_undo_2 8 rfl rfl)
theorem dX5_undo_57 : decode cX5_undo 57 = .ok (.iload_n 1, 1) := dk_27 (dk_at dksX5_undo_2 11 rfl rfl)
theorem dX5_undo_58 : decode cX5_undo 58 = .ok (.aload_n 0, 1) := dk_42 (dk_at dksX5_undo_2 12 rfl rfl)
theorem dX5_undo_59 : decode cX5_undo 59 = .ok (.getfield 16, 3) := dk_180 0 16 (dk_at dksX5_undo_2 13 rfl rfl)
theorem dX5_undo_62 : decode cX5_undo 62 = .ok (.sipush 179, 3) := dk_17 0 179 (dk_at dksX5_undo_2 16 rfl rfl)
theorem dX5_undo_65 : decode cX5_undo 65 = .ok (.aload_n 0, 1) := dk_42 (dk_at dksX5_undo_2 19 rfl rfl)
theorem dX5_undo_66 : decode cX5_undo 66 = .ok (.getfield 46, 3) := dk_180 0 46 (dk_at dksX5_undo_2 20 rfl rfl)
theorem dX5_undo_69 : decode cX5_undo 69 = .ok (.imul, 1) := dk_104 (dk_at dksX5_undo_2 23 rfl rfl)
theorem dX5_undo_70 : decode cX5_undo 70 = .ok (.iload_n 1, 1) := dk_27 (dk_at dksX5_undo_3 0 rfl rfl)
theorem dX5_undo_71 : decode cX5_undo 71 = .ok (.iadd, 1) := dk_96 (dk_at dksX5_undo_3 1 rfl rfl)
theorem dX5_undo_72 : decode cX5_undo 72 = .ok (.iaload, 1) := dk_46 (dk_at dksX5_undo_3 2 rfl rfl)
theorem dX5_undo_73 : decode cX5_undo 73 = .ok (.iastore, 1) := dk_79 (dk_at dksX5_undo_3 3 rfl rfl)
theorem dX5_undo_74 : decode cX5_undo 74 = .ok (.iinc 1 1, 3) := dk_132 1 1 (dk_at dksX5_undo_3 4 rfl rfl)
theorem dX5_undo_77 : decode cX5_undo 77 = .ok (.goto (-38), 3) := dk_167 255 218 (dk_at dksX5_undo_3 7 rfl rfl)
theorem dX5_undo_80 : decode cX5_undo 80 = .ok (.return_, 1) := dk_177 (dk_at dksX5_undo_3 10 rfl rfl)
abbrev cX5_savedStates : ByteArray := prog_10_method_55_code
def yX5_savedStates : MethodName := ⟨RX5, "savedStates", "()I"⟩
def dkwX5_savedStates_0 : List UInt8 := [42, 3, 181, 0, 38, 42, 180, 0, 46, 172]
abbrev dktX5_savedStates_0 : List UInt8 := dkwX5_savedStates_0 ++ []
theorem dksX5_savedStates_0 : cX5_savedStates.data.toList.drop 0 = dktX5_savedStates_0 := by decide +kernel
theorem dX5_savedStates_0 : decode cX5_savedStates 0 = .ok (.aload_n 0, 1) := dk_42 (dk_at dksX5_savedStates_0 0 rfl rfl)
theorem dX5_savedStates_1 : decode cX5_savedStates 1 = .ok (.iconst 0, 1) := dk_3 (dk_at dksX5_savedStates_0 1 rfl rfl)
theorem dX5_savedStates_2 : decode cX5_savedStates 2 = .ok (.putfield 38, 3) := dk_181 0 38 (dk_at dksX5_savedStates_0 2 rfl rfl)
theorem dX5_savedStates_5 : decode cX5_savedStates 5 = .ok (.aload_n 0, 1) := dk_42 (dk_at dksX5_savedStates_0 5 rfl rfl)
theorem dX5_savedStates_6 : decode cX5_savedStates 6 = .ok (.getfield 46, 3) := dk_180 0 46 (dk_at dksX5_savedStates_0 6 rfl rfl)
theorem dX5_savedStates_9 : decode cX5_savedStates 9 = .ok (.ireturn, 1) := dk_172 (dk_at dksX5_savedStates_0 9 rfl rfl)
abbrev cX5_offers : ByteArray := prog_10_method_56_code
def yX5_offers : MethodName := ⟨RX5, "offers", "()I"⟩
def dkwX5_offers_0 : List UInt8 := [42, 3, 181, 0, 38, 42, 180, 0, 7, 17, 0, 160, 46, 172]
abbrev dktX5_offers_0 : List UInt8 := dkwX5_offers_0 ++ []
theorem dksX5_offers_0 : cX5_offers.data.toList.drop 0 = dktX5_offers_0 := by decide +kernel
theorem dX5_offers_0 : decode cX5_offers 0 = .ok (.aload_n 0, 1) := dk_42 (dk_at dksX5_offers_0 0 rfl rfl)
theorem dX5_offers_1 : decode cX5_offers 1 = .ok (.iconst 0, 1) := dk_3 (dk_at dksX5_offers_0 1 rfl rfl)
theorem dX5_offers_2 : decode cX5_offers 2 = .ok (.putfield 38, 3) := dk_181 0 38 (dk_at dksX5_offers_0 2 rfl rfl)
theorem dX5_offers_5 : decode cX5_offers 5 = .ok (.aload_n 0, 1) := dk_42 (dk_at dksX5_offers_0 5 rfl rfl)
theorem dX5_offers_6 : decode cX5_offers 6 = .ok (.getfield 7, 3) := dk_180 0 7 (dk_at dksX5_offers_0 6 rfl rfl)
theorem dX5_offers_9 : decode cX5_offers 9 = .ok (.sipush 160, 3) := dk_17 0 160 (dk_at dksX5_offers_0 9 rfl rfl)
theorem dX5_offers_12 : decode cX5_offers 12 = .ok (.iaload, 1) := dk_46 (dk_at dksX5_offers_0 12 rfl rfl)
theorem dX5_offers_13 : decode cX5_offers 13 = .ok (.ireturn, 1) := dk_172 (dk_at dksX5_offers_0 13 rfl rfl)
abbrev cX5_valueOf : ByteArray := prog_10_method_57_code
def yX5_valueOf : MethodName := ⟨RX5, "valueOf", "(II)I"⟩
def dkwX5_valueOf_1 : List UInt8 := [182, 0, 105, 167, 0, 9, 42, 27, 28, 182, 0, 53, 172]
abbrev dktX5_valueOf_1 : List UInt8 := dkwX5_valueOf_1 ++ []
def dkwX5_valueOf_0 : List UInt8 := [42, 3, 181, 0, 38, 42, 27, 182, 0, 102, 154, 0, 10, 28, 184, 0, 112, 153, 0, 11, 42, 4]
abbrev dktX5_valueOf_0 : List UInt8 := dkwX5_valueOf_0 ++ dktX5_valueOf_1
theorem dksX5_valueOf_0 : cX5_valueOf.data.toList.drop 0 = dktX5_valueOf_0 := by decide +kernel
theorem dksX5_valueOf_1 : cX5_valueOf.data.toList.drop 22 = dktX5_valueOf_1 := dk_seg dksX5_valueOf_0 22 rfl rfl
theorem dX5_valueOf_0 : decode cX5_valueOf 0 = .ok (.aload_n 0, 1) := dk_42 (dk_at dksX5_valueOf_0 0 rfl rfl)
theorem dX5_valueOf_1 : decode cX5_valueOf 1 = .ok (.iconst 0, 1) := dk_3 (dk_at dksX5_valueOf_0 1 rfl rfl)
theorem dX5_valueOf_2 : decode cX5_valueOf 2 = .ok (.putfield 38, 3) := dk_181 0 38 (dk_at dksX5_valueOf_0 2 rfl rfl)
theorem dX5_valueOf_5 : decode cX5_valueOf 5 = .ok (.aload_n 0, 1) := dk_42 (dk_at dksX5_valueOf_0 5 rfl rfl)
theorem dX5_valueOf_6 : decode cX5_valueOf 6 = .ok (.iload_n 1, 1) := dk_27 (dk_at dksX5_valueOf_0 6 rfl rfl)
theorem dX5_valueOf_7 : decode cX5_valueOf 7 = .ok (.invokevirtual 102, 3) := dk_182 0 102 (dk_at dksX5_valueOf_0 7 rfl rfl)
theorem dX5_valueOf_10 : decode cX5_valueOf 10 = .ok (.ifCond .ne 10, 3) := dk_154 0 10 (dk_at dksX5_valueOf_0 10 rfl rfl)
theorem dX5_valueOf_13 : decode cX5_valueOf 13 = .ok (.iload_n 2, 1) := dk_28 (dk_at dksX5_valueOf_0 13 rfl rfl)
theorem dX5_valueOf_14 : decode cX5_valueOf 14 = .ok (.invokestatic 112, 3) := dk_184 0 112 (dk_at dksX5_valueOf_0 14 rfl rfl)
theorem dX5_valueOf_17 : decode cX5_valueOf 17 = .ok (.ifCond .eq 11, 3) := dk_153 0 11 (dk_at dksX5_valueOf_0 17 rfl rfl)
theorem dX5_valueOf_20 : decode cX5_valueOf 20 = .ok (.aload_n 0, 1) := dk_42 (dk_at dksX5_valueOf_0 20 rfl rfl)
theorem dX5_valueOf_21 : decode cX5_valueOf 21 = .ok (.iconst 1, 1) := dk_4 (dk_at dksX5_valueOf_0 21 rfl rfl)
theorem dX5_valueOf_22 : decode cX5_valueOf 22 = .ok (.invokevirtual 105, 3) := dk_182 0 105 (dk_at dksX5_valueOf_1 0 rfl rfl)
theorem dX5_valueOf_25 : decode cX5_valueOf 25 = .ok (.goto 9, 3) := dk_167 0 9 (dk_at dksX5_valueOf_1 3 rfl rfl)
theorem dX5_valueOf_28 : decode cX5_valueOf 28 = .ok (.aload_n 0, 1) := dk_42 (dk_at dksX5_valueOf_1 6 rfl rfl)
theorem dX5_valueOf_29 : decode cX5_valueOf 29 = .ok (.iload_n 1, 1) := dk_27 (dk_at dksX5_valueOf_1 7 rfl rfl)
theorem dX5_valueOf_30 : decode cX5_valueOf 30 = .ok (.iload_n 2, 1) := dk_28 (dk_at dksX5_valueOf_1 8 rfl rfl)
theorem dX5_valueOf_31 : decode cX5_valueOf 31 = .ok (.invokevirtual 53, 3) := dk_182 0 53 (dk_at dksX5_valueOf_1 9 rfl rfl)
theorem dX5_valueOf_34 : decode cX5_valueOf 34 = .ok (.ireturn, 1) := dk_172 (dk_at dksX5_valueOf_1 12 rfl rfl)
abbrev cX5_wishOf : ByteArray := prog_10_method_59_code
def yX5_wishOf : MethodName := ⟨RX5, "wishOf", "(I)I"⟩
def dkwX5_wishOf_0 : List UInt8 := [42, 17, 0, 161, 27, 182, 0, 162, 172]
abbrev dktX5_wishOf_0 : List UInt8 := dkwX5_wishOf_0 ++ []
theorem dksX5_wishOf_0 : cX5_wishOf.data.toList.drop 0 = dktX5_wishOf_0 := by decide +kernel
theorem dX5_wishOf_0 : decode cX5_wishOf 0 = .ok (.aload_n 0, 1) := dk_42 (dk_at dksX5_wishOf_0 0 rfl rfl)
theorem dX5_wishOf_1 : decode cX5_wishOf 1 = .ok (.sipush 161, 3) := dk_17 0 161 (dk_at dksX5_wishOf_0 1 rfl rfl)
theorem dX5_wishOf_4 : decode cX5_wishOf 4 = .ok (.iload_n 1, 1) := dk_27 (dk_at dksX5_wishOf_0 4 rfl rfl)
theorem dX5_wishOf_5 : decode cX5_wishOf 5 = .ok (.invokevirtual 162, 3) := dk_182 0 162 (dk_at dksX5_wishOf_0 5 rfl rfl)
theorem dX5_wishOf_8 : decode cX5_wishOf 8 = .ok (.ireturn, 1) := dk_172 (dk_at dksX5_wishOf_0 8 rfl rfl)
abbrev cX5_ofSide : ByteArray := prog_10_method_58_code
def yX5_ofSide : MethodName := ⟨RX5, "ofSide", "(II)I"⟩
def dkwX5_ofSide_1 : List UInt8 := [27, 28, 96, 46, 172]
abbrev dktX5_ofSide_1 : List UInt8 := dkwX5_ofSide_1 ++ []
def dkwX5_ofSide_0 : List UInt8 := [42, 3, 181, 0, 38, 28, 184, 0, 112, 153, 0, 11, 42, 4, 182, 0, 105, 167, 0, 11, 42, 180, 0, 7]
abbrev dktX5_ofSide_0 : List UInt8 := dkwX5_ofSide_0 ++ dktX5_ofSide_1
theorem dksX5_ofSide_0 : cX5_ofSide.data.toList.drop 0 = dktX5_ofSide_0 := by decide +kernel
theorem dksX5_ofSide_1 : cX5_ofSide.data.toList.drop 24 = dktX5_ofSide_1 := dk_seg dksX5_ofSide_0 24 rfl rfl
theorem dX5_ofSide_0 : decode cX5_ofSide 0 = .ok (.aload_n 0, 1) := dk_42 (dk_at dksX5_ofSide_0 0 rfl rfl)
theorem dX5_ofSide_1 : decode cX5_ofSide 1 = .ok (.iconst 0, 1) := dk_3 (dk_at dksX5_ofSide_0 1 rfl rfl)
theorem dX5_ofSide_2 : decode cX5_ofSide 2 = .ok (.putfield 38, 3) := dk_181 0 38 (dk_at dksX5_ofSide_0 2 rfl rfl)
theorem dX5_ofSide_5 : decode cX5_ofSide 5 = .ok (.iload_n 2, 1) := dk_28 (dk_at dksX5_ofSide_0 5 rfl rfl)
theorem dX5_ofSide_6 : decode cX5_ofSide 6 = .ok (.invokestatic 112, 3) := dk_184 0 112 (dk_at dksX5_ofSide_0 6 rfl rfl)
theorem dX5_ofSide_9 : decode cX5_ofSide 9 = .ok (.ifCond .eq 11, 3) := dk_153 0 11 (dk_at dksX5_ofSide_0 9 rfl rfl)
theorem dX5_ofSide_12 : decode cX5_ofSide 12 = .ok (.aload_n 0, 1) := dk_42 (dk_at dksX5_ofSide_0 12 rfl rfl)
theorem dX5_ofSide_13 : decode cX5_ofSide 13 = .ok (.iconst 1, 1) := dk_4 (dk_at dksX5_ofSide_0 13 rfl rfl)
theorem dX5_ofSide_14 : decode cX5_ofSide 14 = .ok (.invokevirtual 105, 3) := dk_182 0 105 (dk_at dksX5_ofSide_0 14 rfl rfl)
theorem dX5_ofSide_17 : decode cX5_ofSide 17 = .ok (.goto 11, 3) := dk_167 0 11 (dk_at dksX5_ofSide_0 17 rfl rfl)
theorem dX5_ofSide_20 : decode cX5_ofSide 20 = .ok (.aload_n 0, 1) := dk_42 (dk_at dksX5_ofSide_0 20 rfl rfl)
theorem dX5_ofSide_21 : decode cX5_ofSide 21 = .ok (.getfield 7, 3) := dk_180 0 7 (dk_at dksX5_ofSide_0 21 rfl rfl)
theorem dX5_ofSide_24 : decode cX5_ofSide 24 = .ok (.iload_n 1, 1) := dk_27 (dk_at dksX5_ofSide_1 0 rfl rfl)
theorem dX5_ofSide_25 : decode cX5_ofSide 25 = .ok (.iload_n 2, 1) := dk_28 (dk_at dksX5_ofSide_1 1 rfl rfl)
theorem dX5_ofSide_26 : decode cX5_ofSide 26 = .ok (.iadd, 1) := dk_96 (dk_at dksX5_ofSide_1 2 rfl rfl)
theorem dX5_ofSide_27 : decode cX5_ofSide 27 = .ok (.iaload, 1) := dk_46 (dk_at dksX5_ofSide_1 3 rfl rfl)
theorem dX5_ofSide_28 : decode cX5_ofSide 28 = .ok (.ireturn, 1) := dk_172 (dk_at dksX5_ofSide_1 4 rfl rfl)
abbrev cX5_leastOf : ByteArray := prog_10_method_60_code
def yX5_leastOf : MethodName := ⟨RX5, "leastOf", "(I)I"⟩
def dkwX5_leastOf_0 : List UInt8 := [42, 17, 0, 165, 27, 182, 0, 162, 172]
abbrev dktX5_leastOf_0 : List UInt8 := dkwX5_leastOf_0 ++ []
theorem dksX5_leastOf_0 : cX5_leastOf.data.toList.drop 0 = dktX5_leastOf_0 := by decide +kernel
theorem dX5_leastOf_0 : decode cX5_leastOf 0 = .ok (.aload_n 0, 1) := dk_42 (dk_at dksX5_leastOf_0 0 rfl rfl)
theorem dX5_leastOf_1 : decode cX5_leastOf 1 = .ok (.sipush 165, 3) := dk_17 0 165 (dk_at dksX5_leastOf_0 1 rfl rfl)
theorem dX5_leastOf_4 : decode cX5_leastOf 4 = .ok (.iload_n 1, 1) := dk_27 (dk_at dksX5_leastOf_0 4 rfl rfl)
theorem dX5_leastOf_5 : decode cX5_leastOf 5 = .ok (.invokevirtual 162, 3) := dk_182 0 162 (dk_at dksX5_leastOf_0 5 rfl rfl)
theorem dX5_leastOf_8 : decode cX5_leastOf 8 = .ok (.ireturn, 1) := dk_172 (dk_at dksX5_leastOf_0 8 rfl rfl)
abbrev cX5_mostOf : ByteArray := prog_10_method_61_code
def yX5_mostOf : MethodName := ⟨RX5, "mostOf", "(I)I"⟩
def dkwX5_mostOf_0 : List UInt8 := [42, 17, 0, 169, 27, 182, 0, 162, 172]
abbrev dktX5_mostOf_0 : List UInt8 := dkwX5_mostOf_0 ++ []
theorem dksX5_mostOf_0 : cX5_mostOf.data.toList.drop 0 = dktX5_mostOf_0 := by decide +kernel
theorem dX5_mostOf_0 : decode cX5_mostOf 0 = .ok (.aload_n 0, 1) := dk_42 (dk_at dksX5_mostOf_0 0 rfl rfl)
theorem dX5_mostOf_1 : decode cX5_mostOf 1 = .ok (.sipush 169, 3) := dk_17 0 169 (dk_at dksX5_mostOf_0 1 rfl rfl)
theorem dX5_mostOf_4 : decode cX5_mostOf 4 = .ok (.iload_n 1, 1) := dk_27 (dk_at dksX5_mostOf_0 4 rfl rfl)
theorem dX5_mostOf_5 : decode cX5_mostOf 5 = .ok (.invokevirtual 162, 3) := dk_182 0 162 (dk_at dksX5_mostOf_0 5 rfl rfl)
theorem dX5_mostOf_8 : decode cX5_mostOf 8 = .ok (.ireturn, 1) := dk_172 (dk_at dksX5_mostOf_0 8 rfl rfl)
abbrev cX5_weightOf : ByteArray := prog_10_method_62_code
def yX5_weightOf : MethodName := ⟨RX5, "weightOf", "(I)I"⟩
def dkwX5_weightOf_0 : List UInt8 := [42, 17, 0, 173, 27, 182, 0, 162, 172]
abbrev dktX5_weightOf_0 : List UInt8 := dkwX5_weightOf_0 ++ []
theorem dksX5_weightOf_0 : cX5_weightOf.data.toList.drop 0 = dktX5_weightOf_0 := by decide +kernel
theorem dX5_weightOf_0 : decode cX5_weightOf 0 = .ok (.aload_n 0, 1) := dk_42 (dk_at dksX5_weightOf_0 0 rfl rfl)
theorem dX5_weightOf_1 : decode cX5_weightOf 1 = .ok (.sipush 173, 3) := dk_17 0 173 (dk_at dksX5_weightOf_0 1 rfl rfl)
theorem dX5_weightOf_4 : decode cX5_weightOf 4 = .ok (.iload_n 1, 1) := dk_27 (dk_at dksX5_weightOf_0 4 rfl rfl)
theorem dX5_weightOf_5 : decode cX5_weightOf 5 = .ok (.invokevirtual 162, 3) := dk_182 0 162 (dk_at dksX5_weightOf_0 5 rfl rfl)
theorem dX5_weightOf_8 : decode cX5_weightOf 8 = .ok (.ireturn, 1) := dk_172 (dk_at dksX5_weightOf_0 8 rfl rfl)
abbrev cX5_isCounted : ByteArray := prog_10_method_63_code
def yX5_isCounted : MethodName := ⟨RX5, "isCounted", "(I)Z"⟩
def dkwX5_isCounted_1 : List UInt8 := [42, 27, 182, 0, 57, 153, 0, 7, 4, 167, 0, 4, 3, 172]
abbrev dktX5_isCounted_1 : List UInt8 := dkwX5_isCounted_1 ++ []
def dkwX5_isCounted_0 : List UInt8 := [42, 42, 27, 182, 0, 102, 153, 0, 7, 4, 167, 0, 4, 3, 181, 0, 38, 42, 180, 0, 38, 154, 0, 15]
abbrev dktX5_isCounted_0 : List UInt8 := dkwX5_isCounted_0 ++ dktX5_isCounted_1
theorem dksX5_isCounted_0 : cX5_isCounted.data.toList.drop 0 = dktX5_isCounted_0 := by decide +kernel
theorem dksX5_isCounted_1 : cX5_isCounted.data.toList.drop 24 = dktX5_isCounted_1 := dk_seg dksX5_isCounted_0 24 rfl rfl
theorem dX5_isCounted_0 : decode cX5_isCounted 0 = .ok (.aload_n 0, 1) := dk_42 (dk_at dksX5_isCounted_0 0 rfl rfl)
theorem dX5_isCounted_1 : decode cX5_isCounted 1 = .ok (.aload_n 0, 1) := dk_42 (dk_at dksX5_isCounted_0 1 rfl rfl)
theorem dX5_isCounted_2 : decode cX5_isCounted 2 = .ok (.iload_n 1, 1) := dk_27 (dk_at dksX5_isCounted_0 2 rfl rfl)
theorem dX5_isCounted_3 : decode cX5_isCounted 3 = .ok (.invokevirtual 102, 3) := dk_182 0 102 (dk_at dksX5_isCounted_0 3 rfl rfl)
theorem dX5_isCounted_6 : decode cX5_isCounted 6 = .ok (.ifCond .eq 7, 3) := dk_153 0 7 (dk_at dksX5_isCounted_0 6 rfl rfl)
theorem dX5_isCounted_9 : decode cX5_isCounted 9 = .ok (.iconst 1, 1) := dk_4 (dk_at dksX5_isCounted_0 9 rfl rfl)
theorem dX5_isCounted_10 : decode cX5_isCounted 10 = .ok (.goto 4, 3) := dk_167 0 4 (dk_at dksX5_isCounted_0 10 rfl rfl)
theorem dX5_isCounted_13 : decode cX5_isCounted 13 = .ok (.iconst 0, 1) := dk_3 (dk_at dksX5_isCounted_0 13 rfl rfl)
theorem dX5_isCounted_14 : decode cX5_isCounted 14 = .ok (.putfield 38, 3) := dk_181 0 38 (dk_at dksX5_isCounted_0 14 rfl rfl)
theorem dX5_isCounted_17 : decode cX5_isCounted 17 = .ok (.aload_n 0, 1) := dk_42 (dk_at dksX5_isCounted_0 17 rfl rfl)
theorem dX5_isCounted_18 : decode cX5_isCounted 18 = .ok (.getfield 38, 3) := dk_180 0 38 (dk_at dksX5_isCounted_0 18 rfl rfl)
theorem dX5_isCounted_21 : decode cX5_isCounted 21 = .ok (.ifCond .ne 15, 3) := dk_154 0 15 (dk_at dksX5_isCounted_0 21 rfl rfl)
theorem dX5_isCounted_24 : decode cX5_isCounted 24 = .ok (.aload_n 0, 1) := dk_42 (dk_at dksX5_isCounted_1 0 rfl rfl)
theorem dX5_isCounted_25 : decode cX5_isCounted 25 = .ok (.iload_n 1, 1) := dk_27 (dk_at dksX5_isCounted_1 1 rfl rfl)
theorem dX5_isCounted_26 : decode cX5_isCounted 26 = .ok (.invokevirtual 57, 3) := dk_182 0 57 (dk_at dksX5_isCounted_1 2 rfl rfl)
theorem dX5_isCounted_29 : decode cX5_isCounted 29 = .ok (.ifCond .eq 7, 3) := dk_153 0 7 (dk_at dksX5_isCounted_1 5 rfl rfl)
theorem dX5_isCounted_32 : decode cX5_isCounted 32 = .ok (.iconst 1, 1) := dk_4 (dk_at dksX5_isCounted_1 8 rfl rfl)
theorem dX5_isCounted_33 : decode cX5_isCounted 33 = .ok (.goto 4, 3) := dk_167 0 4 (dk_at dksX5_isCounted_1 9 rfl rfl)
theorem dX5_isCounted_36 : decode cX5_isCounted 36 = .ok (.iconst 0, 1) := dk_3 (dk_at dksX5_isCounted_1 12 rfl rfl)
theorem dX5_isCounted_37 : decode cX5_isCounted 37 = .ok (.ireturn, 1) := dk_172 (dk_at dksX5_isCounted_1 13 rfl rfl)
abbrev cX5_counting : ByteArray := prog_10_method_64_code
def yX5_counting : MethodName := ⟨RX5, "counting", "()I"⟩
def dkwX5_counting_0 : List UInt8 := [42, 3, 181, 0, 38, 42, 182, 0, 115, 172]
abbrev dktX5_counting_0 : List UInt8 := dkwX5_counting_0 ++ []
theorem dksX5_counting_0 : cX5_counting.data.toList.drop 0 = dktX5_counting_0 := by decide +kernel
theorem dX5_counting_0 : decode cX5_counting 0 = .ok (.aload_n 0, 1) := dk_42 (dk_at dksX5_counting_0 0 rfl rfl)
theorem dX5_counting_1 : decode cX5_counting 1 = .ok (.iconst 0, 1) := dk_3 (dk_at dksX5_counting_0 1 rfl rfl)
theorem dX5_counting_2 : decode cX5_counting 2 = .ok (.putfield 38, 3) := dk_181 0 38 (dk_at dksX5_counting_0 2 rfl rfl)
theorem dX5_counting_5 : decode cX5_counting 5 = .ok (.aload_n 0, 1) := dk_42 (dk_at dksX5_counting_0 5 rfl rfl)
theorem dX5_counting_6 : decode cX5_counting 6 = .ok (.invokevirtual 115, 3) := dk_182 0 115 (dk_at dksX5_counting_0 6 rfl rfl)
theorem dX5_counting_9 : decode cX5_counting 9 = .ok (.ireturn, 1) := dk_172 (dk_at dksX5_counting_0 9 rfl rfl)
abbrev cX5_beats : ByteArray := prog_10_method_65_code
def yX5_beats : MethodName := ⟨RX5, "beats", "(II)Z"⟩
def dkwX5_beats_2 : List UInt8 := [172]
abbrev dktX5_beats_2 : List UInt8 := dkwX5_beats_2 ++ []
def dkwX5_beats_1 : List UInt8 := [181, 0, 38, 42, 180, 0, 38, 154, 0, 16, 42, 27, 28, 182, 0, 74, 153, 0, 7, 4, 167, 0, 4, 3]
abbrev dktX5_beats_1 : List UInt8 := dkwX5_beats_1 ++ dktX5_beats_2
def dkwX5_beats_0 : List UInt8 := [42, 42, 27, 182, 0, 102, 154, 0, 11, 42, 28, 182, 0, 102, 153, 0, 7, 4, 167, 0, 4, 3]
abbrev dktX5_beats_0 : List UInt8 := dkwX5_beats_0 ++ dktX5_beats_1
theorem dksX5_beats_0 : cX5_beats.data.toList.drop 0 = dktX5_beats_0 := by decide +kernel
theorem dksX5_beats_1 : cX5_beats.data.toList.drop 22 = dktX5_beats_1 := dk_seg dksX5_beats_0 22 rfl rfl
theorem dksX5_beats_2 : cX5_beats.data.toList.drop 46 = dktX5_beats_2 := dk_seg dksX5_beats_1 24 rfl rfl
theorem dX5_beats_0 : decode cX5_beats 0 = .ok (.aload_n 0, 1) := dk_42 (dk_at dksX5_beats_0 0 rfl rfl)
theorem dX5_beats_1 : decode cX5_beats 1 = .ok (.aload_n 0, 1) := dk_42 (dk_at dksX5_beats_0 1 rfl rfl)
theorem dX5_beats_2 : decode cX5_beats 2 = .ok (.iload_n 1, 1) := dk_27 (dk_at dksX5_beats_0 2 rfl rfl)
theorem dX5_beats_3 : decode cX5_beats 3 = .ok (.invokevirtual 102, 3) := dk_182 0 102 (dk_at dksX5_beats_0 3 rfl rfl)
theorem dX5_beats_6 : decode cX5_beats 6 = .ok (.ifCond .ne 11, 3) := dk_154 0 11 (dk_at dksX5_beats_0 6 rfl rfl)
theorem dX5_beats_9 : decode cX5_beats 9 = .ok (.aload_n 0, 1) := dk_42 (dk_at dksX5_beats_0 9 rfl rfl)
theorem dX5_beats_10 : decode cX5_beats 10 = .ok (.iload_n 2, 1) := dk_28 (dk_at dksX5_beats_0 10 rfl rfl)
theorem dX5_beats_11 : decode cX5_beats 11 = .ok (.invokevirtual 102, 3) := dk_182 0 102 (dk_at dksX5_beats_0 11 rfl rfl)
theorem dX5_beats_14 : decode cX5_beats 14 = .ok (.ifCond .eq 7, 3) := dk_153 0 7 (dk_at dksX5_beats_0 14 rfl rfl)
theorem dX5_beats_17 : decode cX5_beats 17 = .ok (.iconst 1, 1) := dk_4 (dk_at dksX5_beats_0 17 rfl rfl)
theorem dX5_beats_18 : decode cX5_beats 18 = .ok (.goto 4, 3) := dk_167 0 4 (dk_at dksX5_beats_0 18 rfl rfl)
theorem dX5_beats_21 : decode cX5_beats 21 = .ok (.iconst 0, 1) := dk_3 (dk_at dksX5_beats_0 21 rfl rfl)
theorem dX5_beats_22 : decode cX5_beats 22 = .ok (.putfield 38, 3) := dk_181 0 38 (dk_at dksX5_beats_1 0 rfl rfl)
theorem dX5_beats_25 : decode cX5_beats 25 = .ok (.aload_n 0, 1) := dk_42 (dk_at dksX5_beats_1 3 rfl rfl)
theorem dX5_beats_26 : decode cX5_beats 26 = .ok (.getfield 38, 3) := dk_180 0 38 (dk_at dksX5_beats_1 4 rfl rfl)
theorem dX5_beats_29 : decode cX5_beats 29 = .ok (.ifCond .ne 16, 3) := dk_154 0 16 (dk_at dksX5_beats_1 7 rfl rfl)
theorem dX5_beats_32 : decode cX5_beats 32 = .ok (.aload_n 0, 1) := dk_42 (dk_at dksX5_beats_1 10 rfl rfl)
theorem dX5_beats_33 : decode cX5_beats 33 = .ok (.iload_n 1, 1) := dk_27 (dk_at dksX5_beats_1 11 rfl rfl)
theorem dX5_beats_34 : decode cX5_beats 34 = .ok (.iload_n 2, 1) := dk_28 (dk_at dksX5_beats_1 12 rfl rfl)
theorem dX5_beats_35 : decode cX5_beats 35 = .ok (.invokevirtual 74, 3) := dk_182 0 74 (dk_at dksX5_beats_1 13 rfl rfl)
theorem dX5_beats_38 : decode cX5_beats 38 = .ok (.ifCond .eq 7, 3) := dk_153 0 7 (dk_at dksX5_beats_1 16 rfl rfl)
theorem dX5_beats_41 : decode cX5_beats 41 = .ok (.iconst 1, 1) := dk_4 (dk_at dksX5_beats_1 19 rfl rfl)
theorem dX5_beats_42 : decode cX5_beats 42 = .ok (.goto 4, 3) := dk_167 0 4 (dk_at dksX5_beats_1 20 rfl rfl)
theorem dX5_beats_45 : decode cX5_beats 45 = .ok (.iconst 0, 1) := dk_3 (dk_at dksX5_beats_1 23 rfl rfl)
theorem dX5_beats_46 : decode cX5_beats 46 = .ok (.ireturn, 1) := dk_172 (dk_at dksX5_beats_2 0 rfl rfl)
abbrev cX5_beat : ByteArray := prog_10_method_17_code
def yX5_beat : MethodName := ⟨RX5, "beat", "(II)Z"⟩
def dkwX5_beat_1 : List UInt8 := [182, 0, 71, 153, 0, 7, 4, 167, 0, 4, 3, 172]
abbrev dktX5_beat_1 : List UInt8 := dkwX5_beat_1 ++ []
def dkwX5_beat_0 : List UInt8 := [42, 27, 182, 0, 57, 153, 0, 28, 42, 28, 182, 0, 57, 153, 0, 20, 42, 27, 28, 42, 182, 0, 67]
abbrev dktX5_beat_0 : List UInt8 := dkwX5_beat_0 ++ dktX5_beat_1
theorem dksX5_beat_0 : cX5_beat.data.toList.drop 0 = dktX5_beat_0 := by decide +kernel
theorem dksX5_beat_1 : cX5_beat.data.toList.drop 23 = dktX5_beat_1 := dk_seg dksX5_beat_0 23 rfl rfl
theorem dX5_beat_0 : decode cX5_beat 0 = .ok (.aload_n 0, 1) := dk_42 (dk_at dksX5_beat_0 0 rfl rfl)
theorem dX5_beat_1 : decode cX5_beat 1 = .ok (.iload_n 1, 1) := dk_27 (dk_at dksX5_beat_0 1 rfl rfl)
theorem dX5_beat_2 : decode cX5_beat 2 = .ok (.invokevirtual 57, 3) := dk_182 0 57 (dk_at dksX5_beat_0 2 rfl rfl)
theorem dX5_beat_5 : decode cX5_beat 5 = .ok (.ifCond .eq 28, 3) := dk_153 0 28 (dk_at dksX5_beat_0 5 rfl rfl)
theorem dX5_beat_8 : decode cX5_beat 8 = .ok (.aload_n 0, 1) := dk_42 (dk_at dksX5_beat_0 8 rfl rfl)
theorem dX5_beat_9 : decode cX5_beat 9 = .ok (.iload_n 2, 1) := dk_28 (dk_at dksX5_beat_0 9 rfl rfl)
theorem dX5_beat_10 : decode cX5_beat 10 = .ok (.invokevirtual 57, 3) := dk_182 0 57 (dk_at dksX5_beat_0 10 rfl rfl)
theorem dX5_beat_13 : decode cX5_beat 13 = .ok (.ifCond .eq 20, 3) := dk_153 0 20 (dk_at dksX5_beat_0 13 rfl rfl)
theorem dX5_beat_16 : decode cX5_beat 16 = .ok (.aload_n 0, 1) := dk_42 (dk_at dksX5_beat_0 16 rfl rfl)
theorem dX5_beat_17 : decode cX5_beat 17 = .ok (.iload_n 1, 1) := dk_27 (dk_at dksX5_beat_0 17 rfl rfl)
theorem dX5_beat_18 : decode cX5_beat 18 = .ok (.iload_n 2, 1) := dk_28 (dk_at dksX5_beat_0 18 rfl rfl)
theorem dX5_beat_19 : decode cX5_beat 19 = .ok (.aload_n 0, 1) := dk_42 (dk_at dksX5_beat_0 19 rfl rfl)
theorem dX5_beat_20 : decode cX5_beat 20 = .ok (.invokevirtual 67, 3) := dk_182 0 67 (dk_at dksX5_beat_0 20 rfl rfl)
theorem dX5_beat_23 : decode cX5_beat 23 = .ok (.invokevirtual 71, 3) := dk_182 0 71 (dk_at dksX5_beat_1 0 rfl rfl)
theorem dX5_beat_26 : decode cX5_beat 26 = .ok (.ifCond .eq 7, 3) := dk_153 0 7 (dk_at dksX5_beat_1 3 rfl rfl)
theorem dX5_beat_29 : decode cX5_beat 29 = .ok (.iconst 1, 1) := dk_4 (dk_at dksX5_beat_1 6 rfl rfl)
theorem dX5_beat_30 : decode cX5_beat 30 = .ok (.goto 4, 3) := dk_167 0 4 (dk_at dksX5_beat_1 7 rfl rfl)
theorem dX5_beat_33 : decode cX5_beat 33 = .ok (.iconst 0, 1) := dk_3 (dk_at dksX5_beat_1 10 rfl rfl)
theorem dX5_beat_34 : decode cX5_beat 34 = .ok (.ireturn, 1) := dk_172 (dk_at dksX5_beat_1 11 rfl rfl)
abbrev cX5_betterOn : ByteArray := prog_10_method_66_code
def yX5_betterOn : MethodName := ⟨RX5, "betterOn", "(II)I"⟩
def dkwX5_betterOn_1 : List UInt8 := [182, 0, 105, 167, 0, 13, 42, 27, 28, 42, 182, 0, 67, 182, 0, 63, 172]
abbrev dktX5_betterOn_1 : List UInt8 := dkwX5_betterOn_1 ++ []
def dkwX5_betterOn_0 : List UInt8 := [42, 3, 181, 0, 38, 42, 27, 182, 0, 102, 154, 0, 11, 42, 28, 182, 0, 102, 153, 0, 11, 42, 4]
abbrev dktX5_betterOn_0 : List UInt8 := dkwX5_betterOn_0 ++ dktX5_betterOn_1
theorem dksX5_betterOn_0 : cX5_betterOn.data.toList.drop 0 = dktX5_betterOn_0 := by decide +kernel
theorem dksX5_betterOn_1 : cX5_betterOn.data.toList.drop 23 = dktX5_betterOn_1 := dk_seg dksX5_betterOn_0 23 rfl rfl
theorem dX5_betterOn_0 : decode cX5_betterOn 0 = .ok (.aload_n 0, 1) := dk_42 (dk_at dksX5_betterOn_0 0 rfl rfl)
theorem dX5_betterOn_1 : decode cX5_betterOn 1 = .ok (.iconst 0, 1) := dk_3 (dk_at dksX5_betterOn_0 1 rfl rfl)
theorem dX5_betterOn_2 : decode cX5_betterOn 2 = .ok (.putfield 38, 3) := dk_181 0 38 (dk_at dksX5_betterOn_0 2 rfl rfl)
theorem dX5_betterOn_5 : decode cX5_betterOn 5 = .ok (.aload_n 0, 1) := dk_42 (dk_at dksX5_betterOn_0 5 rfl rfl)
theorem dX5_betterOn_6 : decode cX5_betterOn 6 = .ok (.iload_n 1, 1) := dk_27 (dk_at dksX5_betterOn_0 6 rfl rfl)
theorem dX5_betterOn_7 : decode cX5_betterOn 7 = .ok (.invokevirtual 102, 3) := dk_182 0 102 (dk_at dksX5_betterOn_0 7 rfl rfl)
theorem dX5_betterOn_10 : decode cX5_betterOn 10 = .ok (.ifCond .ne 11, 3) := dk_154 0 11 (dk_at dksX5_betterOn_0 10 rfl rfl)
theorem dX5_betterOn_13 : decode cX5_betterOn 13 = .ok (.aload_n 0, 1) := dk_42 (dk_at dksX5_betterOn_0 13 rfl rfl)
theorem dX5_betterOn_14 : decode cX5_betterOn 14 = .ok (.iload_n 2, 1) := dk_28 (dk_at dksX5_betterOn_0 14 rfl rfl)
theorem dX5_betterOn_15 : decode cX5_betterOn 15 = .ok (.invokevirtual 102, 3) := dk_182 0 102 (dk_at dksX5_betterOn_0 15 rfl rfl)
theorem dX5_betterOn_18 : decode cX5_betterOn 18 = .ok (.ifCond .eq 11, 3) := dk_153 0 11 (dk_at dksX5_betterOn_0 18 rfl rfl)
theorem dX5_betterOn_21 : decode cX5_betterOn 21 = .ok (.aload_n 0, 1) := dk_42 (dk_at dksX5_betterOn_0 21 rfl rfl)
theorem dX5_betterOn_22 : decode cX5_betterOn 22 = .ok (.iconst 1, 1) := dk_4 (dk_at dksX5_betterOn_0 22 rfl rfl)
theorem dX5_betterOn_23 : decode cX5_betterOn 23 = .ok (.invokevirtual 105, 3) := dk_182 0 105 (dk_at dksX5_betterOn_1 0 rfl rfl)
theorem dX5_betterOn_26 : decode cX5_betterOn 26 = .ok (.goto 13, 3) := dk_167 0 13 (dk_at dksX5_betterOn_1 3 rfl rfl)
theorem dX5_betterOn_29 : decode cX5_betterOn 29 = .ok (.aload_n 0, 1) := dk_42 (dk_at dksX5_betterOn_1 6 rfl rfl)
theorem dX5_betterOn_30 : decode cX5_betterOn 30 = .ok (.iload_n 1, 1) := dk_27 (dk_at dksX5_betterOn_1 7 rfl rfl)
theorem dX5_betterOn_31 : decode cX5_betterOn 31 = .ok (.iload_n 2, 1) := dk_28 (dk_at dksX5_betterOn_1 8 rfl rfl)
theorem dX5_betterOn_32 : decode cX5_betterOn 32 = .ok (.aload_n 0, 1) := dk_42 (dk_at dksX5_betterOn_1 9 rfl rfl)
theorem dX5_betterOn_33 : decode cX5_betterOn 33 = .ok (.invokevirtual 67, 3) := dk_182 0 67 (dk_at dksX5_betterOn_1 10 rfl rfl)
theorem dX5_betterOn_36 : decode cX5_betterOn 36 = .ok (.invokevirtual 63, 3) := dk_182 0 63 (dk_at dksX5_betterOn_1 13 rfl rfl)
theorem dX5_betterOn_39 : decode cX5_betterOn 39 = .ok (.ireturn, 1) := dk_172 (dk_at dksX5_betterOn_1 16 rfl rfl)
abbrev cX5_beatersOf : ByteArray := prog_10_method_67_code
def yX5_beatersOf : MethodName := ⟨RX5, "beatersOf", "(I)I"⟩
def dkwX5_beatersOf_1 : List UInt8 := [182, 0, 165, 172]
abbrev dktX5_beatersOf_1 : List UInt8 := dkwX5_beatersOf_1 ++ []
def dkwX5_beatersOf_0 : List UInt8 := [42, 3, 181, 0, 38, 42, 27, 182, 0, 102, 153, 0, 11, 42, 4, 182, 0, 105, 167, 0, 8, 42, 27]
abbrev dktX5_beatersOf_0 : List UInt8 := dkwX5_beatersOf_0 ++ dktX5_beatersOf_1
theorem dksX5_beatersOf_0 : cX5_beatersOf.data.toList.drop 0 = dktX5_beatersOf_0 := by decide +kernel
theorem dksX5_beatersOf_1 : cX5_beatersOf.data.toList.drop 23 = dktX5_beatersOf_1 := dk_seg dksX5_beatersOf_0 23 rfl rfl
theorem dX5_beatersOf_0 : decode cX5_beatersOf 0 = .ok (.aload_n 0, 1) := dk_42 (dk_at dksX5_beatersOf_0 0 rfl rfl)
theorem dX5_beatersOf_1 : decode cX5_beatersOf 1 = .ok (.iconst 0, 1) := dk_3 (dk_at dksX5_beatersOf_0 1 rfl rfl)
theorem dX5_beatersOf_2 : decode cX5_beatersOf 2 = .ok (.putfield 38, 3) := dk_181 0 38 (dk_at dksX5_beatersOf_0 2 rfl rfl)
theorem dX5_beatersOf_5 : decode cX5_beatersOf 5 = .ok (.aload_n 0, 1) := dk_42 (dk_at dksX5_beatersOf_0 5 rfl rfl)
theorem dX5_beatersOf_6 : decode cX5_beatersOf 6 = .ok (.iload_n 1, 1) := dk_27 (dk_at dksX5_beatersOf_0 6 rfl rfl)
theorem dX5_beatersOf_7 : decode cX5_beatersOf 7 = .ok (.invokevirtual 102, 3) := dk_182 0 102 (dk_at dksX5_beatersOf_0 7 rfl rfl)
theorem dX5_beatersOf_10 : decode cX5_beatersOf 10 = .ok (.ifCond .eq 11, 3) := dk_153 0 11 (dk_at dksX5_beatersOf_0 10 rfl rfl)
theorem dX5_beatersOf_13 : decode cX5_beatersOf 13 = .ok (.aload_n 0, 1) := dk_42 (dk_at dksX5_beatersOf_0 13 rfl rfl)
theorem dX5_beatersOf_14 : decode cX5_beatersOf 14 = .ok (.iconst 1, 1) := dk_4 (dk_at dksX5_beatersOf_0 14 rfl rfl)
theorem dX5_beatersOf_15 : decode cX5_beatersOf 15 = .ok (.invokevirtual 105, 3) := dk_182 0 105 (dk_at dksX5_beatersOf_0 15 rfl rfl)
theorem dX5_beatersOf_18 : decode cX5_beatersOf 18 = .ok (.goto 8, 3) := dk_167 0 8 (dk_at dksX5_beatersOf_0 18 rfl rfl)
theorem dX5_beatersOf_21 : decode cX5_beatersOf 21 = .ok (.aload_n 0, 1) := dk_42 (dk_at dksX5_beatersOf_0 21 rfl rfl)
theorem dX5_beatersOf_22 : decode cX5_beatersOf 22 = .ok (.iload_n 1, 1) := dk_27 (dk_at dksX5_beatersOf_0 22 rfl rfl)
theorem dX5_beatersOf_23 : decode cX5_beatersOf 23 = .ok (.invokevirtual 165, 3) := dk_182 0 165 (dk_at dksX5_beatersOf_1 0 rfl rfl)
theorem dX5_beatersOf_26 : decode cX5_beatersOf 26 = .ok (.ireturn, 1) := dk_172 (dk_at dksX5_beatersOf_1 3 rfl rfl)
abbrev cX5_beaters : ByteArray := prog_10_method_20_code
def yX5_beaters : MethodName := ⟨RX5, "beaters", "(I)I"⟩
def dkwX5_beaters_1 : List UInt8 := [153, 0, 7, 4, 167, 0, 4, 3, 96, 61, 132, 3, 1, 167, 255, 224, 28, 172]
abbrev dktX5_beaters_1 : List UInt8 := dkwX5_beaters_1 ++ []
def dkwX5_beaters_0 : List UInt8 := [3, 61, 3, 62, 29, 42, 180, 0, 7, 17, 0, 160, 46, 162, 0, 26, 28, 42, 29, 27, 182, 0, 74]
abbrev dktX5_beaters_0 : List UInt8 := dkwX5_beaters_0 ++ dktX5_beaters_1
theorem dksX5_beaters_0 : cX5_beaters.data.toList.drop 0 = dktX5_beaters_0 := by decide +kernel
theorem dksX5_beaters_1 : cX5_beaters.data.toList.drop 23 = dktX5_beaters_1 := dk_seg dksX5_beaters_0 23 rfl rfl
theorem dX5_beaters_0 : decode cX5_beaters 0 = .ok (.iconst 0, 1) := dk_3 (dk_at dksX5_beaters_0 0 rfl rfl)
theorem dX5_beaters_1 : decode cX5_beaters 1 = .ok (.istore_n 2, 1) := dk_61 (dk_at dksX5_beaters_0 1 rfl rfl)
theorem dX5_beaters_2 : decode cX5_beaters 2 = .ok (.iconst 0, 1) := dk_3 (dk_at dksX5_beaters_0 2 rfl rfl)
theorem dX5_beaters_3 : decode cX5_beaters 3 = .ok (.istore_n 3, 1) := dk_62 (dk_at dksX5_beaters_0 3 rfl rfl)
theorem dX5_beaters_4 : decode cX5_beaters 4 = .ok (.iload_n 3, 1) := dk_29 (dk_at dksX5_beaters_0 4 rfl rfl)
theorem dX5_beaters_5 : decode cX5_beaters 5 = .ok (.aload_n 0, 1) := dk_42 (dk_at dksX5_beaters_0 5 rfl rfl)
theorem dX5_beaters_6 : decode cX5_beaters 6 = .ok (.getfield 7, 3) := dk_180 0 7 (dk_at dksX5_beaters_0 6 rfl rfl)
theorem dX5_beaters_9 : decode cX5_beaters 9 = .ok (.sipush 160, 3) := dk_17 0 160 (dk_at dksX5_beaters_0 9 rfl rfl)
theorem dX5_beaters_12 : decode cX5_beaters 12 = .ok (.iaload, 1) := dk_46 (dk_at dksX5_beaters_0 12 rfl rfl)
theorem dX5_beaters_13 : decode cX5_beaters 13 = .ok (.if_icmp .ge 26, 3) := dk_162 0 26 (dk_at dksX5_beaters_0 13 rfl rfl)
theorem dX5_beaters_16 : decode cX5_beaters 16 = .ok (.iload_n 2, 1) := dk_28 (dk_at dksX5_beaters_0 16 rfl rfl)
theorem dX5_beaters_17 : decode cX5_beaters 17 = .ok (.aload_n 0, 1) := dk_42 (dk_at dksX5_beaters_0 17 rfl rfl)
theorem dX5_beaters_18 : decode cX5_beaters 18 = .ok (.iload_n 3, 1) := dk_29 (dk_at dksX5_beaters_0 18 rfl rfl)
theorem dX5_beaters_19 : decode cX5_beaters 19 = .ok (.iload_n 1, 1) := dk_27 (dk_at dksX5_beaters_0 19 rfl rfl)
theorem dX5_beaters_20 : decode cX5_beaters 20 = .ok (.invokevirtual 74, 3) := dk_182 0 74 (dk_at dksX5_beaters_0 20 rfl rfl)
theorem dX5_beaters_23 : decode cX5_beaters 23 = .ok (.ifCond .eq 7, 3) := dk_153 0 7 (dk_at dksX5_beaters_1 0 rfl rfl)
theorem dX5_beaters_26 : decode cX5_beaters 26 = .ok (.iconst 1, 1) := dk_4 (dk_at dksX5_beaters_1 3 rfl rfl)
theorem dX5_beaters_27 : decode cX5_beaters 27 = .ok (.goto 4, 3) := dk_167 0 4 (dk_at dksX5_beaters_1 4 rfl rfl)
theorem dX5_beaters_30 : decode cX5_beaters 30 = .ok (.iconst 0, 1) := dk_3 (dk_at dksX5_beaters_1 7 rfl rfl)
theorem dX5_beaters_31 : decode cX5_beaters 31 = .ok (.iadd, 1) := dk_96 (dk_at dksX5_beaters_1 8 rfl rfl)
theorem dX5_beaters_32 : decode cX5_beaters 32 = .ok (.istore_n 2, 1) := dk_61 (dk_at dksX5_beaters_1 9 rfl rfl)
theorem dX5_beaters_33 : decode cX5_beaters 33 = .ok (.iinc 3 1, 3) := dk_132 3 1 (dk_at dksX5_beaters_1 10 rfl rfl)
theorem dX5_beaters_36 : decode cX5_beaters 36 = .ok (.goto (-32), 3) := dk_167 255 224 (dk_at dksX5_beaters_1 13 rfl rfl)
theorem dX5_beaters_39 : decode cX5_beaters 39 = .ok (.iload_n 2, 1) := dk_28 (dk_at dksX5_beaters_1 16 rfl rfl)
theorem dX5_beaters_40 : decode cX5_beaters 40 = .ok (.ireturn, 1) := dk_172 (dk_at dksX5_beaters_1 17 rfl rfl)
abbrev cX5_beatenBy : ByteArray := prog_10_method_68_code
def yX5_beatenBy : MethodName := ⟨RX5, "beatenBy", "(I)I"⟩
def dkwX5_beatenBy_1 : List UInt8 := [182, 0, 168, 172]
abbrev dktX5_beatenBy_1 : List UInt8 := dkwX5_beatenBy_1 ++ []
def dkwX5_beatenBy_0 : List UInt8 := [42, 3, 181, 0, 38, 42, 27, 182, 0, 102, 153, 0, 11, 42, 4, 182, 0, 105, 167, 0, 8, 42, 27]
abbrev dktX5_beatenBy_0 : List UInt8 := dkwX5_beatenBy_0 ++ dktX5_beatenBy_1
theorem dksX5_beatenBy_0 : cX5_beatenBy.data.toList.drop 0 = dktX5_beatenBy_0 := by decide +kernel
theorem dksX5_beatenBy_1 : cX5_beatenBy.data.toList.drop 23 = dktX5_beatenBy_1 := dk_seg dksX5_beatenBy_0 23 rfl rfl
theorem dX5_beatenBy_0 : decode cX5_beatenBy 0 = .ok (.aload_n 0, 1) := dk_42 (dk_at dksX5_beatenBy_0 0 rfl rfl)
theorem dX5_beatenBy_1 : decode cX5_beatenBy 1 = .ok (.iconst 0, 1) := dk_3 (dk_at dksX5_beatenBy_0 1 rfl rfl)
theorem dX5_beatenBy_2 : decode cX5_beatenBy 2 = .ok (.putfield 38, 3) := dk_181 0 38 (dk_at dksX5_beatenBy_0 2 rfl rfl)
theorem dX5_beatenBy_5 : decode cX5_beatenBy 5 = .ok (.aload_n 0, 1) := dk_42 (dk_at dksX5_beatenBy_0 5 rfl rfl)
theorem dX5_beatenBy_6 : decode cX5_beatenBy 6 = .ok (.iload_n 1, 1) := dk_27 (dk_at dksX5_beatenBy_0 6 rfl rfl)
theorem dX5_beatenBy_7 : decode cX5_beatenBy 7 = .ok (.invokevirtual 102, 3) := dk_182 0 102 (dk_at dksX5_beatenBy_0 7 rfl rfl)
theorem dX5_beatenBy_10 : decode cX5_beatenBy 10 = .ok (.ifCond .eq 11, 3) := dk_153 0 11 (dk_at dksX5_beatenBy_0 10 rfl rfl)
theorem dX5_beatenBy_13 : decode cX5_beatenBy 13 = .ok (.aload_n 0, 1) := dk_42 (dk_at dksX5_beatenBy_0 13 rfl rfl)
theorem dX5_beatenBy_14 : decode cX5_beatenBy 14 = .ok (.iconst 1, 1) := dk_4 (dk_at dksX5_beatenBy_0 14 rfl rfl)
theorem dX5_beatenBy_15 : decode cX5_beatenBy 15 = .ok (.invokevirtual 105, 3) := dk_182 0 105 (dk_at dksX5_beatenBy_0 15 rfl rfl)
theorem dX5_beatenBy_18 : decode cX5_beatenBy 18 = .ok (.goto 8, 3) := dk_167 0 8 (dk_at dksX5_beatenBy_0 18 rfl rfl)
theorem dX5_beatenBy_21 : decode cX5_beatenBy 21 = .ok (.aload_n 0, 1) := dk_42 (dk_at dksX5_beatenBy_0 21 rfl rfl)
theorem dX5_beatenBy_22 : decode cX5_beatenBy 22 = .ok (.iload_n 1, 1) := dk_27 (dk_at dksX5_beatenBy_0 22 rfl rfl)
theorem dX5_beatenBy_23 : decode cX5_beatenBy 23 = .ok (.invokevirtual 168, 3) := dk_182 0 168 (dk_at dksX5_beatenBy_1 0 rfl rfl)
theorem dX5_beatenBy_26 : decode cX5_beatenBy 26 = .ok (.ireturn, 1) := dk_172 (dk_at dksX5_beatenBy_1 3 rfl rfl)
abbrev cX5_beaten : ByteArray := prog_10_method_21_code
def yX5_beaten : MethodName := ⟨RX5, "beaten", "(I)I"⟩
def dkwX5_beaten_1 : List UInt8 := [153, 0, 7, 4, 167, 0, 4, 3, 96, 61, 132, 3, 1, 167, 255, 224, 28, 172]
abbrev dktX5_beaten_1 : List UInt8 := dkwX5_beaten_1 ++ []
def dkwX5_beaten_0 : List UInt8 := [3, 61, 3, 62, 29, 42, 180, 0, 7, 17, 0, 160, 46, 162, 0, 26, 28, 42, 27, 29, 182, 0, 74]
abbrev dktX5_beaten_0 : List UInt8 := dkwX5_beaten_0 ++ dktX5_beaten_1
theorem dksX5_beaten_0 : cX5_beaten.data.toList.drop 0 = dktX5_beaten_0 := by decide +kernel
theorem dksX5_beaten_1 : cX5_beaten.data.toList.drop 23 = dktX5_beaten_1 := dk_seg dksX5_beaten_0 23 rfl rfl
theorem dX5_beaten_0 : decode cX5_beaten 0 = .ok (.iconst 0, 1) := dk_3 (dk_at dksX5_beaten_0 0 rfl rfl)
theorem dX5_beaten_1 : decode cX5_beaten 1 = .ok (.istore_n 2, 1) := dk_61 (dk_at dksX5_beaten_0 1 rfl rfl)
theorem dX5_beaten_2 : decode cX5_beaten 2 = .ok (.iconst 0, 1) := dk_3 (dk_at dksX5_beaten_0 2 rfl rfl)
theorem dX5_beaten_3 : decode cX5_beaten 3 = .ok (.istore_n 3, 1) := dk_62 (dk_at dksX5_beaten_0 3 rfl rfl)
theorem dX5_beaten_4 : decode cX5_beaten 4 = .ok (.iload_n 3, 1) := dk_29 (dk_at dksX5_beaten_0 4 rfl rfl)
theorem dX5_beaten_5 : decode cX5_beaten 5 = .ok (.aload_n 0, 1) := dk_42 (dk_at dksX5_beaten_0 5 rfl rfl)
theorem dX5_beaten_6 : decode cX5_beaten 6 = .ok (.getfield 7, 3) := dk_180 0 7 (dk_at dksX5_beaten_0 6 rfl rfl)
theorem dX5_beaten_9 : decode cX5_beaten 9 = .ok (.sipush 160, 3) := dk_17 0 160 (dk_at dksX5_beaten_0 9 rfl rfl)
theorem dX5_beaten_12 : decode cX5_beaten 12 = .ok (.iaload, 1) := dk_46 (dk_at dksX5_beaten_0 12 rfl rfl)
theorem dX5_beaten_13 : decode cX5_beaten 13 = .ok (.if_icmp .ge 26, 3) := dk_162 0 26 (dk_at dksX5_beaten_0 13 rfl rfl)
theorem dX5_beaten_16 : decode cX5_beaten 16 = .ok (.iload_n 2, 1) := dk_28 (dk_at dksX5_beaten_0 16 rfl rfl)
theorem dX5_beaten_17 : decode cX5_beaten 17 = .ok (.aload_n 0, 1) := dk_42 (dk_at dksX5_beaten_0 17 rfl rfl)
theorem dX5_beaten_18 : decode cX5_beaten 18 = .ok (.iload_n 1, 1) := dk_27 (dk_at dksX5_beaten_0 18 rfl rfl)
theorem dX5_beaten_19 : decode cX5_beaten 19 = .ok (.iload_n 3, 1) := dk_29 (dk_at dksX5_beaten_0 19 rfl rfl)
theorem dX5_beaten_20 : decode cX5_beaten 20 = .ok (.invokevirtual 74, 3) := dk_182 0 74 (dk_at dksX5_beaten_0 20 rfl rfl)
theorem dX5_beaten_23 : decode cX5_beaten 23 = .ok (.ifCond .eq 7, 3) := dk_153 0 7 (dk_at dksX5_beaten_1 0 rfl rfl)
theorem dX5_beaten_26 : decode cX5_beaten 26 = .ok (.iconst 1, 1) := dk_4 (dk_at dksX5_beaten_1 3 rfl rfl)
theorem dX5_beaten_27 : decode cX5_beaten 27 = .ok (.goto 4, 3) := dk_167 0 4 (dk_at dksX5_beaten_1 4 rfl rfl)
theorem dX5_beaten_30 : decode cX5_beaten 30 = .ok (.iconst 0, 1) := dk_3 (dk_at dksX5_beaten_1 7 rfl rfl)
theorem dX5_beaten_31 : decode cX5_beaten 31 = .ok (.iadd, 1) := dk_96 (dk_at dksX5_beaten_1 8 rfl rfl)
theorem dX5_beaten_32 : decode cX5_beaten 32 = .ok (.istore_n 2, 1) := dk_61 (dk_at dksX5_beaten_1 9 rfl rfl)
theorem dX5_beaten_33 : decode cX5_beaten 33 = .ok (.iinc 3 1, 3) := dk_132 3 1 (dk_at dksX5_beaten_1 10 rfl rfl)
theorem dX5_beaten_36 : decode cX5_beaten 36 = .ok (.goto (-32), 3) := dk_167 255 224 (dk_at dksX5_beaten_1 13 rfl rfl)
theorem dX5_beaten_39 : decode cX5_beaten 39 = .ok (.iload_n 2, 1) := dk_28 (dk_at dksX5_beaten_1 16 rfl rfl)
theorem dX5_beaten_40 : decode cX5_beaten 40 = .ok (.ireturn, 1) := dk_172 (dk_at dksX5_beaten_1 17 rfl rfl)
abbrev cX5_isToldByPairs : ByteArray := prog_10_method_69_code
def yX5_isToldByPairs : MethodName := ⟨RX5, "isToldByPairs", "(I)Z"⟩
def dkwX5_isToldByPairs_1 : List UInt8 := [42, 27, 182, 0, 171, 153, 0, 7, 4, 167, 0, 4, 3, 172]
abbrev dktX5_isToldByPairs_1 : List UInt8 := dkwX5_isToldByPairs_1 ++ []
def dkwX5_isToldByPairs_0 : List UInt8 := [42, 42, 27, 182, 0, 102, 153, 0, 7, 4, 167, 0, 4, 3, 181, 0, 38, 42, 180, 0, 38, 154, 0, 15]
abbrev dktX5_isToldByPairs_0 : List UInt8 := dkwX5_isToldByPairs_0 ++ dktX5_isToldByPairs_1
theorem dksX5_isToldByPairs_0 : cX5_isToldByPairs.data.toList.drop 0 = dktX5_isToldByPairs_0 := by decide +kernel
theorem dksX5_isToldByPairs_1 : cX5_isToldByPairs.data.toList.drop 24 = dktX5_isToldByPairs_1 := dk_seg dksX5_isToldByPairs_0 24 rfl rfl
theorem dX5_isToldByPairs_0 : decode cX5_isToldByPairs 0 = .ok (.aload_n 0, 1) := dk_42 (dk_at dksX5_isToldByPairs_0 0 rfl rfl)
theorem dX5_isToldByPairs_1 : decode cX5_isToldByPairs 1 = .ok (.aload_n 0, 1) := dk_42 (dk_at dksX5_isToldByPairs_0 1 rfl rfl)
theorem dX5_isToldByPairs_2 : decode cX5_isToldByPairs 2 = .ok (.iload_n 1, 1) := dk_27 (dk_at dksX5_isToldByPairs_0 2 rfl rfl)
theorem dX5_isToldByPairs_3 : decode cX5_isToldByPairs 3 = .ok (.invokevirtual 102, 3) := dk_182 0 102 (dk_at dksX5_isToldByPairs_0 3 rfl rfl)
theorem dX5_isToldByPairs_6 : decode cX5_isToldByPairs 6 = .ok (.ifCond .eq 7, 3) := dk_153 0 7 (dk_at dksX5_isToldByPairs_0 6 rfl rfl)
theorem dX5_isToldByPairs_9 : decode cX5_isToldByPairs 9 = .ok (.iconst 1, 1) := dk_4 (dk_at dksX5_isToldByPairs_0 9 rfl rfl)
theorem dX5_isToldByPairs_10 : decode cX5_isToldByPairs 10 = .ok (.goto 4, 3) := dk_167 0 4 (dk_at dksX5_isToldByPairs_0 10 rfl rfl)
theorem dX5_isToldByPairs_13 : decode cX5_isToldByPairs 13 = .ok (.iconst 0, 1) := dk_3 (dk_at dksX5_isToldByPairs_0 13 rfl rfl)
theorem dX5_isToldByPairs_14 : decode cX5_isToldByPairs 14 = .ok (.putfield 38, 3) := dk_181 0 38 (dk_at dksX5_isToldByPairs_0 14 rfl rfl)
theorem dX5_isToldByPairs_17 : decode cX5_isToldByPairs 17 = .ok (.aload_n 0, 1) := dk_42 (dk_at dksX5_isToldByPairs_0 17 rfl rfl)
theorem dX5_isToldByPairs_18 : decode cX5_isToldByPairs 18 = .ok (.getfield 38, 3) := dk_180 0 38 (dk_at dksX5_isToldByPairs_0 18 rfl rfl)
theorem dX5_isToldByPairs_21 : decode cX5_isToldByPairs 21 = .ok (.ifCond .ne 15, 3) := dk_154 0 15 (dk_at dksX5_isToldByPairs_0 21 rfl rfl)
theorem dX5_isToldByPairs_24 : decode cX5_isToldByPairs 24 = .ok (.aload_n 0, 1) := dk_42 (dk_at dksX5_isToldByPairs_1 0 rfl rfl)
theorem dX5_isToldByPairs_25 : decode cX5_isToldByPairs 25 = .ok (.iload_n 1, 1) := dk_27 (dk_at dksX5_isToldByPairs_1 1 rfl rfl)
theorem dX5_isToldByPairs_26 : decode cX5_isToldByPairs 26 = .ok (.invokevirtual 171, 3) := dk_182 0 171 (dk_at dksX5_isToldByPairs_1 2 rfl rfl)
theorem dX5_isToldByPairs_29 : decode cX5_isToldByPairs 29 = .ok (.ifCond .eq 7, 3) := dk_153 0 7 (dk_at dksX5_isToldByPairs_1 5 rfl rfl)
theorem dX5_isToldByPairs_32 : decode cX5_isToldByPairs 32 = .ok (.iconst 1, 1) := dk_4 (dk_at dksX5_isToldByPairs_1 8 rfl rfl)
theorem dX5_isToldByPairs_33 : decode cX5_isToldByPairs 33 = .ok (.goto 4, 3) := dk_167 0 4 (dk_at dksX5_isToldByPairs_1 9 rfl rfl)
theorem dX5_isToldByPairs_36 : decode cX5_isToldByPairs 36 = .ok (.iconst 0, 1) := dk_3 (dk_at dksX5_isToldByPairs_1 12 rfl rfl)
theorem dX5_isToldByPairs_37 : decode cX5_isToldByPairs 37 = .ok (.ireturn, 1) := dk_172 (dk_at dksX5_isToldByPairs_1 13 rfl rfl)
abbrev cX5_isTold : ByteArray := prog_10_method_19_code
def yX5_isTold : MethodName := ⟨RX5, "isTold", "(I)Z"⟩
def dkwX5_isTold_1 : List UInt8 := [42, 29, 27, 182, 0, 74, 154, 0, 7, 4, 167, 0, 4, 3, 61, 132, 3, 1, 167, 255, 222, 28, 172]
abbrev dktX5_isTold_1 : List UInt8 := dkwX5_isTold_1 ++ []
def dkwX5_isTold_0 : List UInt8 := [42, 27, 182, 0, 57, 61, 3, 62, 29, 42, 180, 0, 7, 17, 0, 160, 46, 162, 0, 28, 28, 153, 0, 24]
abbrev dktX5_isTold_0 : List UInt8 := dkwX5_isTold_0 ++ dktX5_isTold_1
theorem dksX5_isTold_0 : cX5_isTold.data.toList.drop 0 = dktX5_isTold_0 := by decide +kernel
theorem dksX5_isTold_1 : cX5_isTold.data.toList.drop 24 = dktX5_isTold_1 := dk_seg dksX5_isTold_0 24 rfl rfl
theorem dX5_isTold_0 : decode cX5_isTold 0 = .ok (.aload_n 0, 1) := dk_42 (dk_at dksX5_isTold_0 0 rfl rfl)
theorem dX5_isTold_1 : decode cX5_isTold 1 = .ok (.iload_n 1, 1) := dk_27 (dk_at dksX5_isTold_0 1 rfl rfl)
theorem dX5_isTold_2 : decode cX5_isTold 2 = .ok (.invokevirtual 57, 3) := dk_182 0 57 (dk_at dksX5_isTold_0 2 rfl rfl)
theorem dX5_isTold_5 : decode cX5_isTold 5 = .ok (.istore_n 2, 1) := dk_61 (dk_at dksX5_isTold_0 5 rfl rfl)
theorem dX5_isTold_6 : decode cX5_isTold 6 = .ok (.iconst 0, 1) := dk_3 (dk_at dksX5_isTold_0 6 rfl rfl)
theorem dX5_isTold_7 : decode cX5_isTold 7 = .ok (.istore_n 3, 1) := dk_62 (dk_at dksX5_isTold_0 7 rfl rfl)
theorem dX5_isTold_8 : decode cX5_isTold 8 = .ok (.iload_n 3, 1) := dk_29 (dk_at dksX5_isTold_0 8 rfl rfl)
theorem dX5_isTold_9 : decode cX5_isTold 9 = .ok (.aload_n 0, 1) := dk_42 (dk_at dksX5_isTold_0 9 rfl rfl)
theorem dX5_isTold_10 : decode cX5_isTold 10 = .ok (.getfield 7, 3) := dk_180 0 7 (dk_at dksX5_isTold_0 10 rfl rfl)
theorem dX5_isTold_13 : decode cX5_isTold 13 = .ok (.sipush 160, 3) := dk_17 0 160 (dk_at dksX5_isTold_0 13 rfl rfl)
theorem dX5_isTold_16 : decode cX5_isTold 16 = .ok (.iaload, 1) := dk_46 (dk_at dksX5_isTold_0 16 rfl rfl)
theorem dX5_isTold_17 : decode cX5_isTold 17 = .ok (.if_icmp .ge 28, 3) := dk_162 0 28 (dk_at dksX5_isTold_0 17 rfl rfl)
theorem dX5_isTold_20 : decode cX5_isTold 20 = .ok (.iload_n 2, 1) := dk_28 (dk_at dksX5_isTold_0 20 rfl rfl)
theorem dX5_isTold_21 : decode cX5_isTold 21 = .ok (.ifCond .eq 24, 3) := dk_153 0 24 (dk_at dksX5_isTold_0 21 rfl rfl)
theorem dX5_isTold_24 : decode cX5_isTold 24 = .ok (.aload_n 0, 1) := dk_42 (dk_at dksX5_isTold_1 0 rfl rfl)
theorem dX5_isTold_25 : decode cX5_isTold 25 = .ok (.iload_n 3, 1) := dk_29 (dk_at dksX5_isTold_1 1 rfl rfl)
theorem dX5_isTold_26 : decode cX5_isTold 26 = .ok (.iload_n 1, 1) := dk_27 (dk_at dksX5_isTold_1 2 rfl rfl)
theorem dX5_isTold_27 : decode cX5_isTold 27 = .ok (.invokevirtual 74, 3) := dk_182 0 74 (dk_at dksX5_isTold_1 3 rfl rfl)
theorem dX5_isTold_30 : decode cX5_isTold 30 = .ok (.ifCond .ne 7, 3) := dk_154 0 7 (dk_at dksX5_isTold_1 6 rfl rfl)
theorem dX5_isTold_33 : decode cX5_isTold 33 = .ok (.iconst 1, 1) := dk_4 (dk_at dksX5_isTold_1 9 rfl rfl)
theorem dX5_isTold_34 : decode cX5_isTold 34 = .ok (.goto 4, 3) := dk_167 0 4 (dk_at dksX5_isTold_1 10 rfl rfl)
theorem dX5_isTold_37 : decode cX5_isTold 37 = .ok (.iconst 0, 1) := dk_3 (dk_at dksX5_isTold_1 13 rfl rfl)
theorem dX5_isTold_38 : decode cX5_isTold 38 = .ok (.istore_n 2, 1) := dk_61 (dk_at dksX5_isTold_1 14 rfl rfl)
theorem dX5_isTold_39 : decode cX5_isTold 39 = .ok (.iinc 3 1, 3) := dk_132 3 1 (dk_at dksX5_isTold_1 15 rfl rfl)
theorem dX5_isTold_42 : decode cX5_isTold 42 = .ok (.goto (-34), 3) := dk_167 255 222 (dk_at dksX5_isTold_1 18 rfl rfl)
theorem dX5_isTold_45 : decode cX5_isTold 45 = .ok (.iload_n 2, 1) := dk_28 (dk_at dksX5_isTold_1 21 rfl rfl)
theorem dX5_isTold_46 : decode cX5_isTold 46 = .ok (.ireturn, 1) := dk_172 (dk_at dksX5_isTold_1 22 rfl rfl)
abbrev cX5_isToldByWindow : ByteArray := prog_10_method_70_code
def yX5_isToldByWindow : MethodName := ⟨RX5, "isToldByWindow", "(I)Z"⟩
def dkwX5_isToldByWindow_1 : List UInt8 := [42, 27, 182, 0, 171, 153, 0, 7, 4, 167, 0, 4, 3, 172]
abbrev dktX5_isToldByWindow_1 : List UInt8 := dkwX5_isToldByWindow_1 ++ []
def dkwX5_isToldByWindow_0 : List UInt8 := [42, 42, 27, 182, 0, 102, 153, 0, 7, 4, 167, 0, 4, 3, 181, 0, 38, 42, 180, 0, 38, 154, 0, 15]
abbrev dktX5_isToldByWindow_0 : List UInt8 := dkwX5_isToldByWindow_0 ++ dktX5_isToldByWindow_1
theorem dksX5_isToldByWindow_0 : cX5_isToldByWindow.data.toList.drop 0 = dktX5_isToldByWindow_0 := by decide +kernel
theorem dksX5_isToldByWindow_1 : cX5_isToldByWindow.data.toList.drop 24 = dktX5_isToldByWindow_1 := dk_seg dksX5_isToldByWindow_0 24 rfl rfl
theorem dX5_isToldByWindow_0 : decode cX5_isToldByWindow 0 = .ok (.aload_n 0, 1) := dk_42 (dk_at dksX5_isToldByWindow_0 0 rfl rfl)
theorem dX5_isToldByWindow_1 : decode cX5_isToldByWindow 1 = .ok (.aload_n 0, 1) := dk_42 (dk_at dksX5_isToldByWindow_0 1 rfl rfl)
theorem dX5_isToldByWindow_2 : decode cX5_isToldByWindow 2 = .ok (.iload_n 1, 1) := dk_27 (dk_at dksX5_isToldByWindow_0 2 rfl rfl)
theorem dX5_isToldByWindow_3 : decode cX5_isToldByWindow 3 = .ok (.invokevirtual 102, 3) := dk_182 0 102 (dk_at dksX5_isToldByWindow_0 3 rfl rfl)
theorem dX5_isToldByWindow_6 : decode cX5_isToldByWindow 6 = .ok (.ifCond .eq 7, 3) := dk_153 0 7 (dk_at dksX5_isToldByWindow_0 6 rfl rfl)
theorem dX5_isToldByWindow_9 : decode cX5_isToldByWindow 9 = .ok (.iconst 1, 1) := dk_4 (dk_at dksX5_isToldByWindow_0 9 rfl rfl)
theorem dX5_isToldByWindow_10 : decode cX5_isToldByWindow 10 = .ok (.goto 4, 3) := dk_167 0 4 (dk_at dksX5_isToldByWindow_0 10 rfl rfl)
theorem dX5_isToldByWindow_13 : decode cX5_isToldByWindow 13 = .ok (.iconst 0, 1) := dk_3 (dk_at dksX5_isToldByWindow_0 13 rfl rfl)
theorem dX5_isToldByWindow_14 : decode cX5_isToldByWindow 14 = .ok (.putfield 38, 3) := dk_181 0 38 (dk_at dksX5_isToldByWindow_0 14 rfl rfl)
theorem dX5_isToldByWindow_17 : decode cX5_isToldByWindow 17 = .ok (.aload_n 0, 1) := dk_42 (dk_at dksX5_isToldByWindow_0 17 rfl rfl)
theorem dX5_isToldByWindow_18 : decode cX5_isToldByWindow 18 = .ok (.getfield 38, 3) := dk_180 0 38 (dk_at dksX5_isToldByWindow_0 18 rfl rfl)
theorem dX5_isToldByWindow_21 : decode cX5_isToldByWindow 21 = .ok (.ifCond .ne 15, 3) := dk_154 0 15 (dk_at dksX5_isToldByWindow_0 21 rfl rfl)
theorem dX5_isToldByWindow_24 : decode cX5_isToldByWindow 24 = .ok (.aload_n 0, 1) := dk_42 (dk_at dksX5_isToldByWindow_1 0 rfl rfl)
theorem dX5_isToldByWindow_25 : decode cX5_isToldByWindow 25 = .ok (.iload_n 1, 1) := dk_27 (dk_at dksX5_isToldByWindow_1 1 rfl rfl)
theorem dX5_isToldByWindow_26 : decode cX5_isToldByWindow 26 = .ok (.invokevirtual 171, 3) := dk_182 0 171 (dk_at dksX5_isToldByWindow_1 2 rfl rfl)
theorem dX5_isToldByWindow_29 : decode cX5_isToldByWindow 29 = .ok (.ifCond .eq 7, 3) := dk_153 0 7 (dk_at dksX5_isToldByWindow_1 5 rfl rfl)
theorem dX5_isToldByWindow_32 : decode cX5_isToldByWindow 32 = .ok (.iconst 1, 1) := dk_4 (dk_at dksX5_isToldByWindow_1 8 rfl rfl)
theorem dX5_isToldByWindow_33 : decode cX5_isToldByWindow 33 = .ok (.goto 4, 3) := dk_167 0 4 (dk_at dksX5_isToldByWindow_1 9 rfl rfl)
theorem dX5_isToldByWindow_36 : decode cX5_isToldByWindow 36 = .ok (.iconst 0, 1) := dk_3 (dk_at dksX5_isToldByWindow_1 12 rfl rfl)
theorem dX5_isToldByWindow_37 : decode cX5_isToldByWindow 37 = .ok (.ireturn, 1) := dk_172 (dk_at dksX5_isToldByWindow_1 13 rfl rfl)
abbrev cX5_toldByPairs : ByteArray := prog_10_method_71_code
def yX5_toldByPairs : MethodName := ⟨RX5, "toldByPairs", "()I"⟩
def dkwX5_toldByPairs_0 : List UInt8 := [42, 3, 181, 0, 38, 42, 42, 182, 0, 67, 182, 0, 78, 172]
abbrev dktX5_toldByPairs_0 : List UInt8 := dkwX5_toldByPairs_0 ++ []
theorem dksX5_toldByPairs_0 : cX5_toldByPairs.data.toList.drop 0 = dktX5_toldByPairs_0 := by decide +kernel
theorem dX5_toldByPairs_0 : decode cX5_toldByPairs 0 = .ok (.aload_n 0, 1) := dk_42 (dk_at dksX5_toldByPairs_0 0 rfl rfl)
theorem dX5_toldByPairs_1 : decode cX5_toldByPairs 1 = .ok (.iconst 0, 1) := dk_3 (dk_at dksX5_toldByPairs_0 1 rfl rfl)
theorem dX5_toldByPairs_2 : decode cX5_toldByPairs 2 = .ok (.putfield 38, 3) := dk_181 0 38 (dk_at dksX5_toldByPairs_0 2 rfl rfl)
theorem dX5_toldByPairs_5 : decode cX5_toldByPairs 5 = .ok (.aload_n 0, 1) := dk_42 (dk_at dksX5_toldByPairs_0 5 rfl rfl)
theorem dX5_toldByPairs_6 : decode cX5_toldByPairs 6 = .ok (.aload_n 0, 1) := dk_42 (dk_at dksX5_toldByPairs_0 6 rfl rfl)
theorem dX5_toldByPairs_7 : decode cX5_toldByPairs 7 = .ok (.invokevirtual 67, 3) := dk_182 0 67 (dk_at dksX5_toldByPairs_0 7 rfl rfl)
theorem dX5_toldByPairs_10 : decode cX5_toldByPairs 10 = .ok (.invokevirtual 78, 3) := dk_182 0 78 (dk_at dksX5_toldByPairs_0 10 rfl rfl)
theorem dX5_toldByPairs_13 : decode cX5_toldByPairs 13 = .ok (.ireturn, 1) := dk_172 (dk_at dksX5_toldByPairs_0 13 rfl rfl)
abbrev cX5_toldBySums : ByteArray := prog_10_method_72_code
def yX5_toldBySums : MethodName := ⟨RX5, "toldBySums", "()I"⟩
def dkwX5_toldBySums_0 : List UInt8 := [42, 3, 181, 0, 38, 42, 42, 182, 0, 67, 182, 0, 78, 172]
abbrev dktX5_toldBySums_0 : List UInt8 := dkwX5_toldBySums_0 ++ []
theorem dksX5_toldBySums_0 : cX5_toldBySums.data.toList.drop 0 = dktX5_toldBySums_0 := by decide +kernel
theorem dX5_toldBySums_0 : decode cX5_toldBySums 0 = .ok (.aload_n 0, 1) := dk_42 (dk_at dksX5_toldBySums_0 0 rfl rfl)
theorem dX5_toldBySums_1 : decode cX5_toldBySums 1 = .ok (.iconst 0, 1) := dk_3 (dk_at dksX5_toldBySums_0 1 rfl rfl)
theorem dX5_toldBySums_2 : decode cX5_toldBySums 2 = .ok (.putfield 38, 3) := dk_181 0 38 (dk_at dksX5_toldBySums_0 2 rfl rfl)
theorem dX5_toldBySums_5 : decode cX5_toldBySums 5 = .ok (.aload_n 0, 1) := dk_42 (dk_at dksX5_toldBySums_0 5 rfl rfl)
theorem dX5_toldBySums_6 : decode cX5_toldBySums 6 = .ok (.aload_n 0, 1) := dk_42 (dk_at dksX5_toldBySums_0 6 rfl rfl)
theorem dX5_toldBySums_7 : decode cX5_toldBySums 7 = .ok (.invokevirtual 67, 3) := dk_182 0 67 (dk_at dksX5_toldBySums_0 7 rfl rfl)
theorem dX5_toldBySums_10 : decode cX5_toldBySums 10 = .ok (.invokevirtual 78, 3) := dk_182 0 78 (dk_at dksX5_toldBySums_0 10 rfl rfl)
theorem dX5_toldBySums_13 : decode cX5_toldBySums 13 = .ok (.ireturn, 1) := dk_172 (dk_at dksX5_toldBySums_0 13 rfl rfl)
abbrev cX5_toldAt : ByteArray := prog_10_method_73_code
def yX5_toldAt : MethodName := ⟨RX5, "toldAt", "(I)I"⟩
def dkwX5_toldAt_3 : List UInt8 := [182, 0, 105, 172]
abbrev dktX5_toldAt_3 : List UInt8 := dkwX5_toldAt_3 ++ []
def dkwX5_toldAt_2 : List UInt8 := [42, 180, 0, 25, 29, 51, 153, 0, 7, 4, 167, 0, 4, 3, 96, 61, 132, 3, 1, 167, 255, 208, 42, 4]
abbrev dktX5_toldAt_2 : List UInt8 := dkwX5_toldAt_2 ++ dktX5_toldAt_3
def dkwX5_toldAt_1 : List UInt8 := [17, 0, 160, 46, 162, 0, 42, 42, 180, 0, 25, 29, 51, 153, 0, 10, 28, 27, 160, 0, 5, 29, 172, 28]
abbrev dktX5_toldAt_1 : List UInt8 := dkwX5_toldAt_1 ++ dktX5_toldAt_2
def dkwX5_toldAt_0 : List UInt8 := [42, 3, 181, 0, 38, 42, 42, 182, 0, 67, 182, 0, 78, 87, 3, 61, 3, 62, 29, 42, 180, 0, 7]
abbrev dktX5_toldAt_0 : List UInt8 := dkwX5_toldAt_0 ++ dktX5_toldAt_1
theorem dksX5_toldAt_0 : cX5_toldAt.data.toList.drop 0 = dktX5_toldAt_0 := by decide +kernel
theorem dksX5_toldAt_1 : cX5_toldAt.data.toList.drop 23 = dktX5_toldAt_1 := dk_seg dksX5_toldAt_0 23 rfl rfl
theorem dksX5_toldAt_2 : cX5_toldAt.data.toList.drop 47 = dktX5_toldAt_2 := dk_seg dksX5_toldAt_1 24 rfl rfl
theorem dksX5_toldAt_3 : cX5_toldAt.data.toList.drop 71 = dktX5_toldAt_3 := dk_seg dksX5_toldAt_2 24 rfl rfl
theorem dX5_toldAt_0 : decode cX5_toldAt 0 = .ok (.aload_n 0, 1) := dk_42 (dk_at dksX5_toldAt_0 0 rfl rfl)
theorem dX5_toldAt_1 : decode cX5_toldAt 1 = .ok (.iconst 0, 1) := dk_3 (dk_at dksX5_toldAt_0 1 rfl rfl)
theorem dX5_toldAt_2 : decode cX5_toldAt 2 = .ok (.putfield 38, 3) := dk_181 0 38 (dk_at dksX5_toldAt_0 2 rfl rfl)
theorem dX5_toldAt_5 : decode cX5_toldAt 5 = .ok (.aload_n 0, 1) := dk_42 (dk_at dksX5_toldAt_0 5 rfl rfl)
theorem dX5_toldAt_6 : decode cX5_toldAt 6 = .ok (.aload_n 0, 1) := dk_42 (dk_at dksX5_toldAt_0 6 rfl rfl)
theorem dX5_toldAt_7 : decode cX5_toldAt 7 = .ok (.invokevirtual 67, 3) := dk_182 0 67 (dk_at dksX5_toldAt_0 7 rfl rfl)
theorem dX5_toldAt_10 : decode cX5_toldAt 10 = .ok (.invokevirtual 78, 3) := dk_182 0 78 (dk_at dksX5_toldAt_0 10 rfl rfl)
theorem dX5_toldAt_13 : decode cX5_toldAt 13 = .ok (.pop, 1) := dk_87 (dk_at dksX5_toldAt_0 13 rfl rfl)
theorem dX5_toldAt_14 : decode cX5_toldAt 14 = .ok (.iconst 0, 1) := dk_3 (dk_at dksX5_toldAt_0 14 rfl rfl)
theorem dX5_toldAt_15 : decode cX5_toldAt 15 = .ok (.istore_n 2, 1) := dk_61 (dk_at dksX5_toldAt_0 15 rfl rfl)
theorem dX5_toldAt_16 : decode cX5_toldAt 16 = .ok (.iconst 0, 1) := dk_3 (dk_at dksX5_toldAt_0 16 rfl rfl)
theorem dX5_toldAt_17 : decode cX5_toldAt 17 = .ok (.istore_n 3, 1) := dk_62 (dk_at dksX5_toldAt_0 17 rfl rfl)
theorem dX5_toldAt_18 : decode cX5_toldAt 18 = .ok (.iload_n 3, 1) := dk_29 (dk_at dksX5_toldAt_0 18 rfl rfl)
theorem dX5_toldAt_19 : decode cX5_toldAt 19 = .ok (.aload_n 0, 1) := dk_42 (dk_at dksX5_toldAt_0 19 rfl rfl)
theorem dX5_toldAt_20 : decode cX5_toldAt 20 = .ok (.getfield 7, 3) := dk_180 0 7 (dk_at dksX5_toldAt_0 20 rfl rfl)
theorem dX5_toldAt_23 : decode cX5_toldAt 23 = .ok (.sipush 160, 3) := dk_17 0 160 (dk_at dksX5_toldAt_1 0 rfl rfl)
theorem dX5_toldAt_26 : decode cX5_toldAt 26 = .ok (.iaload, 1) := dk_46 (dk_at dksX5_toldAt_1 3 rfl rfl)
theorem dX5_toldAt_27 : decode cX5_toldAt 27 = .ok (.if_icmp .ge 42, 3) := dk_162 0 42 (dk_at dksX5_toldAt_1 4 rfl rfl)
theorem dX5_toldAt_30 : decode cX5_toldAt 30 = .ok (.aload_n 0, 1) := dk_42 (dk_at dksX5_toldAt_1 7 rfl rfl)
theorem dX5_toldAt_31 : decode cX5_toldAt 31 = .ok (.getfield 25, 3) := dk_180 0 25 (dk_at dksX5_toldAt_1 8 rfl rfl)
theorem dX5_toldAt_34 : decode cX5_toldAt 34 = .ok (.iload_n 3, 1) := dk_29 (dk_at dksX5_toldAt_1 11 rfl rfl)
theorem dX5_toldAt_35 : decode cX5_toldAt 35 = .ok (.baload, 1) := dk_51 (dk_at dksX5_toldAt_1 12 rfl rfl)
theorem dX5_toldAt_36 : decode cX5_toldAt 36 = .ok (.ifCond .eq 10, 3) := dk_153 0 10 (dk_at dksX5_toldAt_1 13 rfl rfl)
theorem dX5_toldAt_39 : decode cX5_toldAt 39 = .ok (.iload_n 2, 1) := dk_28 (dk_at dksX5_toldAt_1 16 rfl rfl)
theorem dX5_toldAt_40 : decode cX5_toldAt 40 = .ok (.iload_n 1, 1) := dk_27 (dk_at dksX5_toldAt_1 17 rfl rfl)
theorem dX5_toldAt_41 : decode cX5_toldAt 41 = .ok (.if_icmp .ne 5, 3) := dk_160 0 5 (dk_at dksX5_toldAt_1 18 rfl rfl)
theorem dX5_toldAt_44 : decode cX5_toldAt 44 = .ok (.iload_n 3, 1) := dk_29 (dk_at dksX5_toldAt_1 21 rfl rfl)
theorem dX5_toldAt_45 : decode cX5_toldAt 45 = .ok (.ireturn, 1) := dk_172 (dk_at dksX5_toldAt_1 22 rfl rfl)
theorem dX5_toldAt_46 : decode cX5_toldAt 46 = .ok (.iload_n 2, 1) := dk_28 (dk_at dksX5_toldAt_1 23 rfl rfl)
theorem dX5_toldAt_47 : decode cX5_toldAt 47 = .ok (.aload_n 0, 1) := dk_42 (dk_at dksX5_toldAt_2 0 rfl rfl)
theorem dX5_toldAt_48 : decode cX5_toldAt 48 = .ok (.getfield 25, 3) := dk_180 0 25 (dk_at dksX5_toldAt_2 1 rfl rfl)
theorem dX5_toldAt_51 : decode cX5_toldAt 51 = .ok (.iload_n 3, 1) := dk_29 (dk_at dksX5_toldAt_2 4 rfl rfl)
theorem dX5_toldAt_52 : decode cX5_toldAt 52 = .ok (.baload, 1) := dk_51 (dk_at dksX5_toldAt_2 5 rfl rfl)
theorem dX5_toldAt_53 : decode cX5_toldAt 53 = .ok (.ifCond .eq 7, 3) := dk_153 0 7 (dk_at dksX5_toldAt_2 6 rfl rfl)
theorem dX5_toldAt_56 : decode cX5_toldAt 56 = .ok (.iconst 1, 1) := dk_4 (dk_at dksX5_toldAt_2 9 rfl rfl)
theorem dX5_toldAt_57 : decode cX5_toldAt 57 = .ok (.goto 4, 3) := dk_167 0 4 (dk_at dksX5_toldAt_2 10 rfl rfl)
theorem dX5_toldAt_60 : decode cX5_toldAt 60 = .ok (.iconst 0, 1) := dk_3 (dk_at dksX5_toldAt_2 13 rfl rfl)
theorem dX5_toldAt_61 : decode cX5_toldAt 61 = .ok (.iadd, 1) := dk_96 (dk_at dksX5_toldAt_2 14 rfl rfl)
theorem dX5_toldAt_62 : decode cX5_toldAt 62 = .ok (.istore_n 2, 1) := dk_61 (dk_at dksX5_toldAt_2 15 rfl rfl)
theorem dX5_toldAt_63 : decode cX5_toldAt 63 = .ok (.iinc 3 1, 3) := dk_132 3 1 (dk_at dksX5_toldAt_2 16 rfl rfl)
theorem dX5_toldAt_66 : decode cX5_toldAt 66 = .ok (.goto (-48), 3) := dk_167 255 208 (dk_at dksX5_toldAt_2 19 rfl rfl)
theorem dX5_toldAt_69 : decode cX5_toldAt 69 = .ok (.aload_n 0, 1) := dk_42 (dk_at dksX5_toldAt_2 22 rfl rfl)
theorem dX5_toldAt_70 : decode cX5_toldAt 70 = .ok (.iconst 1, 1) := dk_4 (dk_at dksX5_toldAt_2 23 rfl rfl)
theorem dX5_toldAt_71 : decode cX5_toldAt 71 = .ok (.invokevirtual 105, 3) := dk_182 0 105 (dk_at dksX5_toldAt_3 0 rfl rfl)
theorem dX5_toldAt_74 : decode cX5_toldAt 74 = .ok (.ireturn, 1) := dk_172 (dk_at dksX5_toldAt_3 3 rfl rfl)
abbrev cX5_layerByPeeling : ByteArray := prog_10_method_74_code
def yX5_layerByPeeling : MethodName := ⟨RX5, "layerByPeeling", "(I)I"⟩
def dkwX5_layerByPeeling_1 : List UInt8 := [42, 180, 0, 32, 27, 46, 172]
abbrev dktX5_layerByPeeling_1 : List UInt8 := dkwX5_layerByPeeling_1 ++ []
def dkwX5_layerByPeeling_0 : List UInt8 := [42, 3, 181, 0, 38, 42, 27, 182, 0, 102, 153, 0, 9, 42, 4, 182, 0, 105, 172, 42, 182, 0, 174, 87]
abbrev dktX5_layerByPeeling_0 : List UInt8 := dkwX5_layerByPeeling_0 ++ dktX5_layerByPeeling_1
theorem dksX5_layerByPeeling_0 : cX5_layerByPeeling.data.toList.drop 0 = dktX5_layerByPeeling_0 := by decide +kernel
theorem dksX5_layerByPeeling_1 : cX5_layerByPeeling.data.toList.drop 24 = dktX5_layerByPeeling_1 := dk_seg dksX5_layerByPeeling_0 24 rfl rfl
theorem dX5_layerByPeeling_0 : decode cX5_layerByPeeling 0 = .ok (.aload_n 0, 1) := dk_42 (dk_at dksX5_layerByPeeling_0 0 rfl rfl)
theorem dX5_layerByPeeling_1 : decode cX5_layerByPeeling 1 = .ok (.iconst 0, 1) := dk_3 (dk_at dksX5_layerByPeeling_0 1 rfl rfl)
theorem dX5_layerByPeeling_2 : decode cX5_layerByPeeling 2 = .ok (.putfield 38, 3) := dk_181 0 38 (dk_at dksX5_layerByPeeling_0 2 rfl rfl)
theorem dX5_layerByPeeling_5 : decode cX5_layerByPeeling 5 = .ok (.aload_n 0, 1) := dk_42 (dk_at dksX5_layerByPeeling_0 5 rfl rfl)
theorem dX5_layerByPeeling_6 : decode cX5_layerByPeeling 6 = .ok (.iload_n 1, 1) := dk_27 (dk_at dksX5_layerByPeeling_0 6 rfl rfl)
theorem dX5_layerByPeeling_7 : decode cX5_layerByPeeling 7 = .ok (.invokevirtual 102, 3) := dk_182 0 102 (dk_at dksX5_layerByPeeling_0 7 rfl rfl)
theorem dX5_layerByPeeling_10 : decode cX5_layerByPeeling 10 = .ok (.ifCond .eq 9, 3) := dk_153 0 9 (dk_at dksX5_layerByPeeling_0 10 rfl rfl)
theorem dX5_layerByPeeling_13 : decode cX5_layerByPeeling 13 = .ok (.aload_n 0, 1) := dk_42 (dk_at dksX5_layerByPeeling_0 13 rfl rfl)
theorem dX5_layerByPeeling_14 : decode cX5_layerByPeeling 14 = .ok (.iconst 1, 1) := dk_4 (dk_at dksX5_layerByPeeling_0 14 rfl rfl)
theorem dX5_layerByPeeling_15 : decode cX5_layerByPeeling 15 = .ok (.invokevirtual 105, 3) := dk_182 0 105 (dk_at dksX5_layerByPeeling_0 15 rfl rfl)
theorem dX5_layerByPeeling_18 : decode cX5_layerByPeeling 18 = .ok (.ireturn, 1) := dk_172 (dk_at dksX5_layerByPeeling_0 18 rfl rfl)
theorem dX5_layerByPeeling_19 : decode cX5_layerByPeeling 19 = .ok (.aload_n 0, 1) := dk_42 (dk_at dksX5_layerByPeeling_0 19 rfl rfl)
theorem dX5_layerByPeeling_20 : decode cX5_layerByPeeling 20 = .ok (.invokevirtual 174, 3) := dk_182 0 174 (dk_at dksX5_layerByPeeling_0 20 rfl rfl)
theorem dX5_layerByPeeling_23 : decode cX5_layerByPeeling 23 = .ok (.pop, 1) := dk_87 (dk_at dksX5_layerByPeeling_0 23 rfl rfl)
theorem dX5_layerByPeeling_24 : decode cX5_layerByPeeling 24 = .ok (.aload_n 0, 1) := dk_42 (dk_at dksX5_layerByPeeling_1 0 rfl rfl)
theorem dX5_layerByPeeling_25 : decode cX5_layerByPeeling 25 = .ok (.getfield 32, 3) := dk_180 0 32 (dk_at dksX5_layerByPeeling_1 1 rfl rfl)
theorem dX5_layerByPeeling_28 : decode cX5_layerByPeeling 28 = .ok (.iload_n 1, 1) := dk_27 (dk_at dksX5_layerByPeeling_1 4 rfl rfl)
theorem dX5_layerByPeeling_29 : decode cX5_layerByPeeling 29 = .ok (.iaload, 1) := dk_46 (dk_at dksX5_layerByPeeling_1 5 rfl rfl)
theorem dX5_layerByPeeling_30 : decode cX5_layerByPeeling 30 = .ok (.ireturn, 1) := dk_172 (dk_at dksX5_layerByPeeling_1 6 rfl rfl)
abbrev cX5_peel : ByteArray := prog_10_method_22_code
def yX5_peel : MethodName := ⟨RX5, "peel", "()I"⟩
def dkwX5_peel_8 : List UInt8 := [167, 255, 131, 28, 172]
abbrev dktX5_peel_8 : List UInt8 := dkwX5_peel_8 ++ []
def dkwX5_peel_7 : List UInt8 := [167, 255, 196, 21, 4, 153, 0, 13, 42, 180, 0, 32, 29, 28, 79, 132, 1, 255, 132, 3, 1, 167, 255, 143]
abbrev dktX5_peel_7 : List UInt8 := dkwX5_peel_7 ++ dktX5_peel_8
def dkwX5_peel_6 : List UInt8 := [160, 0, 13, 42, 21, 5, 29, 182, 0, 74, 154, 0, 7, 4, 167, 0, 4, 3, 54, 4, 132, 5, 1]
abbrev dktX5_peel_6 : List UInt8 := dkwX5_peel_6 ++ dktX5_peel_7
def dkwX5_peel_5 : List UInt8 := [153, 0, 48, 42, 180, 0, 32, 21, 5, 46, 2, 159, 0, 14, 42, 180, 0, 32, 21, 5, 46, 28]
abbrev dktX5_peel_5 : List UInt8 := dkwX5_peel_5 ++ dktX5_peel_6
def dkwX5_peel_4 : List UInt8 := [167, 0, 4, 3, 54, 4, 3, 54, 5, 21, 5, 42, 180, 0, 7, 17, 0, 160, 46, 162, 0, 53, 21, 4]
abbrev dktX5_peel_4 : List UInt8 := dkwX5_peel_4 ++ dktX5_peel_5
def dkwX5_peel_3 : List UInt8 := [42, 180, 0, 7, 17, 0, 160, 46, 162, 0, 107, 42, 180, 0, 32, 29, 46, 2, 160, 0, 7, 4]
abbrev dktX5_peel_3 : List UInt8 := dkwX5_peel_3 ++ dktX5_peel_4
def dkwX5_peel_2 : List UInt8 := [167, 0, 4, 3, 96, 60, 132, 2, 1, 167, 255, 206, 3, 61, 27, 158, 0, 127, 132, 2, 1, 3, 62, 29]
abbrev dktX5_peel_2 : List UInt8 := dkwX5_peel_2 ++ dktX5_peel_3
def dkwX5_peel_1 : List UInt8 := [182, 0, 57, 153, 0, 7, 2, 167, 0, 4, 3, 79, 27, 42, 28, 182, 0, 57, 153, 0, 7, 4]
abbrev dktX5_peel_1 : List UInt8 := dkwX5_peel_1 ++ dktX5_peel_2
def dkwX5_peel_0 : List UInt8 := [3, 60, 3, 61, 28, 42, 180, 0, 7, 17, 0, 160, 46, 162, 0, 44, 42, 180, 0, 32, 28, 42, 28]
abbrev dktX5_peel_0 : List UInt8 := dkwX5_peel_0 ++ dktX5_peel_1
theorem dksX5_peel_0 : cX5_peel.data.toList.drop 0 = dktX5_peel_0 := by decide +kernel
theorem dksX5_peel_1 : cX5_peel.data.toList.drop 23 = dktX5_peel_1 := dk_seg dksX5_peel_0 23 rfl rfl
theorem dksX5_peel_2 : cX5_peel.data.toList.drop 45 = dktX5_peel_2 := dk_seg dksX5_peel_1 22 rfl rfl
theorem dksX5_peel_3 : cX5_peel.data.toList.drop 69 = dktX5_peel_3 := dk_seg dksX5_peel_2 24 rfl rfl
theorem dksX5_peel_4 : cX5_peel.data.toList.drop 91 = dktX5_peel_4 := dk_seg dksX5_peel_3 22 rfl rfl
theorem dksX5_peel_5 : cX5_peel.data.toList.drop 115 = dktX5_peel_5 := dk_seg dksX5_peel_4 24 rfl rfl
theorem dksX5_peel_6 : cX5_peel.data.toList.drop 137 = dktX5_peel_6 := dk_seg dksX5_peel_5 22 rfl rfl
theorem dksX5_peel_7 : cX5_peel.data.toList.drop 160 = dktX5_peel_7 := dk_seg dksX5_peel_6 23 rfl rfl
theorem dksX5_peel_8 : cX5_peel.data.toList.drop 184 = dktX5_peel_8 := dk_seg dksX5_peel_7 24 rfl rfl
theorem dX5_peel_0 : decode cX5_peel 0 = .ok (.iconst 0, 1) := dk_3 (dk_at dksX5_peel_0 0 rfl rfl)
theorem dX5_peel_1 : decode cX5_peel 1 = .ok (.istore_n 1, 1) := dk_60 (dk_at dksX5_peel_0 1 rfl rfl)
theorem dX5_peel_2 : decode cX5_peel 2 = .ok (.iconst 0, 1) := dk_3 (dk_at dksX5_peel_0 2 rfl rfl)
theorem dX5_peel_3 : decode cX5_peel 3 = .ok (.istore_n 2, 1) := dk_61 (dk_at dksX5_peel_0 3 rfl rfl)
theorem dX5_peel_4 : decode cX5_peel 4 = .ok (.iload_n 2, 1) := dk_28 (dk_at dksX5_peel_0 4 rfl rfl)
theorem dX5_peel_5 : decode cX5_peel 5 = .ok (.aload_n 0, 1) := dk_42 (dk_at dksX5_peel_0 5 rfl rfl)
theorem dX5_peel_6 : decode cX5_peel 6 = .ok (.getfield 7, 3) := dk_180 0 7 (dk_at dksX5_peel_0 6 rfl rfl)
theorem dX5_peel_9 : decode cX5_peel 9 = .ok (.sipush 160, 3) := dk_17 0 160 (dk_at dksX5_peel_0 9 rfl rfl)
theorem dX5_peel_12 : decode cX5_peel 12 = .ok (.iaload, 1) := dk_46 (dk_at dksX5_peel_0 12 rfl rfl)
theorem dX5_peel_13 : decode cX5_peel 13 = .ok (.if_icmp .ge 44, 3) := dk_162 0 44 (dk_at dksX5_peel_0 13 rfl rfl)
theorem dX5_peel_16 : decode cX5_peel 16 = .ok (.aload_n 0, 1) := dk_42 (dk_at dksX5_peel_0 16 rfl rfl)
theorem dX5_peel_17 : decode cX5_peel 17 = .ok (.getfield 32, 3) := dk_180 0 32 (dk_at dksX5_peel_0 17 rfl rfl)
theorem dX5_peel_20 : decode cX5_peel 20 = .ok (.iload_n 2, 1) := dk_28 (dk_at dksX5_peel_0 20 rfl rfl)
theorem dX5_peel_21 : decode cX5_peel 21 = .ok (.aload_n 0, 1) := dk_42 (dk_at dksX5_peel_0 21 rfl rfl)
theorem dX5_peel_22 : decode cX5_peel 22 = .ok (.iload_n 2, 1) := dk_28 (dk_at dksX5_peel_0 22 rfl rfl)
theorem dX5_peel_23 : decode cX5_peel 23 = .ok (.invokevirtual 57, 3) := dk_182 0 57 (dk_at dksX5_peel_1 0 rfl rfl)
theorem dX5_peel_26 : decode cX5_peel 26 = .ok (.ifCond .eq 7, 3) := dk_153 0 7 (dk_at dksX5_peel_1 3 rfl rfl)
theorem dX5_peel_29 : decode cX5_peel 29 = .ok (.iconst (-1), 1) := dk_2 (dk_at dksX5_peel_1 6 rfl rfl)
theorem dX5_peel_30 : decode cX5_peel 30 = .ok (.goto 4, 3) := dk_167 0 4 (dk_at dksX5_peel_1 7 rfl rfl)
theorem dX5_peel_33 : decode cX5_peel 33 = .ok (.iconst 0, 1) := dk_3 (dk_at dksX5_peel_1 10 rfl rfl)
theorem dX5_peel_34 : decode cX5_peel 34 = .ok (.iastore, 1) := dk_79 (dk_at dksX5_peel_1 11 rfl rfl)
theorem dX5_peel_35 : decode cX5_peel 35 = .ok (.iload_n 1, 1) := dk_27 (dk_at dksX5_peel_1 12 rfl rfl)
theorem dX5_peel_36 : decode cX5_peel 36 = .ok (.aload_n 0, 1) := dk_42 (dk_at dksX5_peel_1 13 rfl rfl)
theorem dX5_peel_37 : decode cX5_peel 37 = .ok (.iload_n 2, 1) := dk_28 (dk_at dksX5_peel_1 14 rfl rfl)
theorem dX5_peel_38 : decode cX5_peel 38 = .ok (.invokevirtual 57, 3) := dk_182 0 57 (dk_at dksX5_peel_1 15 rfl rfl)
theorem dX5_peel_41 : decode cX5_peel 41 = .ok (.ifCond .eq 7, 3) := dk_153 0 7 (dk_at dksX5_peel_1 18 rfl rfl)
theorem dX5_peel_44 : decode cX5_peel 44 = .ok (.iconst 1, 1) := dk_4 (dk_at dksX5_peel_1 21 rfl rfl)
theorem dX5_peel_45 : decode cX5_peel 45 = .ok (.goto 4, 3) := dk_167 0 4 (dk_at dksX5_peel_2 0 rfl rfl)
theorem dX5_peel_48 : decode cX5_peel 48 = .ok (.iconst 0, 1) := dk_3 (dk_at dksX5_peel_2 3 rfl rfl)
theorem dX5_peel_49 : decode cX5_peel 49 = .ok (.iadd, 1) := dk_96 (dk_at dksX5_peel_2 4 rfl rfl)
theorem dX5_peel_50 : decode cX5_peel 50 = .ok (.istore_n 1, 1) := dk_60 (dk_at dksX5_peel_2 5 rfl rfl)
theorem dX5_peel_51 : decode cX5_peel 51 = .ok (.iinc 2 1, 3) := dk_132 2 1 (dk_at dksX5_peel_2 6 rfl rfl)
theorem dX5_peel_54 : decode cX5_peel 54 = .ok (.goto (-50), 3) := dk_167 255 206 (dk_at dksX5_peel_2 9 rfl rfl)
theorem dX5_peel_57 : decode cX5_peel 57 = .ok (.iconst 0, 1) := dk_3 (dk_at dksX5_peel_2 12 rfl rfl)
theorem dX5_peel_58 : decode cX5_peel 58 = .ok (.istore_n 2, 1) := dk_61 (dk_at dksX5_peel_2 13 rfl rfl)
theorem dX5_peel_59 : decode cX5_peel 59 = .ok (.iload_n 1, 1) := dk_27 (dk_at dksX5_peel_2 14 rfl rfl)
theorem dX5_peel_60 : decode cX5_peel 60 = .ok (.ifCond .le 127, 3) := dk_158 0 127 (dk_at dksX5_peel_2 15 rfl rfl)
theorem dX5_peel_63 : decode cX5_peel 63 = .ok (.iinc 2 1, 3) := dk_132 2 1 (dk_at dksX5_peel_2 18 rfl rfl)
theorem dX5_peel_66 : decode cX5_peel 66 = .ok (.iconst 0, 1) := dk_3 (dk_at dksX5_peel_2 21 rfl rfl)
theorem dX5_peel_67 : decode cX5_peel 67 = .ok (.istore_n 3, 1) := dk_62 (dk_at dksX5_peel_2 22 rfl rfl)
theorem dX5_peel_68 : decode cX5_peel 68 = .ok (.iload_n 3, 1) := dk_29 (dk_at dksX5_peel_2 23 rfl rfl)
theorem dX5_peel_69 : decode cX5_peel 69 = .ok (.aload_n 0, 1) := dk_42 (dk_at dksX5_peel_3 0 rfl rfl)
theorem dX5_peel_70 : decode cX5_peel 70 = .ok (.getfield 7, 3) := dk_180 0 7 (dk_at dksX5_peel_3 1 rfl rfl)
theorem dX5_peel_73 : decode cX5_peel 73 = .ok (.sipush 160, 3) := dk_17 0 160 (dk_at dksX5_peel_3 4 rfl rfl)
theorem dX5_peel_76 : decode cX5_peel 76 = .ok (.iaload, 1) := dk_46 (dk_at dksX5_peel_3 7 rfl rfl)
theorem dX5_peel_77 : decode cX5_peel 77 = .ok (.if_icmp .ge 107, 3) := dk_162 0 107 (dk_at dksX5_peel_3 8 rfl rfl)
theorem dX5_peel_80 : decode cX5_peel 80 = .ok (.aload_n 0, 1) := dk_42 (dk_at dksX5_peel_3 11 rfl rfl)
theorem dX5_peel_81 : decode cX5_peel 81 = .ok (.getfield 32, 3) := dk_180 0 32 (dk_at dksX5_peel_3 12 rfl rfl)
theorem dX5_peel_84 : decode cX5_peel 84 = .ok (.iload_n 3, 1) := dk_29 (dk_at dksX5_peel_3 15 rfl rfl)
theorem dX5_peel_85 : decode cX5_peel 85 = .ok (.iaload, 1) := dk_46 (dk_at dksX5_peel_3 16 rfl rfl)
theorem dX5_peel_86 : decode cX5_peel 86 = .ok (.iconst (-1), 1) := dk_2 (dk_at dksX5_peel_3 17 rfl rfl)
theorem dX5_peel_87 : decode cX5_peel 87 = .ok (.if_icmp .ne 7, 3) := dk_160 0 7 (dk_at dksX5_peel_3 18 rfl rfl)
theorem dX5_peel_90 : decode cX5_peel 90 = .ok (.iconst 1, 1) := dk_4 (dk_at dksX5_peel_3 21 rfl rfl)
theorem dX5_peel_91 : decode cX5_peel 91 = .ok (.goto 4, 3) := dk_167 0 4 (dk_at dksX5_peel_4 0 rfl rfl)
theorem dX5_peel_94 : decode cX5_peel 94 = .ok (.iconst 0, 1) := dk_3 (dk_at dksX5_peel_4 3 rfl rfl)
theorem dX5_peel_95 : decode cX5_peel 95 = .ok (.istore 4, 2) := dk_54 4 (dk_at dksX5_peel_4 4 rfl rfl)
theorem dX5_peel_97 : decode cX5_peel 97 = .ok (.iconst 0, 1) := dk_3 (dk_at dksX5_peel_4 6 rfl rfl)
theorem dX5_peel_98 : decode cX5_peel 98 = .ok (.istore 5, 2) := dk_54 5 (dk_at dksX5_peel_4 7 rfl rfl)
theorem dX5_peel_100 : decode cX5_peel 100 = .ok (.iload 5, 2) := dk_21 5 (dk_at dksX5_peel_4 9 rfl rfl)
theorem dX5_peel_102 : decode cX5_peel 102 = .ok (.aload_n 0, 1) := dk_42 (dk_at dksX5_peel_4 11 rfl rfl)
theorem dX5_peel_103 : decode cX5_peel 103 = .ok (.getfield 7, 3) := dk_180 0 7 (dk_at dksX5_peel_4 12 rfl rfl)
theorem dX5_peel_106 : decode cX5_peel 106 = .ok (.sipush 160, 3) := dk_17 0 160 (dk_at dksX5_peel_4 15 rfl rfl)
theorem dX5_peel_109 : decode cX5_peel 109 = .ok (.iaload, 1) := dk_46 (dk_at dksX5_peel_4 18 rfl rfl)
theorem dX5_peel_110 : decode cX5_peel 110 = .ok (.if_icmp .ge 53, 3) := dk_162 0 53 (dk_at dksX5_peel_4 19 rfl rfl)
theorem dX5_peel_113 : decode cX5_peel 113 = .ok (.iload 4, 2) := dk_21 4 (dk_at dksX5_peel_4 22 rfl rfl)
theorem dX5_peel_115 : decode cX5_peel 115 = .ok (.ifCond .eq 48, 3) := dk_153 0 48 (dk_at dksX5_peel_5 0 rfl rfl)
theorem dX5_peel_118 : decode cX5_peel 118 = .ok (.aload_n 0, 1) := dk_42 (dk_at dksX5_peel_5 3 rfl rfl)
theorem dX5_peel_119 : decode cX5_peel 119 = .ok (.getfield 32, 3) := dk_180 0 32 (dk_at dksX5_peel_5 4 rfl rfl)
theorem dX5_peel_122 : decode cX5_peel 122 = .ok (.iload 5, 2) := dk_21 5 (dk_at dksX5_peel_5 7 rfl rfl)
theorem dX5_peel_124 : decode cX5_peel 124 = .ok (.iaload, 1) := dk_46 (dk_at dksX5_peel_5 9 rfl rfl)
theorem dX5_peel_125 : decode cX5_peel 125 = .ok (.iconst (-1), 1) := dk_2 (dk_at dksX5_peel_5 10 rfl rfl)
theorem dX5_peel_126 : decode cX5_peel 126 = .ok (.if_icmp .eq 14, 3) := dk_159 0 14 (dk_at dksX5_peel_5 11 rfl rfl)
theorem dX5_peel_129 : decode cX5_peel 129 = .ok (.aload_n 0, 1) := dk_42 (dk_at dksX5_peel_5 14 rfl rfl)
theorem dX5_peel_130 : decode cX5_peel 130 = .ok (.getfield 32, 3) := dk_180 0 32 (dk_at dksX5_peel_5 15 rfl rfl)
theorem dX5_peel_133 : decode cX5_peel 133 = .ok (.iload 5, 2) := dk_21 5 (dk_at dksX5_peel_5 18 rfl rfl)
theorem dX5_peel_135 : decode cX5_peel 135 = .ok (.iaload, 1) := dk_46 (dk_at dksX5_peel_5 20 rfl rfl)
theorem dX5_peel_136 : decode cX5_peel 136 = .ok (.iload_n 2, 1) := dk_28 (dk_at dksX5_peel_5 21 rfl rfl)
theorem dX5_peel_137 : decode cX5_peel 137 = .ok (.if_icmp .ne 13, 3) := dk_160 0 13 (dk_at dksX5_peel_6 0 rfl rfl)
theorem dX5_peel_140 : decode cX5_peel 140 = .ok (.aload_n 0, 1) := dk_42 (dk_at dksX5_peel_6 3 rfl rfl)
theorem dX5_peel_141 : decode cX5_peel 141 = .ok (.iload 5, 2) := dk_21 5 (dk_at dksX5_peel_6 4 rfl rfl)
theorem dX5_peel_143 : decode cX5_peel 143 = .ok (.iload_n 3, 1) := dk_29 (dk_at dksX5_peel_6 6 rfl rfl)
theorem dX5_peel_144 : decode cX5_peel 144 = .ok (.invokevirtual 74, 3) := dk_182 0 74 (dk_at dksX5_peel_6 7 rfl rfl)
theorem dX5_peel_147 : decode cX5_peel 147 = .ok (.ifCond .ne 7, 3) := dk_154 0 7 (dk_at dksX5_peel_6 10 rfl rfl)
theorem dX5_peel_150 : decode cX5_peel 150 = .ok (.iconst 1, 1) := dk_4 (dk_at dksX5_peel_6 13 rfl rfl)
theorem dX5_peel_151 : decode cX5_peel 151 = .ok (.goto 4, 3) := dk_167 0 4 (dk_at dksX5_peel_6 14 rfl rfl)
theorem dX5_peel_154 : decode cX5_peel 154 = .ok (.iconst 0, 1) := dk_3 (dk_at dksX5_peel_6 17 rfl rfl)
theorem dX5_peel_155 : decode cX5_peel 155 = .ok (.istore 4, 2) := dk_54 4 (dk_at dksX5_peel_6 18 rfl rfl)
theorem dX5_peel_157 : decode cX5_peel 157 = .ok (.iinc 5 1, 3) := dk_132 5 1 (dk_at dksX5_peel_6 20 rfl rfl)
theorem dX5_peel_160 : decode cX5_peel 160 = .ok (.goto (-60), 3) := dk_167 255 196 (dk_at dksX5_peel_7 0 rfl rfl)
theorem dX5_peel_163 : decode cX5_peel 163 = .ok (.iload 4, 2) := dk_21 4 (dk_at dksX5_peel_7 3 rfl rfl)
theorem dX5_peel_165 : decode cX5_peel 165 = .ok (.ifCond .eq 13, 3) := dk_153 0 13 (dk_at dksX5_peel_7 5 rfl rfl)
theorem dX5_peel_168 : decode cX5_peel 168 = .ok (.aload_n 0, 1) := dk_42 (dk_at dksX5_peel_7 8 rfl rfl)
theorem dX5_peel_169 : decode cX5_peel 169 = .ok (.getfield 32, 3) := dk_180 0 32 (dk_at dksX5_peel_7 9 rfl rfl)
theorem dX5_peel_172 : decode cX5_peel 172 = .ok (.iload_n 3, 1) := dk_29 (dk_at dksX5_peel_7 12 rfl rfl)
theorem dX5_peel_173 : decode cX5_peel 173 = .ok (.iload_n 2, 1) := dk_28 (dk_at dksX5_peel_7 13 rfl rfl)
theorem dX5_peel_174 : decode cX5_peel 174 = .ok (.iastore, 1) := dk_79 (dk_at dksX5_peel_7 14 rfl rfl)
theorem dX5_peel_175 : decode cX5_peel 175 = .ok (.iinc 1 (-1), 3) := dk_132 1 255 (dk_at dksX5_peel_7 15 rfl rfl)
theorem dX5_peel_178 : decode cX5_peel 178 = .ok (.iinc 3 1, 3) := dk_132 3 1 (dk_at dksX5_peel_7 18 rfl rfl)
theorem dX5_peel_181 : decode cX5_peel 181 = .ok (.goto (-113), 3) := dk_167 255 143 (dk_at dksX5_peel_7 21 rfl rfl)
theorem dX5_peel_184 : decode cX5_peel 184 = .ok (.goto (-125), 3) := dk_167 255 131 (dk_at dksX5_peel_8 0 rfl rfl)
theorem dX5_peel_187 : decode cX5_peel 187 = .ok (.iload_n 2, 1) := dk_28 (dk_at dksX5_peel_8 3 rfl rfl)
theorem dX5_peel_188 : decode cX5_peel 188 = .ok (.ireturn, 1) := dk_172 (dk_at dksX5_peel_8 4 rfl rfl)
abbrev cX5_layerByRows : ByteArray := prog_10_method_75_code
def yX5_layerByRows : MethodName := ⟨RX5, "layerByRows", "(I)I"⟩
def dkwX5_layerByRows_0 : List UInt8 := [42, 27, 182, 0, 177, 172]
abbrev dktX5_layerByRows_0 : List UInt8 := dkwX5_layerByRows_0 ++ []
theorem dksX5_layerByRows_0 : cX5_layerByRows.data.toList.drop 0 = dktX5_layerByRows_0 := by decide +kernel
theorem dX5_layerByRows_0 : decode cX5_layerByRows 0 = .ok (.aload_n 0, 1) := dk_42 (dk_at dksX5_layerByRows_0 0 rfl rfl)
theorem dX5_layerByRows_1 : decode cX5_layerByRows 1 = .ok (.iload_n 1, 1) := dk_27 (dk_at dksX5_layerByRows_0 1 rfl rfl)
theorem dX5_layerByRows_2 : decode cX5_layerByRows 2 = .ok (.invokevirtual 177, 3) := dk_182 0 177 (dk_at dksX5_layerByRows_0 2 rfl rfl)
theorem dX5_layerByRows_5 : decode cX5_layerByRows 5 = .ok (.ireturn, 1) := dk_172 (dk_at dksX5_layerByRows_0 5 rfl rfl)
abbrev cX5_layers : ByteArray := prog_10_method_76_code
def yX5_layers : MethodName := ⟨RX5, "layers", "()I"⟩
def dkwX5_layers_0 : List UInt8 := [42, 3, 181, 0, 38, 42, 182, 0, 174, 172]
abbrev dktX5_layers_0 : List UInt8 := dkwX5_layers_0 ++ []
theorem dksX5_layers_0 : cX5_layers.data.toList.drop 0 = dktX5_layers_0 := by decide +kernel
theorem dX5_layers_0 : decode cX5_layers 0 = .ok (.aload_n 0, 1) := dk_42 (dk_at dksX5_layers_0 0 rfl rfl)
theorem dX5_layers_1 : decode cX5_layers 1 = .ok (.iconst 0, 1) := dk_3 (dk_at dksX5_layers_0 1 rfl rfl)
theorem dX5_layers_2 : decode cX5_layers 2 = .ok (.putfield 38, 3) := dk_181 0 38 (dk_at dksX5_layers_0 2 rfl rfl)
theorem dX5_layers_5 : decode cX5_layers 5 = .ok (.aload_n 0, 1) := dk_42 (dk_at dksX5_layers_0 5 rfl rfl)
theorem dX5_layers_6 : decode cX5_layers 6 = .ok (.invokevirtual 174, 3) := dk_182 0 174 (dk_at dksX5_layers_0 6 rfl rfl)
theorem dX5_layers_9 : decode cX5_layers 9 = .ok (.ireturn, 1) := dk_172 (dk_at dksX5_layers_0 9 rfl rfl)
abbrev cX5_inLayer : ByteArray := prog_10_method_77_code
def yX5_inLayer : MethodName := ⟨RX5, "inLayer", "(I)I"⟩
def dkwX5_inLayer_2 : List UInt8 := [4, 167, 0, 4, 3, 96, 61, 132, 3, 1, 167, 255, 223, 28, 172]
abbrev dktX5_inLayer_2 : List UInt8 := dkwX5_inLayer_2 ++ []
def dkwX5_inLayer_1 : List UInt8 := [62, 29, 42, 180, 0, 7, 17, 0, 160, 46, 162, 0, 27, 28, 42, 180, 0, 32, 29, 46, 27, 160, 0, 7]
abbrev dktX5_inLayer_1 : List UInt8 := dkwX5_inLayer_1 ++ dktX5_inLayer_2
def dkwX5_inLayer_0 : List UInt8 := [42, 3, 181, 0, 38, 27, 4, 162, 0, 9, 42, 4, 182, 0, 105, 172, 42, 182, 0, 174, 87, 3, 61, 3]
abbrev dktX5_inLayer_0 : List UInt8 := dkwX5_inLayer_0 ++ dktX5_inLayer_1
theorem dksX5_inLayer_0 : cX5_inLayer.data.toList.drop 0 = dktX5_inLayer_0 := by decide +kernel
theorem dksX5_inLayer_1 : cX5_inLayer.data.toList.drop 24 = dktX5_inLayer_1 := dk_seg dksX5_inLayer_0 24 rfl rfl
theorem dksX5_inLayer_2 : cX5_inLayer.data.toList.drop 48 = dktX5_inLayer_2 := dk_seg dksX5_inLayer_1 24 rfl rfl
theorem dX5_inLayer_0 : decode cX5_inLayer 0 = .ok (.aload_n 0, 1) := dk_42 (dk_at dksX5_inLayer_0 0 rfl rfl)
theorem dX5_inLayer_1 : decode cX5_inLayer 1 = .ok (.iconst 0, 1) := dk_3 (dk_at dksX5_inLayer_0 1 rfl rfl)
theorem dX5_inLayer_2 : decode cX5_inLayer 2 = .ok (.putfield 38, 3) := dk_181 0 38 (dk_at dksX5_inLayer_0 2 rfl rfl)
theorem dX5_inLayer_5 : decode cX5_inLayer 5 = .ok (.iload_n 1, 1) := dk_27 (dk_at dksX5_inLayer_0 5 rfl rfl)
theorem dX5_inLayer_6 : decode cX5_inLayer 6 = .ok (.iconst 1, 1) := dk_4 (dk_at dksX5_inLayer_0 6 rfl rfl)
theorem dX5_inLayer_7 : decode cX5_inLayer 7 = .ok (.if_icmp .ge 9, 3) := dk_162 0 9 (dk_at dksX5_inLayer_0 7 rfl rfl)
theorem dX5_inLayer_10 : decode cX5_inLayer 10 = .ok (.aload_n 0, 1) := dk_42 (dk_at dksX5_inLayer_0 10 rfl rfl)
theorem dX5_inLayer_11 : decode cX5_inLayer 11 = .ok (.iconst 1, 1) := dk_4 (dk_at dksX5_inLayer_0 11 rfl rfl)
theorem dX5_inLayer_12 : decode cX5_inLayer 12 = .ok (.invokevirtual 105, 3) := dk_182 0 105 (dk_at dksX5_inLayer_0 12 rfl rfl)
theorem dX5_inLayer_15 : decode cX5_inLayer 15 = .ok (.ireturn, 1) := dk_172 (dk_at dksX5_inLayer_0 15 rfl rfl)
theorem dX5_inLayer_16 : decode cX5_inLayer 16 = .ok (.aload_n 0, 1) := dk_42 (dk_at dksX5_inLayer_0 16 rfl rfl)
theorem dX5_inLayer_17 : decode cX5_inLayer 17 = .ok (.invokevirtual 174, 3) := dk_182 0 174 (dk_at dksX5_inLayer_0 17 rfl rfl)
theorem dX5_inLayer_20 : decode cX5_inLayer 20 = .ok (.pop, 1) := dk_87 (dk_at dksX5_inLayer_0 20 rfl rfl)
theorem dX5_inLayer_21 : decode cX5_inLayer 21 = .ok (.iconst 0, 1) := dk_3 (dk_at dksX5_inLayer_0 21 rfl rfl)
theorem dX5_inLayer_22 : decode cX5_inLayer 22 = .ok (.istore_n 2, 1) := dk_61 (dk_at dksX5_inLayer_0 22 rfl rfl)
theorem dX5_inLayer_23 : decode cX5_inLayer 23 = .ok (.iconst 0, 1) := dk_3 (dk_at dksX5_inLayer_0 23 rfl rfl)
theorem dX5_inLayer_24 : decode cX5_inLayer 24 = .ok (.istore_n 3, 1) := dk_62 (dk_at dksX5_inLayer_1 0 rfl rfl)
theorem dX5_inLayer_25 : decode cX5_inLayer 25 = .ok (.iload_n 3, 1) := dk_29 (dk_at dksX5_inLayer_1 1 rfl rfl)
theorem dX5_inLayer_26 : decode cX5_inLayer 26 = .ok (.aload_n 0, 1) := dk_42 (dk_at dksX5_inLayer_1 2 rfl rfl)
theorem dX5_inLayer_27 : decode cX5_inLayer 27 = .ok (.getfield 7, 3) := dk_180 0 7 (dk_at dksX5_inLayer_1 3 rfl rfl)
theorem dX5_inLayer_30 : decode cX5_inLayer 30 = .ok (.sipush 160, 3) := dk_17 0 160 (dk_at dksX5_inLayer_1 6 rfl rfl)
theorem dX5_inLayer_33 : decode cX5_inLayer 33 = .ok (.iaload, 1) := dk_46 (dk_at dksX5_inLayer_1 9 rfl rfl)
theorem dX5_inLayer_34 : decode cX5_inLayer 34 = .ok (.if_icmp .ge 27, 3) := dk_162 0 27 (dk_at dksX5_inLayer_1 10 rfl rfl)
theorem dX5_inLayer_37 : decode cX5_inLayer 37 = .ok (.iload_n 2, 1) := dk_28 (dk_at dksX5_inLayer_1 13 rfl rfl)
theorem dX5_inLayer_38 : decode cX5_inLayer 38 = .ok (.aload_n 0, 1) := dk_42 (dk_at dksX5_inLayer_1 14 rfl rfl)
theorem dX5_inLayer_39 : decode cX5_inLayer 39 = .ok (.getfield 32, 3) := dk_180 0 32 (dk_at dksX5_inLayer_1 15 rfl rfl)
theorem dX5_inLayer_42 : decode cX5_inLayer 42 = .ok (.iload_n 3, 1) := dk_29 (dk_at dksX5_inLayer_1 18 rfl rfl)
theorem dX5_inLayer_43 : decode cX5_inLayer 43 = .ok (.iaload, 1) := dk_46 (dk_at dksX5_inLayer_1 19 rfl rfl)
theorem dX5_inLayer_44 : decode cX5_inLayer 44 = .ok (.iload_n 1, 1) := dk_27 (dk_at dksX5_inLayer_1 20 rfl rfl)
theorem dX5_inLayer_45 : decode cX5_inLayer 45 = .ok (.if_icmp .ne 7, 3) := dk_160 0 7 (dk_at dksX5_inLayer_1 21 rfl rfl)
theorem dX5_inLayer_48 : decode cX5_inLayer 48 = .ok (.iconst 1, 1) := dk_4 (dk_at dksX5_inLayer_2 0 rfl rfl)
theorem dX5_inLayer_49 : decode cX5_inLayer 49 = .ok (.goto 4, 3) := dk_167 0 4 (dk_at dksX5_inLayer_2 1 rfl rfl)
theorem dX5_inLayer_52 : decode cX5_inLayer 52 = .ok (.iconst 0, 1) := dk_3 (dk_at dksX5_inLayer_2 4 rfl rfl)
theorem dX5_inLayer_53 : decode cX5_inLayer 53 = .ok (.iadd, 1) := dk_96 (dk_at dksX5_inLayer_2 5 rfl rfl)
theorem dX5_inLayer_54 : decode cX5_inLayer 54 = .ok (.istore_n 2, 1) := dk_61 (dk_at dksX5_inLayer_2 6 rfl rfl)
theorem dX5_inLayer_55 : decode cX5_inLayer 55 = .ok (.iinc 3 1, 3) := dk_132 3 1 (dk_at dksX5_inLayer_2 7 rfl rfl)
theorem dX5_inLayer_58 : decode cX5_inLayer 58 = .ok (.goto (-33), 3) := dk_167 255 223 (dk_at dksX5_inLayer_2 10 rfl rfl)
theorem dX5_inLayer_61 : decode cX5_inLayer 61 = .ok (.iload_n 2, 1) := dk_28 (dk_at dksX5_inLayer_2 13 rfl rfl)
theorem dX5_inLayer_62 : decode cX5_inLayer 62 = .ok (.ireturn, 1) := dk_172 (dk_at dksX5_inLayer_2 14 rfl rfl)
abbrev cX5_toldOn : ByteArray := prog_10_method_78_code
def yX5_toldOn : MethodName := ⟨RX5, "toldOn", "(I)I"⟩
def dkwX5_toldOn_1 : List UInt8 := [27, 42, 182, 0, 67, 126, 182, 0, 78, 172]
abbrev dktX5_toldOn_1 : List UInt8 := dkwX5_toldOn_1 ++ []
def dkwX5_toldOn_0 : List UInt8 := [42, 3, 181, 0, 38, 27, 4, 16, 15, 184, 0, 42, 154, 0, 11, 42, 4, 182, 0, 105, 167, 0, 13, 42]
abbrev dktX5_toldOn_0 : List UInt8 := dkwX5_toldOn_0 ++ dktX5_toldOn_1
theorem dksX5_toldOn_0 : cX5_toldOn.data.toList.drop 0 = dktX5_toldOn_0 := by decide +kernel
theorem dksX5_toldOn_1 : cX5_toldOn.data.toList.drop 24 = dktX5_toldOn_1 := dk_seg dksX5_toldOn_0 24 rfl rfl
theorem dX5_toldOn_0 : decode cX5_toldOn 0 = .ok (.aload_n 0, 1) := dk_42 (dk_at dksX5_toldOn_0 0 rfl rfl)
theorem dX5_toldOn_1 : decode cX5_toldOn 1 = .ok (.iconst 0, 1) := dk_3 (dk_at dksX5_toldOn_0 1 rfl rfl)
theorem dX5_toldOn_2 : decode cX5_toldOn 2 = .ok (.putfield 38, 3) := dk_181 0 38 (dk_at dksX5_toldOn_0 2 rfl rfl)
theorem dX5_toldOn_5 : decode cX5_toldOn 5 = .ok (.iload_n 1, 1) := dk_27 (dk_at dksX5_toldOn_0 5 rfl rfl)
theorem dX5_toldOn_6 : decode cX5_toldOn 6 = .ok (.iconst 1, 1) := dk_4 (dk_at dksX5_toldOn_0 6 rfl rfl)
theorem dX5_toldOn_7 : decode cX5_toldOn 7 = .ok (.bipush 15, 2) := dk_16 15 (dk_at dksX5_toldOn_0 7 rfl rfl)
theorem dX5_toldOn_9 : decode cX5_toldOn 9 = .ok (.invokestatic 42, 3) := dk_184 0 42 (dk_at dksX5_toldOn_0 9 rfl rfl)
theorem dX5_toldOn_12 : decode cX5_toldOn 12 = .ok (.ifCond .ne 11, 3) := dk_154 0 11 (dk_at dksX5_toldOn_0 12 rfl rfl)
theorem dX5_toldOn_15 : decode cX5_toldOn 15 = .ok (.aload_n 0, 1) := dk_42 (dk_at dksX5_toldOn_0 15 rfl rfl)
theorem dX5_toldOn_16 : decode cX5_toldOn 16 = .ok (.iconst 1, 1) := dk_4 (dk_at dksX5_toldOn_0 16 rfl rfl)
theorem dX5_toldOn_17 : decode cX5_toldOn 17 = .ok (.invokevirtual 105, 3) := dk_182 0 105 (dk_at dksX5_toldOn_0 17 rfl rfl)
theorem dX5_toldOn_20 : decode cX5_toldOn 20 = .ok (.goto 13, 3) := dk_167 0 13 (dk_at dksX5_toldOn_0 20 rfl rfl)
theorem dX5_toldOn_23 : decode cX5_toldOn 23 = .ok (.aload_n 0, 1) := dk_42 (dk_at dksX5_toldOn_0 23 rfl rfl)
theorem dX5_toldOn_24 : decode cX5_toldOn 24 = .ok (.iload_n 1, 1) := dk_27 (dk_at dksX5_toldOn_1 0 rfl rfl)
theorem dX5_toldOn_25 : decode cX5_toldOn 25 = .ok (.aload_n 0, 1) := dk_42 (dk_at dksX5_toldOn_1 1 rfl rfl)
theorem dX5_toldOn_26 : decode cX5_toldOn 26 = .ok (.invokevirtual 67, 3) := dk_182 0 67 (dk_at dksX5_toldOn_1 2 rfl rfl)
theorem dX5_toldOn_29 : decode cX5_toldOn 29 = .ok (.iand, 1) := dk_126 (dk_at dksX5_toldOn_1 5 rfl rfl)
theorem dX5_toldOn_30 : decode cX5_toldOn 30 = .ok (.invokevirtual 78, 3) := dk_182 0 78 (dk_at dksX5_toldOn_1 6 rfl rfl)
theorem dX5_toldOn_33 : decode cX5_toldOn 33 = .ok (.ireturn, 1) := dk_172 (dk_at dksX5_toldOn_1 9 rfl rfl)
abbrev cX5_setsFor : ByteArray := prog_10_method_79_code
def yX5_setsFor : MethodName := ⟨RX5, "setsFor", "(I)I"⟩
def dkwX5_setsFor_4 : List UInt8 := [21, 4, 153, 0, 7, 4, 167, 0, 4, 3, 96, 61, 132, 3, 1, 167, 255, 168, 28, 172]
abbrev dktX5_setsFor_4 : List UInt8 := dkwX5_setsFor_4 ++ []
def dkwX5_setsFor_3 : List UInt8 := [182, 0, 67, 126, 182, 0, 71, 154, 0, 7, 4, 167, 0, 4, 3, 54, 4, 132, 5, 1, 167, 255, 203, 28]
abbrev dktX5_setsFor_3 : List UInt8 := dkwX5_setsFor_3 ++ dktX5_setsFor_4
def dkwX5_setsFor_2 : List UInt8 := [46, 162, 0, 46, 21, 4, 153, 0, 41, 42, 21, 5, 182, 0, 57, 153, 0, 19, 42, 21, 5, 27, 29, 42]
abbrev dktX5_setsFor_2 : List UInt8 := dkwX5_setsFor_2 ++ dktX5_setsFor_3
def dkwX5_setsFor_1 : List UInt8 := [16, 16, 162, 0, 88, 42, 27, 182, 0, 57, 54, 4, 3, 54, 5, 21, 5, 42, 180, 0, 7, 17, 0, 160]
abbrev dktX5_setsFor_1 : List UInt8 := dkwX5_setsFor_1 ++ dktX5_setsFor_2
def dkwX5_setsFor_0 : List UInt8 := [42, 3, 181, 0, 38, 42, 27, 182, 0, 102, 153, 0, 9, 42, 4, 182, 0, 105, 172, 3, 61, 4, 62, 29]
abbrev dktX5_setsFor_0 : List UInt8 := dkwX5_setsFor_0 ++ dktX5_setsFor_1
theorem dksX5_setsFor_0 : cX5_setsFor.data.toList.drop 0 = dktX5_setsFor_0 := by decide +kernel
theorem dksX5_setsFor_1 : cX5_setsFor.data.toList.drop 24 = dktX5_setsFor_1 := dk_seg dksX5_setsFor_0 24 rfl rfl
theorem dksX5_setsFor_2 : cX5_setsFor.data.toList.drop 48 = dktX5_setsFor_2 := dk_seg dksX5_setsFor_1 24 rfl rfl
theorem dksX5_setsFor_3 : cX5_setsFor.data.toList.drop 72 = dktX5_setsFor_3 := dk_seg dksX5_setsFor_2 24 rfl rfl
theorem dksX5_setsFor_4 : cX5_setsFor.data.toList.drop 96 = dktX5_setsFor_4 := dk_seg dksX5_setsFor_3 24 rfl rfl
theorem dX5_setsFor_0 : decode cX5_setsFor 0 = .ok (.aload_n 0, 1) := dk_42 (dk_at dksX5_setsFor_0 0 rfl rfl)
theorem dX5_setsFor_1 : decode cX5_setsFor 1 = .ok (.iconst 0, 1) := dk_3 (dk_at dksX5_setsFor_0 1 rfl rfl)
theorem dX5_setsFor_2 : decode cX5_setsFor 2 = .ok (.putfield 38, 3) := dk_181 0 38 (dk_at dksX5_setsFor_0 2 rfl rfl)
theorem dX5_setsFor_5 : decode cX5_setsFor 5 = .ok (.aload_n 0, 1) := dk_42 (dk_at dksX5_setsFor_0 5 rfl rfl)
theorem dX5_setsFor_6 : decode cX5_setsFor 6 = .ok (.iload_n 1, 1) := dk_27 (dk_at dksX5_setsFor_0 6 rfl rfl)
theorem dX5_setsFor_7 : decode cX5_setsFor 7 = .ok (.invokevirtual 102, 3) := dk_182 0 102 (dk_at dksX5_setsFor_0 7 rfl rfl)
theorem dX5_setsFor_10 : decode cX5_setsFor 10 = .ok (.ifCond .eq 9, 3) := dk_153 0 9 (dk_at dksX5_setsFor_0 10 rfl rfl)
theorem dX5_setsFor_13 : decode cX5_setsFor 13 = .ok (.aload_n 0, 1) := dk_42 (dk_at dksX5_setsFor_0 13 rfl rfl)
theorem dX5_setsFor_14 : decode cX5_setsFor 14 = .ok (.iconst 1, 1) := dk_4 (dk_at dksX5_setsFor_0 14 rfl rfl)
theorem dX5_setsFor_15 : decode cX5_setsFor 15 = .ok (.invokevirtual 105, 3) := dk_182 0 105 (dk_at dksX5_setsFor_0 15 rfl rfl)
theorem dX5_setsFor_18 : decode cX5_setsFor 18 = .ok (.ireturn, 1) := dk_172 (dk_at dksX5_setsFor_0 18 rfl rfl)
theorem dX5_setsFor_19 : decode cX5_setsFor 19 = .ok (.iconst 0, 1) := dk_3 (dk_at dksX5_setsFor_0 19 rfl rfl)
theorem dX5_setsFor_20 : decode cX5_setsFor 20 = .ok (.istore_n 2, 1) := dk_61 (dk_at dksX5_setsFor_0 20 rfl rfl)
theorem dX5_setsFor_21 : decode cX5_setsFor 21 = .ok (.iconst 1, 1) := dk_4 (dk_at dksX5_setsFor_0 21 rfl rfl)
theorem dX5_setsFor_22 : decode cX5_setsFor 22 = .ok (.istore_n 3, 1) := dk_62 (dk_at dksX5_setsFor_0 22 rfl rfl)
theorem dX5_setsFor_23 : decode cX5_setsFor 23 = .ok (.iload_n 3, 1) := dk_29 (dk_at dksX5_setsFor_0 23 rfl rfl)
theorem dX5_setsFor_24 : decode cX5_setsFor 24 = .ok (.bipush 16, 2) := dk_16 16 (dk_at dksX5_setsFor_1 0 rfl rfl)
theorem dX5_setsFor_26 : decode cX5_setsFor 26 = .ok (.if_icmp .ge 88, 3) := dk_162 0 88 (dk_at dksX5_setsFor_1 2 rfl rfl)
theorem dX5_setsFor_29 : decode cX5_setsFor 29 = .ok (.aload_n 0, 1) := dk_42 (dk_at dksX5_setsFor_1 5 rfl rfl)
theorem dX5_setsFor_30 : decode cX5_setsFor 30 = .ok (.iload_n 1, 1) := dk_27 (dk_at dksX5_setsFor_1 6 rfl rfl)
theorem dX5_setsFor_31 : decode cX5_setsFor 31 = .ok (.invokevirtual 57, 3) := dk_182 0 57 (dk_at dksX5_setsFor_1 7 rfl rfl)
theorem dX5_setsFor_34 : decode cX5_setsFor 34 = .ok (.istore 4, 2) := dk_54 4 (dk_at dksX5_setsFor_1 10 rfl rfl)
theorem dX5_setsFor_36 : decode cX5_setsFor 36 = .ok (.iconst 0, 1) := dk_3 (dk_at dksX5_setsFor_1 12 rfl rfl)
theorem dX5_setsFor_37 : decode cX5_setsFor 37 = .ok (.istore 5, 2) := dk_54 5 (dk_at dksX5_setsFor_1 13 rfl rfl)
theorem dX5_setsFor_39 : decode cX5_setsFor 39 = .ok (.iload 5, 2) := dk_21 5 (dk_at dksX5_setsFor_1 15 rfl rfl)
theorem dX5_setsFor_41 : decode cX5_setsFor 41 = .ok (.aload_n 0, 1) := dk_42 (dk_at dksX5_setsFor_1 17 rfl rfl)
theorem dX5_setsFor_42 : decode cX5_setsFor 42 = .ok (.getfield 7, 3) := dk_180 0 7 (dk_at dksX5_setsFor_1 18 rfl rfl)
theorem dX5_setsFor_45 : decode cX5_setsFor 45 = .ok (.sipush 160, 3) := dk_17 0 160 (dk_at dksX5_setsFor_1 21 rfl rfl)
theorem dX5_setsFor_48 : decode cX5_setsFor 48 = .ok (.iaload, 1) := dk_46 (dk_at dksX5_setsFor_2 0 rfl rfl)
theorem dX5_setsFor_49 : decode cX5_setsFor 49 = .ok (.if_icmp .ge 46, 3) := dk_162 0 46 (dk_at dksX5_setsFor_2 1 rfl rfl)
theorem dX5_setsFor_52 : decode cX5_setsFor 52 = .ok (.iload 4, 2) := dk_21 4 (dk_at dksX5_setsFor_2 4 rfl rfl)
theorem dX5_setsFor_54 : decode cX5_setsFor 54 = .ok (.ifCond .eq 41, 3) := dk_153 0 41 (dk_at dksX5_setsFor_2 6 rfl rfl)
theorem dX5_setsFor_57 : decode cX5_setsFor 57 = .ok (.aload_n 0, 1) := dk_42 (dk_at dksX5_setsFor_2 9 rfl rfl)
theorem dX5_setsFor_58 : decode cX5_setsFor 58 = .ok (.iload 5, 2) := dk_21 5 (dk_at dksX5_setsFor_2 10 rfl rfl)
theorem dX5_setsFor_60 : decode cX5_setsFor 60 = .ok (.invokevirtual 57, 3) := dk_182 0 57 (dk_at dksX5_setsFor_2 12 rfl rfl)
theorem dX5_setsFor_63 : decode cX5_setsFor 63 = .ok (.ifCond .eq 19, 3) := dk_153 0 19 (dk_at dksX5_setsFor_2 15 rfl rfl)
theorem dX5_setsFor_66 : decode cX5_setsFor 66 = .ok (.aload_n 0, 1) := dk_42 (dk_at dksX5_setsFor_2 18 rfl rfl)
theorem dX5_setsFor_67 : decode cX5_setsFor 67 = .ok (.iload 5, 2) := dk_21 5 (dk_at dksX5_setsFor_2 19 rfl rfl)
theorem dX5_setsFor_69 : decode cX5_setsFor 69 = .ok (.iload_n 1, 1) := dk_27 (dk_at dksX5_setsFor_2 21 rfl rfl)
theorem dX5_setsFor_70 : decode cX5_setsFor 70 = .ok (.iload_n 3, 1) := dk_29 (dk_at dksX5_setsFor_2 22 rfl rfl)
theorem dX5_setsFor_71 : decode cX5_setsFor 71 = .ok (.aload_n 0, 1) := dk_42 (dk_at dksX5_setsFor_2 23 rfl rfl)
theorem dX5_setsFor_72 : decode cX5_setsFor 72 = .ok (.invokevirtual 67, 3) := dk_182 0 67 (dk_at dksX5_setsFor_3 0 rfl rfl)
theorem dX5_setsFor_75 : decode cX5_setsFor 75 = .ok (.iand, 1) := dk_126 (dk_at dksX5_setsFor_3 3 rfl rfl)
theorem dX5_setsFor_76 : decode cX5_setsFor 76 = .ok (.invokevirtual 71, 3) := dk_182 0 71 (dk_at dksX5_setsFor_3 4 rfl rfl)
theorem dX5_setsFor_79 : decode cX5_setsFor 79 = .ok (.ifCond .ne 7, 3) := dk_154 0 7 (dk_at dksX5_setsFor_3 7 rfl rfl)
theorem dX5_setsFor_82 : decode cX5_setsFor 82 = .ok (.iconst 1, 1) := dk_4 (dk_at dksX5_setsFor_3 10 rfl rfl)
theorem dX5_setsFor_83 : decode cX5_setsFor 83 = .ok (.goto 4, 3) := dk_167 0 4 (dk_at dksX5_setsFor_3 11 rfl rfl)
theorem dX5_setsFor_86 : decode cX5_setsFor 86 = .ok (.iconst 0, 1) := dk_3 (dk_at dksX5_setsFor_3 14 rfl rfl)
theorem dX5_setsFor_87 : decode cX5_setsFor 87 = .ok (.istore 4, 2) := dk_54 4 (dk_at dksX5_setsFor_3 15 rfl rfl)
theorem dX5_setsFor_89 : decode cX5_setsFor 89 = .ok (.iinc 5 1, 3) := dk_132 5 1 (dk_at dksX5_setsFor_3 17 rfl rfl)
theorem dX5_setsFor_92 : decode cX5_setsFor 92 = .ok (.goto (-53), 3) := dk_167 255 203 (dk_at dksX5_setsFor_3 20 rfl rfl)
theorem dX5_setsFor_95 : decode cX5_setsFor 95 = .ok (.iload_n 2, 1) := dk_28 (dk_at dksX5_setsFor_3 23 rfl rfl)
theorem dX5_setsFor_96 : decode cX5_setsFor 96 = .ok (.iload 4, 2) := dk_21 4 (dk_at dksX5_setsFor_4 0 rfl rfl)
theorem dX5_setsFor_98 : decode cX5_setsFor 98 = .ok (.ifCond .eq 7, 3) := dk_153 0 7 (dk_at dksX5_setsFor_4 2 rfl rfl)
theorem dX5_setsFor_101 : decode cX5_setsFor 101 = .ok (.iconst 1, 1) := dk_4 (dk_at dksX5_setsFor_4 5 rfl rfl)
theorem dX5_setsFor_102 : decode cX5_setsFor 102 = .ok (.goto 4, 3) := dk_167 0 4 (dk_at dksX5_setsFor_4 6 rfl rfl)
theorem dX5_setsFor_105 : decode cX5_setsFor 105 = .ok (.iconst 0, 1) := dk_3 (dk_at dksX5_setsFor_4 9 rfl rfl)
theorem dX5_setsFor_106 : decode cX5_setsFor 106 = .ok (.iadd, 1) := dk_96 (dk_at dksX5_setsFor_4 10 rfl rfl)
theorem dX5_setsFor_107 : decode cX5_setsFor 107 = .ok (.istore_n 2, 1) := dk_61 (dk_at dksX5_setsFor_4 11 rfl rfl)
theorem dX5_setsFor_108 : decode cX5_setsFor 108 = .ok (.iinc 3 1, 3) := dk_132 3 1 (dk_at dksX5_setsFor_4 12 rfl rfl)
theorem dX5_setsFor_111 : decode cX5_setsFor 111 = .ok (.goto (-88), 3) := dk_167 255 168 (dk_at dksX5_setsFor_4 15 rfl rfl)
theorem dX5_setsFor_114 : decode cX5_setsFor 114 = .ok (.iload_n 2, 1) := dk_28 (dk_at dksX5_setsFor_4 18 rfl rfl)
theorem dX5_setsFor_115 : decode cX5_setsFor 115 = .ok (.ireturn, 1) := dk_172 (dk_at dksX5_setsFor_4 19 rfl rfl)
abbrev cX5_toldWeakly : ByteArray := prog_10_method_81_code
def yX5_toldWeakly : MethodName := ⟨RX5, "toldWeakly", "(I)I"⟩
def dkwX5_toldWeakly_2 : List UInt8 := [182, 0, 180, 154, 0, 7, 4, 167, 0, 4, 3, 96, 61, 132, 3, 1, 167, 255, 216, 28, 172]
abbrev dktX5_toldWeakly_2 : List UInt8 := dkwX5_toldWeakly_2 ++ []
def dkwX5_toldWeakly_1 : List UInt8 := [29, 42, 180, 0, 7, 17, 0, 160, 46, 162, 0, 34, 28, 42, 29, 182, 0, 57, 153, 0, 16, 42, 29, 27]
abbrev dktX5_toldWeakly_1 : List UInt8 := dkwX5_toldWeakly_1 ++ dktX5_toldWeakly_2
def dkwX5_toldWeakly_0 : List UInt8 := [42, 3, 181, 0, 38, 27, 4, 7, 184, 0, 42, 154, 0, 9, 42, 4, 182, 0, 105, 172, 3, 61, 3, 62]
abbrev dktX5_toldWeakly_0 : List UInt8 := dkwX5_toldWeakly_0 ++ dktX5_toldWeakly_1
theorem dksX5_toldWeakly_0 : cX5_toldWeakly.data.toList.drop 0 = dktX5_toldWeakly_0 := by decide +kernel
theorem dksX5_toldWeakly_1 : cX5_toldWeakly.data.toList.drop 24 = dktX5_toldWeakly_1 := dk_seg dksX5_toldWeakly_0 24 rfl rfl
theorem dksX5_toldWeakly_2 : cX5_toldWeakly.data.toList.drop 48 = dktX5_toldWeakly_2 := dk_seg dksX5_toldWeakly_1 24 rfl rfl
theorem dX5_toldWeakly_0 : decode cX5_toldWeakly 0 = .ok (.aload_n 0, 1) := dk_42 (dk_at dksX5_toldWeakly_0 0 rfl rfl)
theorem dX5_toldWeakly_1 : decode cX5_toldWeakly 1 = .ok (.iconst 0, 1) := dk_3 (dk_at dksX5_toldWeakly_0 1 rfl rfl)
theorem dX5_toldWeakly_2 : decode cX5_toldWeakly 2 = .ok (.putfield 38, 3) := dk_181 0 38 (dk_at dksX5_toldWeakly_0 2 rfl rfl)
theorem dX5_toldWeakly_5 : decode cX5_toldWeakly 5 = .ok (.iload_n 1, 1) := dk_27 (dk_at dksX5_toldWeakly_0 5 rfl rfl)
theorem dX5_toldWeakly_6 : decode cX5_toldWeakly 6 = .ok (.iconst 1, 1) := dk_4 (dk_at dksX5_toldWeakly_0 6 rfl rfl)
theorem dX5_toldWeakly_7 : decode cX5_toldWeakly 7 = .ok (.iconst 4, 1) := dk_7 (dk_at dksX5_toldWeakly_0 7 rfl rfl)
theorem dX5_toldWeakly_8 : decode cX5_toldWeakly 8 = .ok (.invokestatic 42, 3) := dk_184 0 42 (dk_at dksX5_toldWeakly_0 8 rfl rfl)
theorem dX5_toldWeakly_11 : decode cX5_toldWeakly 11 = .ok (.ifCond .ne 9, 3) := dk_154 0 9 (dk_at dksX5_toldWeakly_0 11 rfl rfl)
theorem dX5_toldWeakly_14 : decode cX5_toldWeakly 14 = .ok (.aload_n 0, 1) := dk_42 (dk_at dksX5_toldWeakly_0 14 rfl rfl)
theorem dX5_toldWeakly_15 : decode cX5_toldWeakly 15 = .ok (.iconst 1, 1) := dk_4 (dk_at dksX5_toldWeakly_0 15 rfl rfl)
theorem dX5_toldWeakly_16 : decode cX5_toldWeakly 16 = .ok (.invokevirtual 105, 3) := dk_182 0 105 (dk_at dksX5_toldWeakly_0 16 rfl rfl)
theorem dX5_toldWeakly_19 : decode cX5_toldWeakly 19 = .ok (.ireturn, 1) := dk_172 (dk_at dksX5_toldWeakly_0 19 rfl rfl)
theorem dX5_toldWeakly_20 : decode cX5_toldWeakly 20 = .ok (.iconst 0, 1) := dk_3 (dk_at dksX5_toldWeakly_0 20 rfl rfl)
theorem dX5_toldWeakly_21 : decode cX5_toldWeakly 21 = .ok (.istore_n 2, 1) := dk_61 (dk_at dksX5_toldWeakly_0 21 rfl rfl)
theorem dX5_toldWeakly_22 : decode cX5_toldWeakly 22 = .ok (.iconst 0, 1) := dk_3 (dk_at dksX5_toldWeakly_0 22 rfl rfl)
theorem dX5_toldWeakly_23 : decode cX5_toldWeakly 23 = .ok (.istore_n 3, 1) := dk_62 (dk_at dksX5_toldWeakly_0 23 rfl rfl)
theorem dX5_toldWeakly_24 : decode cX5_toldWeakly 24 = .ok (.iload_n 3, 1) := dk_29 (dk_at dksX5_toldWeakly_1 0 rfl rfl)
theorem dX5_toldWeakly_25 : decode cX5_toldWeakly 25 = .ok (.aload_n 0, 1) := dk_42 (dk_at dksX5_toldWeakly_1 1 rfl rfl)
theorem dX5_toldWeakly_26 : decode cX5_toldWeakly 26 = .ok (.getfield 7, 3) := dk_180 0 7 (dk_at dksX5_toldWeakly_1 2 rfl rfl)
theorem dX5_toldWeakly_29 : decode cX5_toldWeakly 29 = .ok (.sipush 160, 3) := dk_17 0 160 (dk_at dksX5_toldWeakly_1 5 rfl rfl)
theorem dX5_toldWeakly_32 : decode cX5_toldWeakly 32 = .ok (.iaload, 1) := dk_46 (dk_at dksX5_toldWeakly_1 8 rfl rfl)
theorem dX5_toldWeakly_33 : decode cX5_toldWeakly 33 = .ok (.if_icmp .ge 34, 3) := dk_162 0 34 (dk_at dksX5_toldWeakly_1 9 rfl rfl)
theorem dX5_toldWeakly_36 : decode cX5_toldWeakly 36 = .ok (.iload_n 2, 1) := dk_28 (dk_at dksX5_toldWeakly_1 12 rfl rfl)
theorem dX5_toldWeakly_37 : decode cX5_toldWeakly 37 = .ok (.aload_n 0, 1) := dk_42 (dk_at dksX5_toldWeakly_1 13 rfl rfl)
theorem dX5_toldWeakly_38 : decode cX5_toldWeakly 38 = .ok (.iload_n 3, 1) := dk_29 (dk_at dksX5_toldWeakly_1 14 rfl rfl)
theorem dX5_toldWeakly_39 : decode cX5_toldWeakly 39 = .ok (.invokevirtual 57, 3) := dk_182 0 57 (dk_at dksX5_toldWeakly_1 15 rfl rfl)
theorem dX5_toldWeakly_42 : decode cX5_toldWeakly 42 = .ok (.ifCond .eq 16, 3) := dk_153 0 16 (dk_at dksX5_toldWeakly_1 18 rfl rfl)
theorem dX5_toldWeakly_45 : decode cX5_toldWeakly 45 = .ok (.aload_n 0, 1) := dk_42 (dk_at dksX5_toldWeakly_1 21 rfl rfl)
theorem dX5_toldWeakly_46 : decode cX5_toldWeakly 46 = .ok (.iload_n 3, 1) := dk_29 (dk_at dksX5_toldWeakly_1 22 rfl rfl)
theorem dX5_toldWeakly_47 : decode cX5_toldWeakly 47 = .ok (.iload_n 1, 1) := dk_27 (dk_at dksX5_toldWeakly_1 23 rfl rfl)
theorem dX5_toldWeakly_48 : decode cX5_toldWeakly 48 = .ok (.invokevirtual 180, 3) := dk_182 0 180 (dk_at dksX5_toldWeakly_2 0 rfl rfl)
theorem dX5_toldWeakly_51 : decode cX5_toldWeakly 51 = .ok (.ifCond .ne 7, 3) := dk_154 0 7 (dk_at dksX5_toldWeakly_2 3 rfl rfl)
theorem dX5_toldWeakly_54 : decode cX5_toldWeakly 54 = .ok (.iconst 1, 1) := dk_4 (dk_at dksX5_toldWeakly_2 6 rfl rfl)
theorem dX5_toldWeakly_55 : decode cX5_toldWeakly 55 = .ok (.goto 4, 3) := dk_167 0 4 (dk_at dksX5_toldWeakly_2 7 rfl rfl)
theorem dX5_toldWeakly_58 : decode cX5_toldWeakly 58 = .ok (.iconst 0, 1) := dk_3 (dk_at dksX5_toldWeakly_2 10 rfl rfl)
theorem dX5_toldWeakly_59 : decode cX5_toldWeakly 59 = .ok (.iadd, 1) := dk_96 (dk_at dksX5_toldWeakly_2 11 rfl rfl)
theorem dX5_toldWeakly_60 : decode cX5_toldWeakly 60 = .ok (.istore_n 2, 1) := dk_61 (dk_at dksX5_toldWeakly_2 12 rfl rfl)
theorem dX5_toldWeakly_61 : decode cX5_toldWeakly 61 = .ok (.iinc 3 1, 3) := dk_132 3 1 (dk_at dksX5_toldWeakly_2 13 rfl rfl)
theorem dX5_toldWeakly_64 : decode cX5_toldWeakly 64 = .ok (.goto (-40), 3) := dk_167 255 216 (dk_at dksX5_toldWeakly_2 16 rfl rfl)
theorem dX5_toldWeakly_67 : decode cX5_toldWeakly 67 = .ok (.iload_n 2, 1) := dk_28 (dk_at dksX5_toldWeakly_2 19 rfl rfl)
theorem dX5_toldWeakly_68 : decode cX5_toldWeakly 68 = .ok (.ireturn, 1) := dk_172 (dk_at dksX5_toldWeakly_2 20 rfl rfl)
abbrev cX5_isWeaklyBeaten : ByteArray := prog_10_method_80_code
def yX5_isWeaklyBeaten : MethodName := ⟨RX5, "isWeaklyBeaten", "(II)Z"⟩
def dkwX5_isWeaklyBeaten_4 : List UInt8 := [158, 0, 5, 4, 172, 132, 4, 1, 167, 255, 192, 3, 172]
abbrev dktX5_isWeaklyBeaten_4 : List UInt8 := dkwX5_isWeaklyBeaten_4 ++ []
def dkwX5_isWeaklyBeaten_3 : List UInt8 := [42, 182, 0, 67, 182, 0, 63, 100, 28, 161, 0, 19, 42, 21, 4, 27, 42, 182, 0, 67, 182, 0, 63]
abbrev dktX5_isWeaklyBeaten_3 : List UInt8 := dkwX5_isWeaklyBeaten_3 ++ dktX5_isWeaklyBeaten_4
def dkwX5_isWeaklyBeaten_2 : List UInt8 := [46, 162, 0, 57, 21, 4, 27, 159, 0, 45, 42, 21, 4, 182, 0, 57, 153, 0, 36, 29, 42, 27, 21, 4]
abbrev dktX5_isWeaklyBeaten_2 : List UInt8 := dkwX5_isWeaklyBeaten_2 ++ dktX5_isWeaklyBeaten_3
def dkwX5_isWeaklyBeaten_1 : List UInt8 := [167, 0, 4, 3, 96, 62, 132, 4, 1, 167, 255, 230, 3, 54, 4, 21, 4, 42, 180, 0, 7, 17, 0, 160]
abbrev dktX5_isWeaklyBeaten_1 : List UInt8 := dkwX5_isWeaklyBeaten_1 ++ dktX5_isWeaklyBeaten_2
def dkwX5_isWeaklyBeaten_0 : List UInt8 := [3, 62, 3, 54, 4, 21, 4, 7, 162, 0, 26, 29, 42, 21, 4, 182, 0, 49, 153, 0, 7, 4]
abbrev dktX5_isWeaklyBeaten_0 : List UInt8 := dkwX5_isWeaklyBeaten_0 ++ dktX5_isWeaklyBeaten_1
theorem dksX5_isWeaklyBeaten_0 : cX5_isWeaklyBeaten.data.toList.drop 0 = dktX5_isWeaklyBeaten_0 := by decide +kernel
theorem dksX5_isWeaklyBeaten_1 : cX5_isWeaklyBeaten.data.toList.drop 22 = dktX5_isWeaklyBeaten_1 := dk_seg dksX5_isWeaklyBeaten_0 22 rfl rfl
theorem dksX5_isWeaklyBeaten_2 : cX5_isWeaklyBeaten.data.toList.drop 46 = dktX5_isWeaklyBeaten_2 := dk_seg dksX5_isWeaklyBeaten_1 24 rfl rfl
theorem dksX5_isWeaklyBeaten_3 : cX5_isWeaklyBeaten.data.toList.drop 70 = dktX5_isWeaklyBeaten_3 := dk_seg dksX5_isWeaklyBeaten_2 24 rfl rfl
theorem dksX5_isWeaklyBeaten_4 : cX5_isWeaklyBeaten.data.toList.drop 93 = dktX5_isWeaklyBeaten_4 := dk_seg dksX5_isWeaklyBeaten_3 23 rfl rfl
theorem dX5_isWeaklyBeaten_0 : decode cX5_isWeaklyBeaten 0 = .ok (.iconst 0, 1) := dk_3 (dk_at dksX5_isWeaklyBeaten_0 0 rfl rfl)
theorem dX5_isWeaklyBeaten_1 : decode cX5_isWeaklyBeaten 1 = .ok (.istore_n 3, 1) := dk_62 (dk_at dksX5_isWeaklyBeaten_0 1 rfl rfl)
theorem dX5_isWeaklyBeaten_2 : decode cX5_isWeaklyBeaten 2 = .ok (.iconst 0, 1) := dk_3 (dk_at dksX5_isWeaklyBeaten_0 2 rfl rfl)
theorem dX5_isWeaklyBeaten_3 : decode cX5_isWeaklyBeaten 3 = .ok (.istore 4, 2) := dk_54 4 (dk_at dksX5_isWeaklyBeaten_0 3 rfl rfl)
theorem dX5_isWeaklyBeaten_5 : decode cX5_isWeaklyBeaten 5 = .ok (.iload 4, 2) := dk_21 4 (dk_at dksX5_isWeaklyBeaten_0 5 rfl rfl)
theorem dX5_isWeaklyBeaten_7 : decode cX5_isWeaklyBeaten 7 = .ok (.iconst 4, 1) := dk_7 (dk_at dksX5_isWeaklyBeaten_0 7 rfl rfl)
theorem dX5_isWeaklyBeaten_8 : decode cX5_isWeaklyBeaten 8 = .ok (.if_icmp .ge 26, 3) := dk_162 0 26 (dk_at dksX5_isWeaklyBeaten_0 8 rfl rfl)
theorem dX5_isWeaklyBeaten_11 : decode cX5_isWeaklyBeaten 11 = .ok (.iload_n 3, 1) := dk_29 (dk_at dksX5_isWeaklyBeaten_0 11 rfl rfl)
theorem dX5_isWeaklyBeaten_12 : decode cX5_isWeaklyBeaten 12 = .ok (.aload_n 0, 1) := dk_42 (dk_at dksX5_isWeaklyBeaten_0 12 rfl rfl)
theorem dX5_isWeaklyBeaten_13 : decode cX5_isWeaklyBeaten 13 = .ok (.iload 4, 2) := dk_21 4 (dk_at dksX5_isWeaklyBeaten_0 13 rfl rfl)
theorem dX5_isWeaklyBeaten_15 : decode cX5_isWeaklyBeaten 15 = .ok (.invokevirtual 49, 3) := dk_182 0 49 (dk_at dksX5_isWeaklyBeaten_0 15 rfl rfl)
theorem dX5_isWeaklyBeaten_18 : decode cX5_isWeaklyBeaten 18 = .ok (.ifCond .eq 7, 3) := dk_153 0 7 (dk_at dksX5_isWeaklyBeaten_0 18 rfl rfl)
theorem dX5_isWeaklyBeaten_21 : decode cX5_isWeaklyBeaten 21 = .ok (.iconst 1, 1) := dk_4 (dk_at dksX5_isWeaklyBeaten_0 21 rfl rfl)
theorem dX5_isWeaklyBeaten_22 : decode cX5_isWeaklyBeaten 22 = .ok (.goto 4, 3) := dk_167 0 4 (dk_at dksX5_isWeaklyBeaten_1 0 rfl rfl)
theorem dX5_isWeaklyBeaten_25 : decode cX5_isWeaklyBeaten 25 = .ok (.iconst 0, 1) := dk_3 (dk_at dksX5_isWeaklyBeaten_1 3 rfl rfl)
theorem dX5_isWeaklyBeaten_26 : decode cX5_isWeaklyBeaten 26 = .ok (.iadd, 1) := dk_96 (dk_at dksX5_isWeaklyBeaten_1 4 rfl rfl)
theorem dX5_isWeaklyBeaten_27 : decode cX5_isWeaklyBeaten 27 = .ok (.istore_n 3, 1) := dk_62 (dk_at dksX5_isWeaklyBeaten_1 5 rfl rfl)
theorem dX5_isWeaklyBeaten_28 : decode cX5_isWeaklyBeaten 28 = .ok (.iinc 4 1, 3) := dk_132 4 1 (dk_at dksX5_isWeaklyBeaten_1 6 rfl rfl)
theorem dX5_isWeaklyBeaten_31 : decode cX5_isWeaklyBeaten 31 = .ok (.goto (-26), 3) := dk_167 255 230 (dk_at dksX5_isWeaklyBeaten_1 9 rfl rfl)
theorem dX5_isWeaklyBeaten_34 : decode cX5_isWeaklyBeaten 34 = .ok (.iconst 0, 1) := dk_3 (dk_at dksX5_isWeaklyBeaten_1 12 rfl rfl)
theorem dX5_isWeaklyBeaten_35 : decode cX5_isWeaklyBeaten 35 = .ok (.istore 4, 2) := dk_54 4 (dk_at dksX5_isWeaklyBeaten_1 13 rfl rfl)
theorem dX5_isWeaklyBeaten_37 : decode cX5_isWeaklyBeaten 37 = .ok (.iload 4, 2) := dk_21 4 (dk_at dksX5_isWeaklyBeaten_1 15 rfl rfl)
theorem dX5_isWeaklyBeaten_39 : decode cX5_isWeaklyBeaten 39 = .ok (.aload_n 0, 1) := dk_42 (dk_at dksX5_isWeaklyBeaten_1 17 rfl rfl)
theorem dX5_isWeaklyBeaten_40 : decode cX5_isWeaklyBeaten 40 = .ok (.getfield 7, 3) := dk_180 0 7 (dk_at dksX5_isWeaklyBeaten_1 18 rfl rfl)
theorem dX5_isWeaklyBeaten_43 : decode cX5_isWeaklyBeaten 43 = .ok (.sipush 160, 3) := dk_17 0 160 (dk_at dksX5_isWeaklyBeaten_1 21 rfl rfl)
theorem dX5_isWeaklyBeaten_46 : decode cX5_isWeaklyBeaten 46 = .ok (.iaload, 1) := dk_46 (dk_at dksX5_isWeaklyBeaten_2 0 rfl rfl)
theorem dX5_isWeaklyBeaten_47 : decode cX5_isWeaklyBeaten 47 = .ok (.if_icmp .ge 57, 3) := dk_162 0 57 (dk_at dksX5_isWeaklyBeaten_2 1 rfl rfl)
theorem dX5_isWeaklyBeaten_50 : decode cX5_isWeaklyBeaten 50 = .ok (.iload 4, 2) := dk_21 4 (dk_at dksX5_isWeaklyBeaten_2 4 rfl rfl)
theorem dX5_isWeaklyBeaten_52 : decode cX5_isWeaklyBeaten 52 = .ok (.iload_n 1, 1) := dk_27 (dk_at dksX5_isWeaklyBeaten_2 6 rfl rfl)
theorem dX5_isWeaklyBeaten_53 : decode cX5_isWeaklyBeaten 53 = .ok (.if_icmp .eq 45, 3) := dk_159 0 45 (dk_at dksX5_isWeaklyBeaten_2 7 rfl rfl)
theorem dX5_isWeaklyBeaten_56 : decode cX5_isWeaklyBeaten 56 = .ok (.aload_n 0, 1) := dk_42 (dk_at dksX5_isWeaklyBeaten_2 10 rfl rfl)
theorem dX5_isWeaklyBeaten_57 : decode cX5_isWeaklyBeaten 57 = .ok (.iload 4, 2) := dk_21 4 (dk_at dksX5_isWeaklyBeaten_2 11 rfl rfl)
theorem dX5_isWeaklyBeaten_59 : decode cX5_isWeaklyBeaten 59 = .ok (.invokevirtual 57, 3) := dk_182 0 57 (dk_at dksX5_isWeaklyBeaten_2 13 rfl rfl)
theorem dX5_isWeaklyBeaten_62 : decode cX5_isWeaklyBeaten 62 = .ok (.ifCond .eq 36, 3) := dk_153 0 36 (dk_at dksX5_isWeaklyBeaten_2 16 rfl rfl)
theorem dX5_isWeaklyBeaten_65 : decode cX5_isWeaklyBeaten 65 = .ok (.iload_n 3, 1) := dk_29 (dk_at dksX5_isWeaklyBeaten_2 19 rfl rfl)
theorem dX5_isWeaklyBeaten_66 : decode cX5_isWeaklyBeaten 66 = .ok (.aload_n 0, 1) := dk_42 (dk_at dksX5_isWeaklyBeaten_2 20 rfl rfl)
theorem dX5_isWeaklyBeaten_67 : decode cX5_isWeaklyBeaten 67 = .ok (.iload_n 1, 1) := dk_27 (dk_at dksX5_isWeaklyBeaten_2 21 rfl rfl)
theorem dX5_isWeaklyBeaten_68 : decode cX5_isWeaklyBeaten 68 = .ok (.iload 4, 2) := dk_21 4 (dk_at dksX5_isWeaklyBeaten_2 22 rfl rfl)
theorem dX5_isWeaklyBeaten_70 : decode cX5_isWeaklyBeaten 70 = .ok (.aload_n 0, 1) := dk_42 (dk_at dksX5_isWeaklyBeaten_3 0 rfl rfl)
theorem dX5_isWeaklyBeaten_71 : decode cX5_isWeaklyBeaten 71 = .ok (.invokevirtual 67, 3) := dk_182 0 67 (dk_at dksX5_isWeaklyBeaten_3 1 rfl rfl)
theorem dX5_isWeaklyBeaten_74 : decode cX5_isWeaklyBeaten 74 = .ok (.invokevirtual 63, 3) := dk_182 0 63 (dk_at dksX5_isWeaklyBeaten_3 4 rfl rfl)
theorem dX5_isWeaklyBeaten_77 : decode cX5_isWeaklyBeaten 77 = .ok (.isub, 1) := dk_100 (dk_at dksX5_isWeaklyBeaten_3 7 rfl rfl)
theorem dX5_isWeaklyBeaten_78 : decode cX5_isWeaklyBeaten 78 = .ok (.iload_n 2, 1) := dk_28 (dk_at dksX5_isWeaklyBeaten_3 8 rfl rfl)
theorem dX5_isWeaklyBeaten_79 : decode cX5_isWeaklyBeaten 79 = .ok (.if_icmp .lt 19, 3) := dk_161 0 19 (dk_at dksX5_isWeaklyBeaten_3 9 rfl rfl)
theorem dX5_isWeaklyBeaten_82 : decode cX5_isWeaklyBeaten 82 = .ok (.aload_n 0, 1) := dk_42 (dk_at dksX5_isWeaklyBeaten_3 12 rfl rfl)
theorem dX5_isWeaklyBeaten_83 : decode cX5_isWeaklyBeaten 83 = .ok (.iload 4, 2) := dk_21 4 (dk_at dksX5_isWeaklyBeaten_3 13 rfl rfl)
theorem dX5_isWeaklyBeaten_85 : decode cX5_isWeaklyBeaten 85 = .ok (.iload_n 1, 1) := dk_27 (dk_at dksX5_isWeaklyBeaten_3 15 rfl rfl)
theorem dX5_isWeaklyBeaten_86 : decode cX5_isWeaklyBeaten 86 = .ok (.aload_n 0, 1) := dk_42 (dk_at dksX5_isWeaklyBeaten_3 16 rfl rfl)
theorem dX5_isWeaklyBeaten_87 : decode cX5_isWeaklyBeaten 87 = .ok (.invokevirtual 67, 3) := dk_182 0 67 (dk_at dksX5_isWeaklyBeaten_3 17 rfl rfl)
theorem dX5_isWeaklyBeaten_90 : decode cX5_isWeaklyBeaten 90 = .ok (.invokevirtual 63, 3) := dk_182 0 63 (dk_at dksX5_isWeaklyBeaten_3 20 rfl rfl)
theorem dX5_isWeaklyBeaten_93 : decode cX5_isWeaklyBeaten 93 = .ok (.ifCond .le 5, 3) := dk_158 0 5 (dk_at dksX5_isWeaklyBeaten_4 0 rfl rfl)
theorem dX5_isWeaklyBeaten_96 : decode cX5_isWeaklyBeaten 96 = .ok (.iconst 1, 1) := dk_4 (dk_at dksX5_isWeaklyBeaten_4 3 rfl rfl)
theorem dX5_isWeaklyBeaten_97 : decode cX5_isWeaklyBeaten 97 = .ok (.ireturn, 1) := dk_172 (dk_at dksX5_isWeaklyBeaten_4 4 rfl rfl)
theorem dX5_isWeaklyBeaten_98 : decode cX5_isWeaklyBeaten 98 = .ok (.iinc 4 1, 3) := dk_132 4 1 (dk_at dksX5_isWeaklyBeaten_4 5 rfl rfl)
theorem dX5_isWeaklyBeaten_101 : decode cX5_isWeaklyBeaten 101 = .ok (.goto (-64), 3) := dk_167 255 192 (dk_at dksX5_isWeaklyBeaten_4 8 rfl rfl)
theorem dX5_isWeaklyBeaten_104 : decode cX5_isWeaklyBeaten 104 = .ok (.iconst 0, 1) := dk_3 (dk_at dksX5_isWeaklyBeaten_4 11 rfl rfl)
theorem dX5_isWeaklyBeaten_105 : decode cX5_isWeaklyBeaten 105 = .ok (.ireturn, 1) := dk_172 (dk_at dksX5_isWeaklyBeaten_4 12 rfl rfl)
abbrev cX5_wouldBeTold : ByteArray := prog_10_method_87_code
def yX5_wouldBeTold : MethodName := ⟨RX5, "wouldBeTold", "(IIII)Z"⟩
def dkwX5_wouldBeTold_1 : List UInt8 := [154, 0, 19, 42, 27, 28, 29, 21, 4, 182, 0, 196, 153, 0, 7, 4, 167, 0, 4, 3, 172]
abbrev dktX5_wouldBeTold_1 : List UInt8 := dkwX5_wouldBeTold_1 ++ []
def dkwX5_wouldBeTold_0 : List UInt8 := [42, 27, 28, 29, 21, 4, 184, 0, 91, 153, 0, 7, 4, 167, 0, 4, 3, 181, 0, 38, 42, 180, 0, 38]
abbrev dktX5_wouldBeTold_0 : List UInt8 := dkwX5_wouldBeTold_0 ++ dktX5_wouldBeTold_1
theorem dksX5_wouldBeTold_0 : cX5_wouldBeTold.data.toList.drop 0 = dktX5_wouldBeTold_0 := by decide +kernel
theorem dksX5_wouldBeTold_1 : cX5_wouldBeTold.data.toList.drop 24 = dktX5_wouldBeTold_1 := dk_seg dksX5_wouldBeTold_0 24 rfl rfl
theorem dX5_wouldBeTold_0 : decode cX5_wouldBeTold 0 = .ok (.aload_n 0, 1) := dk_42 (dk_at dksX5_wouldBeTold_0 0 rfl rfl)
theorem dX5_wouldBeTold_1 : decode cX5_wouldBeTold 1 = .ok (.iload_n 1, 1) := dk_27 (dk_at dksX5_wouldBeTold_0 1 rfl rfl)
theorem dX5_wouldBeTold_2 : decode cX5_wouldBeTold 2 = .ok (.iload_n 2, 1) := dk_28 (dk_at dksX5_wouldBeTold_0 2 rfl rfl)
theorem dX5_wouldBeTold_3 : decode cX5_wouldBeTold 3 = .ok (.iload_n 3, 1) := dk_29 (dk_at dksX5_wouldBeTold_0 3 rfl rfl)
theorem dX5_wouldBeTold_4 : decode cX5_wouldBeTold 4 = .ok (.iload 4, 2) := dk_21 4 (dk_at dksX5_wouldBeTold_0 4 rfl rfl)
theorem dX5_wouldBeTold_6 : decode cX5_wouldBeTold 6 = .ok (.invokestatic 91, 3) := dk_184 0 91 (dk_at dksX5_wouldBeTold_0 6 rfl rfl)
theorem dX5_wouldBeTold_9 : decode cX5_wouldBeTold 9 = .ok (.ifCond .eq 7, 3) := dk_153 0 7 (dk_at dksX5_wouldBeTold_0 9 rfl rfl)
theorem dX5_wouldBeTold_12 : decode cX5_wouldBeTold 12 = .ok (.iconst 1, 1) := dk_4 (dk_at dksX5_wouldBeTold_0 12 rfl rfl)
theorem dX5_wouldBeTold_13 : decode cX5_wouldBeTold 13 = .ok (.goto 4, 3) := dk_167 0 4 (dk_at dksX5_wouldBeTold_0 13 rfl rfl)
theorem dX5_wouldBeTold_16 : decode cX5_wouldBeTold 16 = .ok (.iconst 0, 1) := dk_3 (dk_at dksX5_wouldBeTold_0 16 rfl rfl)
theorem dX5_wouldBeTold_17 : decode cX5_wouldBeTold 17 = .ok (.putfield 38, 3) := dk_181 0 38 (dk_at dksX5_wouldBeTold_0 17 rfl rfl)
theorem dX5_wouldBeTold_20 : decode cX5_wouldBeTold 20 = .ok (.aload_n 0, 1) := dk_42 (dk_at dksX5_wouldBeTold_0 20 rfl rfl)
theorem dX5_wouldBeTold_21 : decode cX5_wouldBeTold 21 = .ok (.getfield 38, 3) := dk_180 0 38 (dk_at dksX5_wouldBeTold_0 21 rfl rfl)
theorem dX5_wouldBeTold_24 : decode cX5_wouldBeTold 24 = .ok (.ifCond .ne 19, 3) := dk_154 0 19 (dk_at dksX5_wouldBeTold_1 0 rfl rfl)
theorem dX5_wouldBeTold_27 : decode cX5_wouldBeTold 27 = .ok (.aload_n 0, 1) := dk_42 (dk_at dksX5_wouldBeTold_1 3 rfl rfl)
theorem dX5_wouldBeTold_28 : decode cX5_wouldBeTold 28 = .ok (.iload_n 1, 1) := dk_27 (dk_at dksX5_wouldBeTold_1 4 rfl rfl)
theorem dX5_wouldBeTold_29 : decode cX5_wouldBeTold 29 = .ok (.iload_n 2, 1) := dk_28 (dk_at dksX5_wouldBeTold_1 5 rfl rfl)
theorem dX5_wouldBeTold_30 : decode cX5_wouldBeTold 30 = .ok (.iload_n 3, 1) := dk_29 (dk_at dksX5_wouldBeTold_1 6 rfl rfl)
theorem dX5_wouldBeTold_31 : decode cX5_wouldBeTold 31 = .ok (.iload 4, 2) := dk_21 4 (dk_at dksX5_wouldBeTold_1 7 rfl rfl)
theorem dX5_wouldBeTold_33 : decode cX5_wouldBeTold 33 = .ok (.invokevirtual 196, 3) := dk_182 0 196 (dk_at dksX5_wouldBeTold_1 9 rfl rfl)
theorem dX5_wouldBeTold_36 : decode cX5_wouldBeTold 36 = .ok (.ifCond .eq 7, 3) := dk_153 0 7 (dk_at dksX5_wouldBeTold_1 12 rfl rfl)
theorem dX5_wouldBeTold_39 : decode cX5_wouldBeTold 39 = .ok (.iconst 1, 1) := dk_4 (dk_at dksX5_wouldBeTold_1 15 rfl rfl)
theorem dX5_wouldBeTold_40 : decode cX5_wouldBeTold 40 = .ok (.goto 4, 3) := dk_167 0 4 (dk_at dksX5_wouldBeTold_1 16 rfl rfl)
theorem dX5_wouldBeTold_43 : decode cX5_wouldBeTold 43 = .ok (.iconst 0, 1) := dk_3 (dk_at dksX5_wouldBeTold_1 19 rfl rfl)
theorem dX5_wouldBeTold_44 : decode cX5_wouldBeTold 44 = .ok (.ireturn, 1) := dk_172 (dk_at dksX5_wouldBeTold_1 20 rfl rfl)
abbrev cX5_isUnbeaten : ByteArray := prog_10_method_86_code
def yX5_isUnbeaten : MethodName := ⟨RX5, "isUnbeaten", "(IIII)Z"⟩
def dkwX5_isUnbeaten_3 : List UInt8 := [172]
abbrev dktX5_isUnbeaten_3 : List UInt8 := dkwX5_isUnbeaten_3 ++ []
def dkwX5_isUnbeaten_2 : List UInt8 := [21, 4, 182, 0, 193, 4, 159, 0, 7, 4, 167, 0, 4, 3, 54, 5, 132, 6, 1, 167, 255, 204, 21, 5]
abbrev dktX5_isUnbeaten_2 : List UInt8 := dkwX5_isUnbeaten_2 ++ dktX5_isUnbeaten_3
def dkwX5_isUnbeaten_1 : List UInt8 := [162, 0, 45, 21, 5, 153, 0, 40, 42, 21, 6, 182, 0, 57, 153, 0, 18, 42, 21, 6, 27, 28, 29]
abbrev dktX5_isUnbeaten_1 : List UInt8 := dkwX5_isUnbeaten_1 ++ dktX5_isUnbeaten_2
def dkwX5_isUnbeaten_0 : List UInt8 := [42, 27, 28, 29, 21, 4, 182, 0, 190, 54, 5, 3, 54, 6, 21, 6, 42, 180, 0, 7, 17, 0, 160, 46]
abbrev dktX5_isUnbeaten_0 : List UInt8 := dkwX5_isUnbeaten_0 ++ dktX5_isUnbeaten_1
theorem dksX5_isUnbeaten_0 : cX5_isUnbeaten.data.toList.drop 0 = dktX5_isUnbeaten_0 := by decide +kernel
theorem dksX5_isUnbeaten_1 : cX5_isUnbeaten.data.toList.drop 24 = dktX5_isUnbeaten_1 := dk_seg dksX5_isUnbeaten_0 24 rfl rfl
theorem dksX5_isUnbeaten_2 : cX5_isUnbeaten.data.toList.drop 47 = dktX5_isUnbeaten_2 := dk_seg dksX5_isUnbeaten_1 23 rfl rfl
theorem dksX5_isUnbeaten_3 : cX5_isUnbeaten.data.toList.drop 71 = dktX5_isUnbeaten_3 := dk_seg dksX5_isUnbeaten_2 24 rfl rfl
theorem dX5_isUnbeaten_0 : decode cX5_isUnbeaten 0 = .ok (.aload_n 0, 1) := dk_42 (dk_at dksX5_isUnbeaten_0 0 rfl rfl)
theorem dX5_isUnbeaten_1 : decode cX5_isUnbeaten 1 = .ok (.iload_n 1, 1) := dk_27 (dk_at dksX5_isUnbeaten_0 1 rfl rfl)
theorem dX5_isUnbeaten_2 : decode cX5_isUnbeaten 2 = .ok (.iload_n 2, 1) := dk_28 (dk_at dksX5_isUnbeaten_0 2 rfl rfl)
theorem dX5_isUnbeaten_3 : decode cX5_isUnbeaten 3 = .ok (.iload_n 3, 1) := dk_29 (dk_at dksX5_isUnbeaten_0 3 rfl rfl)
theorem dX5_isUnbeaten_4 : decode cX5_isUnbeaten 4 = .ok (.iload 4, 2) := dk_21 4 (dk_at dksX5_isUnbeaten_0 4 rfl rfl)
theorem dX5_isUnbeaten_6 : decode cX5_isUnbeaten 6 = .ok (.invokevirtual 190, 3) := dk_182 0 190 (dk_at dksX5_isUnbeaten_0 6 rfl rfl)
theorem dX5_isUnbeaten_9 : decode cX5_isUnbeaten 9 = .ok (.istore 5, 2) := dk_54 5 (dk_at dksX5_isUnbeaten_0 9 rfl rfl)
theorem dX5_isUnbeaten_11 : decode cX5_isUnbeaten 11 = .ok (.iconst 0, 1) := dk_3 (dk_at dksX5_isUnbeaten_0 11 rfl rfl)
theorem dX5_isUnbeaten_12 : decode cX5_isUnbeaten 12 = .ok (.istore 6, 2) := dk_54 6 (dk_at dksX5_isUnbeaten_0 12 rfl rfl)
theorem dX5_isUnbeaten_14 : decode cX5_isUnbeaten 14 = .ok (.iload 6, 2) := dk_21 6 (dk_at dksX5_isUnbeaten_0 14 rfl rfl)
theorem dX5_isUnbeaten_16 : decode cX5_isUnbeaten 16 = .ok (.aload_n 0, 1) := dk_42 (dk_at dksX5_isUnbeaten_0 16 rfl rfl)
theorem dX5_isUnbeaten_17 : decode cX5_isUnbeaten 17 = .ok (.getfield 7, 3) := dk_180 0 7 (dk_at dksX5_isUnbeaten_0 17 rfl rfl)
theorem dX5_isUnbeaten_20 : decode cX5_isUnbeaten 20 = .ok (.sipush 160, 3) := dk_17 0 160 (dk_at dksX5_isUnbeaten_0 20 rfl rfl)
theorem dX5_isUnbeaten_23 : decode cX5_isUnbeaten 23 = .ok (.iaload, 1) := dk_46 (dk_at dksX5_isUnbeaten_0 23 rfl rfl)
theorem dX5_isUnbeaten_24 : decode cX5_isUnbeaten 24 = .ok (.if_icmp .ge 45, 3) := dk_162 0 45 (dk_at dksX5_isUnbeaten_1 0 rfl rfl)
theorem dX5_isUnbeaten_27 : decode cX5_isUnbeaten 27 = .ok (.iload 5, 2) := dk_21 5 (dk_at dksX5_isUnbeaten_1 3 rfl rfl)
theorem dX5_isUnbeaten_29 : decode cX5_isUnbeaten 29 = .ok (.ifCond .eq 40, 3) := dk_153 0 40 (dk_at dksX5_isUnbeaten_1 5 rfl rfl)
theorem dX5_isUnbeaten_32 : decode cX5_isUnbeaten 32 = .ok (.aload_n 0, 1) := dk_42 (dk_at dksX5_isUnbeaten_1 8 rfl rfl)
theorem dX5_isUnbeaten_33 : decode cX5_isUnbeaten 33 = .ok (.iload 6, 2) := dk_21 6 (dk_at dksX5_isUnbeaten_1 9 rfl rfl)
theorem dX5_isUnbeaten_35 : decode cX5_isUnbeaten 35 = .ok (.invokevirtual 57, 3) := dk_182 0 57 (dk_at dksX5_isUnbeaten_1 11 rfl rfl)
theorem dX5_isUnbeaten_38 : decode cX5_isUnbeaten 38 = .ok (.ifCond .eq 18, 3) := dk_153 0 18 (dk_at dksX5_isUnbeaten_1 14 rfl rfl)
theorem dX5_isUnbeaten_41 : decode cX5_isUnbeaten 41 = .ok (.aload_n 0, 1) := dk_42 (dk_at dksX5_isUnbeaten_1 17 rfl rfl)
theorem dX5_isUnbeaten_42 : decode cX5_isUnbeaten 42 = .ok (.iload 6, 2) := dk_21 6 (dk_at dksX5_isUnbeaten_1 18 rfl rfl)
theorem dX5_isUnbeaten_44 : decode cX5_isUnbeaten 44 = .ok (.iload_n 1, 1) := dk_27 (dk_at dksX5_isUnbeaten_1 20 rfl rfl)
theorem dX5_isUnbeaten_45 : decode cX5_isUnbeaten 45 = .ok (.iload_n 2, 1) := dk_28 (dk_at dksX5_isUnbeaten_1 21 rfl rfl)
theorem dX5_isUnbeaten_46 : decode cX5_isUnbeaten 46 = .ok (.iload_n 3, 1) := dk_29 (dk_at dksX5_isUnbeaten_1 22 rfl rfl)
theorem dX5_isUnbeaten_47 : decode cX5_isUnbeaten 47 = .ok (.iload 4, 2) := dk_21 4 (dk_at dksX5_isUnbeaten_2 0 rfl rfl)
theorem dX5_isUnbeaten_49 : decode cX5_isUnbeaten 49 = .ok (.invokevirtual 193, 3) := dk_182 0 193 (dk_at dksX5_isUnbeaten_2 2 rfl rfl)
theorem dX5_isUnbeaten_52 : decode cX5_isUnbeaten 52 = .ok (.iconst 1, 1) := dk_4 (dk_at dksX5_isUnbeaten_2 5 rfl rfl)
theorem dX5_isUnbeaten_53 : decode cX5_isUnbeaten 53 = .ok (.if_icmp .eq 7, 3) := dk_159 0 7 (dk_at dksX5_isUnbeaten_2 6 rfl rfl)
theorem dX5_isUnbeaten_56 : decode cX5_isUnbeaten 56 = .ok (.iconst 1, 1) := dk_4 (dk_at dksX5_isUnbeaten_2 9 rfl rfl)
theorem dX5_isUnbeaten_57 : decode cX5_isUnbeaten 57 = .ok (.goto 4, 3) := dk_167 0 4 (dk_at dksX5_isUnbeaten_2 10 rfl rfl)
theorem dX5_isUnbeaten_60 : decode cX5_isUnbeaten 60 = .ok (.iconst 0, 1) := dk_3 (dk_at dksX5_isUnbeaten_2 13 rfl rfl)
theorem dX5_isUnbeaten_61 : decode cX5_isUnbeaten 61 = .ok (.istore 5, 2) := dk_54 5 (dk_at dksX5_isUnbeaten_2 14 rfl rfl)
theorem dX5_isUnbeaten_63 : decode cX5_isUnbeaten 63 = .ok (.iinc 6 1, 3) := dk_132 6 1 (dk_at dksX5_isUnbeaten_2 16 rfl rfl)
theorem dX5_isUnbeaten_66 : decode cX5_isUnbeaten 66 = .ok (.goto (-52), 3) := dk_167 255 204 (dk_at dksX5_isUnbeaten_2 19 rfl rfl)
theorem dX5_isUnbeaten_69 : decode cX5_isUnbeaten 69 = .ok (.iload 5, 2) := dk_21 5 (dk_at dksX5_isUnbeaten_2 22 rfl rfl)
theorem dX5_isUnbeaten_71 : decode cX5_isUnbeaten 71 = .ok (.ireturn, 1) := dk_172 (dk_at dksX5_isUnbeaten_3 0 rfl rfl)
abbrev cX5_isWithin : ByteArray := prog_10_method_85_code
def yX5_isWithin : MethodName := ⟨RX5, "isWithin", "(IIII)Z"⟩
def dkwX5_isWithin_2 : List UInt8 := [3, 172, 132, 5, 1, 167, 255, 207, 4, 172]
abbrev dktX5_isWithin_2 : List UInt8 := dkwX5_isWithin_2 ++ []
def dkwX5_isWithin_1 : List UInt8 := [17, 0, 165, 21, 5, 96, 46, 42, 180, 0, 7, 17, 0, 169, 21, 5, 96, 46, 184, 0, 42, 154, 0, 5]
abbrev dktX5_isWithin_1 : List UInt8 := dkwX5_isWithin_1 ++ dktX5_isWithin_2
def dkwX5_isWithin_0 : List UInt8 := [3, 54, 5, 21, 5, 7, 162, 0, 49, 21, 5, 27, 28, 29, 21, 4, 184, 0, 183, 42, 180, 0, 7]
abbrev dktX5_isWithin_0 : List UInt8 := dkwX5_isWithin_0 ++ dktX5_isWithin_1
theorem dksX5_isWithin_0 : cX5_isWithin.data.toList.drop 0 = dktX5_isWithin_0 := by decide +kernel
theorem dksX5_isWithin_1 : cX5_isWithin.data.toList.drop 23 = dktX5_isWithin_1 := dk_seg dksX5_isWithin_0 23 rfl rfl
theorem dksX5_isWithin_2 : cX5_isWithin.data.toList.drop 47 = dktX5_isWithin_2 := dk_seg dksX5_isWithin_1 24 rfl rfl
theorem dX5_isWithin_0 : decode cX5_isWithin 0 = .ok (.iconst 0, 1) := dk_3 (dk_at dksX5_isWithin_0 0 rfl rfl)
theorem dX5_isWithin_1 : decode cX5_isWithin 1 = .ok (.istore 5, 2) := dk_54 5 (dk_at dksX5_isWithin_0 1 rfl rfl)
theorem dX5_isWithin_3 : decode cX5_isWithin 3 = .ok (.iload 5, 2) := dk_21 5 (dk_at dksX5_isWithin_0 3 rfl rfl)
theorem dX5_isWithin_5 : decode cX5_isWithin 5 = .ok (.iconst 4, 1) := dk_7 (dk_at dksX5_isWithin_0 5 rfl rfl)
theorem dX5_isWithin_6 : decode cX5_isWithin 6 = .ok (.if_icmp .ge 49, 3) := dk_162 0 49 (dk_at dksX5_isWithin_0 6 rfl rfl)
theorem dX5_isWithin_9 : decode cX5_isWithin 9 = .ok (.iload 5, 2) := dk_21 5 (dk_at dksX5_isWithin_0 9 rfl rfl)
theorem dX5_isWithin_11 : decode cX5_isWithin 11 = .ok (.iload_n 1, 1) := dk_27 (dk_at dksX5_isWithin_0 11 rfl rfl)
theorem dX5_isWithin_12 : decode cX5_isWithin 12 = .ok (.iload_n 2, 1) := dk_28 (dk_at dksX5_isWithin_0 12 rfl rfl)
theorem dX5_isWithin_13 : decode cX5_isWithin 13 = .ok (.iload_n 3, 1) := dk_29 (dk_at dksX5_isWithin_0 13 rfl rfl)
theorem dX5_isWithin_14 : decode cX5_isWithin 14 = .ok (.iload 4, 2) := dk_21 4 (dk_at dksX5_isWithin_0 14 rfl rfl)
theorem dX5_isWithin_16 : decode cX5_isWithin 16 = .ok (.invokestatic 183, 3) := dk_184 0 183 (dk_at dksX5_isWithin_0 16 rfl rfl)
theorem dX5_isWithin_19 : decode cX5_isWithin 19 = .ok (.aload_n 0, 1) := dk_42 (dk_at dksX5_isWithin_0 19 rfl rfl)
theorem dX5_isWithin_20 : decode cX5_isWithin 20 = .ok (.getfield 7, 3) := dk_180 0 7 (dk_at dksX5_isWithin_0 20 rfl rfl)
theorem dX5_isWithin_23 : decode cX5_isWithin 23 = .ok (.sipush 165, 3) := dk_17 0 165 (dk_at dksX5_isWithin_1 0 rfl rfl)
theorem dX5_isWithin_26 : decode cX5_isWithin 26 = .ok (.iload 5, 2) := dk_21 5 (dk_at dksX5_isWithin_1 3 rfl rfl)
theorem dX5_isWithin_28 : decode cX5_isWithin 28 = .ok (.iadd, 1) := dk_96 (dk_at dksX5_isWithin_1 5 rfl rfl)
theorem dX5_isWithin_29 : decode cX5_isWithin 29 = .ok (.iaload, 1) := dk_46 (dk_at dksX5_isWithin_1 6 rfl rfl)
theorem dX5_isWithin_30 : decode cX5_isWithin 30 = .ok (.aload_n 0, 1) := dk_42 (dk_at dksX5_isWithin_1 7 rfl rfl)
theorem dX5_isWithin_31 : decode cX5_isWithin 31 = .ok (.getfield 7, 3) := dk_180 0 7 (dk_at dksX5_isWithin_1 8 rfl rfl)
theorem dX5_isWithin_34 : decode cX5_isWithin 34 = .ok (.sipush 169, 3) := dk_17 0 169 (dk_at dksX5_isWithin_1 11 rfl rfl)
theorem dX5_isWithin_37 : decode cX5_isWithin 37 = .ok (.iload 5, 2) := dk_21 5 (dk_at dksX5_isWithin_1 14 rfl rfl)
theorem dX5_isWithin_39 : decode cX5_isWithin 39 = .ok (.iadd, 1) := dk_96 (dk_at dksX5_isWithin_1 16 rfl rfl)
theorem dX5_isWithin_40 : decode cX5_isWithin 40 = .ok (.iaload, 1) := dk_46 (dk_at dksX5_isWithin_1 17 rfl rfl)
theorem dX5_isWithin_41 : decode cX5_isWithin 41 = .ok (.invokestatic 42, 3) := dk_184 0 42 (dk_at dksX5_isWithin_1 18 rfl rfl)
theorem dX5_isWithin_44 : decode cX5_isWithin 44 = .ok (.ifCond .ne 5, 3) := dk_154 0 5 (dk_at dksX5_isWithin_1 21 rfl rfl)
theorem dX5_isWithin_47 : decode cX5_isWithin 47 = .ok (.iconst 0, 1) := dk_3 (dk_at dksX5_isWithin_2 0 rfl rfl)
theorem dX5_isWithin_48 : decode cX5_isWithin 48 = .ok (.ireturn, 1) := dk_172 (dk_at dksX5_isWithin_2 1 rfl rfl)
theorem dX5_isWithin_49 : decode cX5_isWithin 49 = .ok (.iinc 5 1, 3) := dk_132 5 1 (dk_at dksX5_isWithin_2 2 rfl rfl)
theorem dX5_isWithin_52 : decode cX5_isWithin 52 = .ok (.goto (-49), 3) := dk_167 255 207 (dk_at dksX5_isWithin_2 5 rfl rfl)
theorem dX5_isWithin_55 : decode cX5_isWithin 55 = .ok (.iconst 1, 1) := dk_4 (dk_at dksX5_isWithin_2 8 rfl rfl)
theorem dX5_isWithin_56 : decode cX5_isWithin 56 = .ok (.ireturn, 1) := dk_172 (dk_at dksX5_isWithin_2 9 rfl rfl)
abbrev cX5_among : ByteArray := prog_10_method_83_code
def yX5_among : MethodName := ⟨RX5, "among", "(IIIII)I"⟩
def dkwX5_among_1 : List UInt8 := [167, 0, 5, 21, 4, 172]
abbrev dktX5_among_1 : List UInt8 := dkwX5_among_1 ++ []
def dkwX5_among_0 : List UInt8 := [26, 154, 0, 7, 27, 167, 0, 23, 26, 4, 160, 0, 7, 28, 167, 0, 14, 26, 5, 160, 0, 7, 29]
abbrev dktX5_among_0 : List UInt8 := dkwX5_among_0 ++ dktX5_among_1
theorem dksX5_among_0 : cX5_among.data.toList.drop 0 = dktX5_among_0 := by decide +kernel
theorem dksX5_among_1 : cX5_among.data.toList.drop 23 = dktX5_among_1 := dk_seg dksX5_among_0 23 rfl rfl
theorem dX5_among_0 : decode cX5_among 0 = .ok (.iload_n 0, 1) := dk_26 (dk_at dksX5_among_0 0 rfl rfl)
theorem dX5_among_1 : decode cX5_among 1 = .ok (.ifCond .ne 7, 3) := dk_154 0 7 (dk_at dksX5_among_0 1 rfl rfl)
theorem dX5_among_4 : decode cX5_among 4 = .ok (.iload_n 1, 1) := dk_27 (dk_at dksX5_among_0 4 rfl rfl)
theorem dX5_among_5 : decode cX5_among 5 = .ok (.goto 23, 3) := dk_167 0 23 (dk_at dksX5_among_0 5 rfl rfl)
theorem dX5_among_8 : decode cX5_among 8 = .ok (.iload_n 0, 1) := dk_26 (dk_at dksX5_among_0 8 rfl rfl)
theorem dX5_among_9 : decode cX5_among 9 = .ok (.iconst 1, 1) := dk_4 (dk_at dksX5_among_0 9 rfl rfl)
theorem dX5_among_10 : decode cX5_among 10 = .ok (.if_icmp .ne 7, 3) := dk_160 0 7 (dk_at dksX5_among_0 10 rfl rfl)
theorem dX5_among_13 : decode cX5_among 13 = .ok (.iload_n 2, 1) := dk_28 (dk_at dksX5_among_0 13 rfl rfl)
theorem dX5_among_14 : decode cX5_among 14 = .ok (.goto 14, 3) := dk_167 0 14 (dk_at dksX5_among_0 14 rfl rfl)
theorem dX5_among_17 : decode cX5_among 17 = .ok (.iload_n 0, 1) := dk_26 (dk_at dksX5_among_0 17 rfl rfl)
theorem dX5_among_18 : decode cX5_among 18 = .ok (.iconst 2, 1) := dk_5 (dk_at dksX5_among_0 18 rfl rfl)
theorem dX5_among_19 : decode cX5_among 19 = .ok (.if_icmp .ne 7, 3) := dk_160 0 7 (dk_at dksX5_among_0 19 rfl rfl)
theorem dX5_among_22 : decode cX5_among 22 = .ok (.iload_n 3, 1) := dk_29 (dk_at dksX5_among_0 22 rfl rfl)
theorem dX5_among_23 : decode cX5_among 23 = .ok (.goto 5, 3) := dk_167 0 5 (dk_at dksX5_among_1 0 rfl rfl)
theorem dX5_among_26 : decode cX5_among 26 = .ok (.iload 4, 2) := dk_21 4 (dk_at dksX5_among_1 3 rfl rfl)
theorem dX5_among_28 : decode cX5_among 28 = .ok (.ireturn, 1) := dk_172 (dk_at dksX5_among_1 5 rfl rfl)
abbrev cX5_against : ByteArray := prog_10_method_84_code
def yX5_against : MethodName := ⟨RX5, "against", "(IIIII)I"⟩
def dkwX5_against_5 : List UInt8 := [158, 0, 12, 21, 6, 154, 0, 7, 5, 167, 0, 4, 3, 172]
abbrev dktX5_against_5 : List UInt8 := dkwX5_against_5 ++ []
def dkwX5_against_4 : List UInt8 := [54, 7, 132, 8, 1, 167, 255, 166, 21, 6, 158, 0, 12, 21, 7, 154, 0, 7, 4, 167, 0, 18, 21, 7]
abbrev dktX5_against_4 : List UInt8 := dkwX5_against_4 ++ dktX5_against_5
def dkwX5_against_3 : List UInt8 := [182, 0, 49, 153, 0, 19, 42, 27, 21, 8, 182, 0, 60, 21, 9, 162, 0, 7, 4, 167, 0, 4, 3, 96]
abbrev dktX5_against_3 : List UInt8 := dkwX5_against_3 ++ dktX5_against_4
def dkwX5_against_2 : List UInt8 := [21, 8, 182, 0, 60, 21, 9, 164, 0, 7, 4, 167, 0, 4, 3, 96, 54, 6, 21, 7, 42, 21, 8]
abbrev dktX5_against_2 : List UInt8 := dkwX5_against_2 ++ dktX5_against_3
def dkwX5_against_1 : List UInt8 := [184, 0, 183, 21, 8, 182, 0, 187, 54, 9, 21, 6, 42, 21, 8, 182, 0, 49, 153, 0, 19, 42, 27]
abbrev dktX5_against_1 : List UInt8 := dkwX5_against_1 ++ dktX5_against_2
def dkwX5_against_0 : List UInt8 := [3, 54, 6, 3, 54, 7, 3, 54, 8, 21, 8, 7, 162, 0, 90, 42, 21, 8, 28, 29, 21, 4, 21, 5]
abbrev dktX5_against_0 : List UInt8 := dkwX5_against_0 ++ dktX5_against_1
theorem dksX5_against_0 : cX5_against.data.toList.drop 0 = dktX5_against_0 := by decide +kernel
theorem dksX5_against_1 : cX5_against.data.toList.drop 24 = dktX5_against_1 := dk_seg dksX5_against_0 24 rfl rfl
theorem dksX5_against_2 : cX5_against.data.toList.drop 47 = dktX5_against_2 := dk_seg dksX5_against_1 23 rfl rfl
theorem dksX5_against_3 : cX5_against.data.toList.drop 70 = dktX5_against_3 := dk_seg dksX5_against_2 23 rfl rfl
theorem dksX5_against_4 : cX5_against.data.toList.drop 94 = dktX5_against_4 := dk_seg dksX5_against_3 24 rfl rfl
theorem dksX5_against_5 : cX5_against.data.toList.drop 118 = dktX5_against_5 := dk_seg dksX5_against_4 24 rfl rfl
theorem dX5_against_0 : decode cX5_against 0 = .ok (.iconst 0, 1) := dk_3 (dk_at dksX5_against_0 0 rfl rfl)
theorem dX5_against_1 : decode cX5_against 1 = .ok (.istore 6, 2) := dk_54 6 (dk_at dksX5_against_0 1 rfl rfl)
theorem dX5_against_3 : decode cX5_against 3 = .ok (.iconst 0, 1) := dk_3 (dk_at dksX5_against_0 3 rfl rfl)
theorem dX5_against_4 : decode cX5_against 4 = .ok (.istore 7, 2) := dk_54 7 (dk_at dksX5_against_0 4 rfl rfl)
theorem dX5_against_6 : decode cX5_against 6 = .ok (.iconst 0, 1) := dk_3 (dk_at dksX5_against_0 6 rfl rfl)
theorem dX5_against_7 : decode cX5_against 7 = .ok (.istore 8, 2) := dk_54 8 (dk_at dksX5_against_0 7 rfl rfl)
theorem dX5_against_9 : decode cX5_against 9 = .ok (.iload 8, 2) := dk_21 8 (dk_at dksX5_against_0 9 rfl rfl)
theorem dX5_against_11 : decode cX5_against 11 = .ok (.iconst 4, 1) := dk_7 (dk_at dksX5_against_0 11 rfl rfl)
theorem dX5_against_12 : decode cX5_against 12 = .ok (.if_icmp .ge 90, 3) := dk_162 0 90 (dk_at dksX5_against_0 12 rfl rfl)
theorem dX5_against_15 : decode cX5_against 15 = .ok (.aload_n 0, 1) := dk_42 (dk_at dksX5_against_0 15 rfl rfl)
theorem dX5_against_16 : decode cX5_against 16 = .ok (.iload 8, 2) := dk_21 8 (dk_at dksX5_against_0 16 rfl rfl)
theorem dX5_against_18 : decode cX5_against 18 = .ok (.iload_n 2, 1) := dk_28 (dk_at dksX5_against_0 18 rfl rfl)
theorem dX5_against_19 : decode cX5_against 19 = .ok (.iload_n 3, 1) := dk_29 (dk_at dksX5_against_0 19 rfl rfl)
theorem dX5_against_20 : decode cX5_against 20 = .ok (.iload 4, 2) := dk_21 4 (dk_at dksX5_against_0 20 rfl rfl)
theorem dX5_against_22 : decode cX5_against 22 = .ok (.iload 5, 2) := dk_21 5 (dk_at dksX5_against_0 22 rfl rfl)
theorem dX5_against_24 : decode cX5_against 24 = .ok (.invokestatic 183, 3) := dk_184 0 183 (dk_at dksX5_against_1 0 rfl rfl)
theorem dX5_against_27 : decode cX5_against 27 = .ok (.iload 8, 2) := dk_21 8 (dk_at dksX5_against_1 3 rfl rfl)
theorem dX5_against_29 : decode cX5_against 29 = .ok (.invokevirtual 187, 3) := dk_182 0 187 (dk_at dksX5_against_1 5 rfl rfl)
theorem dX5_against_32 : decode cX5_against 32 = .ok (.istore 9, 2) := dk_54 9 (dk_at dksX5_against_1 8 rfl rfl)
theorem dX5_against_34 : decode cX5_against 34 = .ok (.iload 6, 2) := dk_21 6 (dk_at dksX5_against_1 10 rfl rfl)
theorem dX5_against_36 : decode cX5_against 36 = .ok (.aload_n 0, 1) := dk_42 (dk_at dksX5_against_1 12 rfl rfl)
theorem dX5_against_37 : decode cX5_against 37 = .ok (.iload 8, 2) := dk_21 8 (dk_at dksX5_against_1 13 rfl rfl)
theorem dX5_against_39 : decode cX5_against 39 = .ok (.invokevirtual 49, 3) := dk_182 0 49 (dk_at dksX5_against_1 15 rfl rfl)
theorem dX5_against_42 : decode cX5_against 42 = .ok (.ifCond .eq 19, 3) := dk_153 0 19 (dk_at dksX5_against_1 18 rfl rfl)
theorem dX5_against_45 : decode cX5_against 45 = .ok (.aload_n 0, 1) := dk_42 (dk_at dksX5_against_1 21 rfl rfl)
theorem dX5_against_46 : decode cX5_against 46 = .ok (.iload_n 1, 1) := dk_27 (dk_at dksX5_against_1 22 rfl rfl)
theorem dX5_against_47 : decode cX5_against 47 = .ok (.iload 8, 2) := dk_21 8 (dk_at dksX5_against_2 0 rfl rfl)
theorem dX5_against_49 : decode cX5_against 49 = .ok (.invokevirtual 60, 3) := dk_182 0 60 (dk_at dksX5_against_2 2 rfl rfl)
theorem dX5_against_52 : decode cX5_against 52 = .ok (.iload 9, 2) := dk_21 9 (dk_at dksX5_against_2 5 rfl rfl)
theorem dX5_against_54 : decode cX5_against 54 = .ok (.if_icmp .le 7, 3) := dk_164 0 7 (dk_at dksX5_against_2 7 rfl rfl)
theorem dX5_against_57 : decode cX5_against 57 = .ok (.iconst 1, 1) := dk_4 (dk_at dksX5_against_2 10 rfl rfl)
theorem dX5_against_58 : decode cX5_against 58 = .ok (.goto 4, 3) := dk_167 0 4 (dk_at dksX5_against_2 11 rfl rfl)
theorem dX5_against_61 : decode cX5_against 61 = .ok (.iconst 0, 1) := dk_3 (dk_at dksX5_against_2 14 rfl rfl)
theorem dX5_against_62 : decode cX5_against 62 = .ok (.iadd, 1) := dk_96 (dk_at dksX5_against_2 15 rfl rfl)
theorem dX5_against_63 : decode cX5_against 63 = .ok (.istore 6, 2) := dk_54 6 (dk_at dksX5_against_2 16 rfl rfl)
theorem dX5_against_65 : decode cX5_against 65 = .ok (.iload 7, 2) := dk_21 7 (dk_at dksX5_against_2 18 rfl rfl)
theorem dX5_against_67 : decode cX5_against 67 = .ok (.aload_n 0, 1) := dk_42 (dk_at dksX5_against_2 20 rfl rfl)
theorem dX5_against_68 : decode cX5_against 68 = .ok (.iload 8, 2) := dk_21 8 (dk_at dksX5_against_2 21 rfl rfl)
theorem dX5_against_70 : decode cX5_against 70 = .ok (.invokevirtual 49, 3) := dk_182 0 49 (dk_at dksX5_against_3 0 rfl rfl)
theorem dX5_against_73 : decode cX5_against 73 = .ok (.ifCond .eq 19, 3) := dk_153 0 19 (dk_at dksX5_against_3 3 rfl rfl)
theorem dX5_against_76 : decode cX5_against 76 = .ok (.aload_n 0, 1) := dk_42 (dk_at dksX5_against_3 6 rfl rfl)
theorem dX5_against_77 : decode cX5_against 77 = .ok (.iload_n 1, 1) := dk_27 (dk_at dksX5_against_3 7 rfl rfl)
theorem dX5_against_78 : decode cX5_against 78 = .ok (.iload 8, 2) := dk_21 8 (dk_at dksX5_against_3 8 rfl rfl)
theorem dX5_against_80 : decode cX5_against 80 = .ok (.invokevirtual 60, 3) := dk_182 0 60 (dk_at dksX5_against_3 10 rfl rfl)
theorem dX5_against_83 : decode cX5_against 83 = .ok (.iload 9, 2) := dk_21 9 (dk_at dksX5_against_3 13 rfl rfl)
theorem dX5_against_85 : decode cX5_against 85 = .ok (.if_icmp .ge 7, 3) := dk_162 0 7 (dk_at dksX5_against_3 15 rfl rfl)
theorem dX5_against_88 : decode cX5_against 88 = .ok (.iconst 1, 1) := dk_4 (dk_at dksX5_against_3 18 rfl rfl)
theorem dX5_against_89 : decode cX5_against 89 = .ok (.goto 4, 3) := dk_167 0 4 (dk_at dksX5_against_3 19 rfl rfl)
theorem dX5_against_92 : decode cX5_against 92 = .ok (.iconst 0, 1) := dk_3 (dk_at dksX5_against_3 22 rfl rfl)
theorem dX5_against_93 : decode cX5_against 93 = .ok (.iadd, 1) := dk_96 (dk_at dksX5_against_3 23 rfl rfl)
theorem dX5_against_94 : decode cX5_against 94 = .ok (.istore 7, 2) := dk_54 7 (dk_at dksX5_against_4 0 rfl rfl)
theorem dX5_against_96 : decode cX5_against 96 = .ok (.iinc 8 1, 3) := dk_132 8 1 (dk_at dksX5_against_4 2 rfl rfl)
theorem dX5_against_99 : decode cX5_against 99 = .ok (.goto (-90), 3) := dk_167 255 166 (dk_at dksX5_against_4 5 rfl rfl)
theorem dX5_against_102 : decode cX5_against 102 = .ok (.iload 6, 2) := dk_21 6 (dk_at dksX5_against_4 8 rfl rfl)
theorem dX5_against_104 : decode cX5_against 104 = .ok (.ifCond .le 12, 3) := dk_158 0 12 (dk_at dksX5_against_4 10 rfl rfl)
theorem dX5_against_107 : decode cX5_against 107 = .ok (.iload 7, 2) := dk_21 7 (dk_at dksX5_against_4 13 rfl rfl)
theorem dX5_against_109 : decode cX5_against 109 = .ok (.ifCond .ne 7, 3) := dk_154 0 7 (dk_at dksX5_against_4 15 rfl rfl)
theorem dX5_against_112 : decode cX5_against 112 = .ok (.iconst 1, 1) := dk_4 (dk_at dksX5_against_4 18 rfl rfl)
theorem dX5_against_113 : decode cX5_against 113 = .ok (.goto 18, 3) := dk_167 0 18 (dk_at dksX5_against_4 19 rfl rfl)
theorem dX5_against_116 : decode cX5_against 116 = .ok (.iload 7, 2) := dk_21 7 (dk_at dksX5_against_4 22 rfl rfl)
theorem dX5_against_118 : decode cX5_against 118 = .ok (.ifCond .le 12, 3) := dk_158 0 12 (dk_at dksX5_against_5 0 rfl rfl)
theorem dX5_against_121 : decode cX5_against 121 = .ok (.iload 6, 2) := dk_21 6 (dk_at dksX5_against_5 3 rfl rfl)
theorem dX5_against_123 : decode cX5_against 123 = .ok (.ifCond .ne 7, 3) := dk_154 0 7 (dk_at dksX5_against_5 5 rfl rfl)
theorem dX5_against_126 : decode cX5_against 126 = .ok (.iconst 2, 1) := dk_5 (dk_at dksX5_against_5 8 rfl rfl)
theorem dX5_against_127 : decode cX5_against 127 = .ok (.goto 4, 3) := dk_167 0 4 (dk_at dksX5_against_5 9 rfl rfl)
theorem dX5_against_130 : decode cX5_against 130 = .ok (.iconst 0, 1) := dk_3 (dk_at dksX5_against_5 12 rfl rfl)
theorem dX5_against_131 : decode cX5_against 131 = .ok (.ireturn, 1) := dk_172 (dk_at dksX5_against_5 13 rfl rfl)
abbrev cX5_goodOf : ByteArray := prog_10_method_82_code
def yX5_goodOf : MethodName := ⟨RX5, "goodOf", "(II)I"⟩
def dkwX5_goodOf_0 : List UInt8 := [42, 180, 0, 7, 17, 0, 161, 28, 96, 46, 4, 160, 0, 7, 27, 167, 0, 7, 16, 99, 27, 100, 172]
abbrev dktX5_goodOf_0 : List UInt8 := dkwX5_goodOf_0 ++ []
theorem dksX5_goodOf_0 : cX5_goodOf.data.toList.drop 0 = dktX5_goodOf_0 := by decide +kernel
theorem dX5_goodOf_0 : decode cX5_goodOf 0 = .ok (.aload_n 0, 1) := dk_42 (dk_at dksX5_goodOf_0 0 rfl rfl)
theorem dX5_goodOf_1 : decode cX5_goodOf 1 = .ok (.getfield 7, 3) := dk_180 0 7 (dk_at dksX5_goodOf_0 1 rfl rfl)
theorem dX5_goodOf_4 : decode cX5_goodOf 4 = .ok (.sipush 161, 3) := dk_17 0 161 (dk_at dksX5_goodOf_0 4 rfl rfl)
theorem dX5_goodOf_7 : decode cX5_goodOf 7 = .ok (.iload_n 2, 1) := dk_28 (dk_at dksX5_goodOf_0 7 rfl rfl)
theorem dX5_goodOf_8 : decode cX5_goodOf 8 = .ok (.iadd, 1) := dk_96 (dk_at dksX5_goodOf_0 8 rfl rfl)
theorem dX5_goodOf_9 : decode cX5_goodOf 9 = .ok (.iaload, 1) := dk_46 (dk_at dksX5_goodOf_0 9 rfl rfl)
theorem dX5_goodOf_10 : decode cX5_goodOf 10 = .ok (.iconst 1, 1) := dk_4 (dk_at dksX5_goodOf_0 10 rfl rfl)
theorem dX5_goodOf_11 : decode cX5_goodOf 11 = .ok (.if_icmp .ne 7, 3) := dk_160 0 7 (dk_at dksX5_goodOf_0 11 rfl rfl)
theorem dX5_goodOf_14 : decode cX5_goodOf 14 = .ok (.iload_n 1, 1) := dk_27 (dk_at dksX5_goodOf_0 14 rfl rfl)
theorem dX5_goodOf_15 : decode cX5_goodOf 15 = .ok (.goto 7, 3) := dk_167 0 7 (dk_at dksX5_goodOf_0 15 rfl rfl)
theorem dX5_goodOf_18 : decode cX5_goodOf 18 = .ok (.bipush 99, 2) := dk_16 99 (dk_at dksX5_goodOf_0 18 rfl rfl)
theorem dX5_goodOf_20 : decode cX5_goodOf 20 = .ok (.iload_n 1, 1) := dk_27 (dk_at dksX5_goodOf_0 20 rfl rfl)
theorem dX5_goodOf_21 : decode cX5_goodOf 21 = .ok (.isub, 1) := dk_100 (dk_at dksX5_goodOf_0 21 rfl rfl)
theorem dX5_goodOf_22 : decode cX5_goodOf 22 = .ok (.ireturn, 1) := dk_172 (dk_at dksX5_goodOf_0 22 rfl rfl)
abbrev cX5_wouldBeat : ByteArray := prog_10_method_88_code
def yX5_wouldBeat : MethodName := ⟨RX5, "wouldBeat", "(IIII)I"⟩
def dkwX5_wouldBeat_4 : List UInt8 := [54, 5, 132, 6, 1, 167, 255, 193, 21, 5, 172]
abbrev dktX5_wouldBeat_4 : List UInt8 := dkwX5_wouldBeat_4 ++ []
def dkwX5_wouldBeat_3 : List UInt8 := [153, 0, 22, 42, 21, 6, 27, 28, 29, 21, 4, 182, 0, 193, 5, 160, 0, 7, 4, 167, 0, 4, 3, 96]
abbrev dktX5_wouldBeat_3 : List UInt8 := dkwX5_wouldBeat_3 ++ dktX5_wouldBeat_4
def dkwX5_wouldBeat_2 : List UInt8 := [162, 0, 56, 42, 27, 28, 29, 21, 4, 182, 0, 190, 153, 0, 44, 21, 5, 42, 180, 0, 25, 21, 6, 51]
abbrev dktX5_wouldBeat_2 : List UInt8 := dkwX5_wouldBeat_2 ++ dktX5_wouldBeat_3
def dkwX5_wouldBeat_1 : List UInt8 := [182, 0, 67, 182, 0, 78, 87, 3, 54, 5, 3, 54, 6, 21, 6, 42, 180, 0, 7, 17, 0, 160, 46]
abbrev dktX5_wouldBeat_1 : List UInt8 := dkwX5_wouldBeat_1 ++ dktX5_wouldBeat_2
def dkwX5_wouldBeat_0 : List UInt8 := [42, 3, 181, 0, 38, 27, 28, 29, 21, 4, 184, 0, 91, 153, 0, 9, 42, 4, 182, 0, 105, 172, 42, 42]
abbrev dktX5_wouldBeat_0 : List UInt8 := dkwX5_wouldBeat_0 ++ dktX5_wouldBeat_1
theorem dksX5_wouldBeat_0 : cX5_wouldBeat.data.toList.drop 0 = dktX5_wouldBeat_0 := by decide +kernel
theorem dksX5_wouldBeat_1 : cX5_wouldBeat.data.toList.drop 24 = dktX5_wouldBeat_1 := dk_seg dksX5_wouldBeat_0 24 rfl rfl
theorem dksX5_wouldBeat_2 : cX5_wouldBeat.data.toList.drop 47 = dktX5_wouldBeat_2 := dk_seg dksX5_wouldBeat_1 23 rfl rfl
theorem dksX5_wouldBeat_3 : cX5_wouldBeat.data.toList.drop 71 = dktX5_wouldBeat_3 := dk_seg dksX5_wouldBeat_2 24 rfl rfl
theorem dksX5_wouldBeat_4 : cX5_wouldBeat.data.toList.drop 95 = dktX5_wouldBeat_4 := dk_seg dksX5_wouldBeat_3 24 rfl rfl
theorem dX5_wouldBeat_0 : decode cX5_wouldBeat 0 = .ok (.aload_n 0, 1) := dk_42 (dk_at dksX5_wouldBeat_0 0 rfl rfl)
theorem dX5_wouldBeat_1 : decode cX5_wouldBeat 1 = .ok (.iconst 0, 1) := dk_3 (dk_at dksX5_wouldBeat_0 1 rfl rfl)
theorem dX5_wouldBeat_2 : decode cX5_wouldBeat 2 = .ok (.putfield 38, 3) := dk_181 0 38 (dk_at dksX5_wouldBeat_0 2 rfl rfl)
theorem dX5_wouldBeat_5 : decode cX5_wouldBeat 5 = .ok (.iload_n 1, 1) := dk_27 (dk_at dksX5_wouldBeat_0 5 rfl rfl)
theorem dX5_wouldBeat_6 : decode cX5_wouldBeat 6 = .ok (.iload_n 2, 1) := dk_28 (dk_at dksX5_wouldBeat_0 6 rfl rfl)
theorem dX5_wouldBeat_7 : decode cX5_wouldBeat 7 = .ok (.iload_n 3, 1) := dk_29 (dk_at dksX5_wouldBeat_0 7 rfl rfl)
theorem dX5_wouldBeat_8 : decode cX5_wouldBeat 8 = .ok (.iload 4, 2) := dk_21 4 (dk_at dksX5_wouldBeat_0 8 rfl rfl)
theorem dX5_wouldBeat_10 : decode cX5_wouldBeat 10 = .ok (.invokestatic 91, 3) := dk_184 0 91 (dk_at dksX5_wouldBeat_0 10 rfl rfl)
theorem dX5_wouldBeat_13 : decode cX5_wouldBeat 13 = .ok (.ifCond .eq 9, 3) := dk_153 0 9 (dk_at dksX5_wouldBeat_0 13 rfl rfl)
theorem dX5_wouldBeat_16 : decode cX5_wouldBeat 16 = .ok (.aload_n 0, 1) := dk_42 (dk_at dksX5_wouldBeat_0 16 rfl rfl)
theorem dX5_wouldBeat_17 : decode cX5_wouldBeat 17 = .ok (.iconst 1, 1) := dk_4 (dk_at dksX5_wouldBeat_0 17 rfl rfl)
theorem dX5_wouldBeat_18 : decode cX5_wouldBeat 18 = .ok (.invokevirtual 105, 3) := dk_182 0 105 (dk_at dksX5_wouldBeat_0 18 rfl rfl)
theorem dX5_wouldBeat_21 : decode cX5_wouldBeat 21 = .ok (.ireturn, 1) := dk_172 (dk_at dksX5_wouldBeat_0 21 rfl rfl)
theorem dX5_wouldBeat_22 : decode cX5_wouldBeat 22 = .ok (.aload_n 0, 1) := dk_42 (dk_at dksX5_wouldBeat_0 22 rfl rfl)
theorem dX5_wouldBeat_23 : decode cX5_wouldBeat 23 = .ok (.aload_n 0, 1) := dk_42 (dk_at dksX5_wouldBeat_0 23 rfl rfl)
theorem dX5_wouldBeat_24 : decode cX5_wouldBeat 24 = .ok (.invokevirtual 67, 3) := dk_182 0 67 (dk_at dksX5_wouldBeat_1 0 rfl rfl)
theorem dX5_wouldBeat_27 : decode cX5_wouldBeat 27 = .ok (.invokevirtual 78, 3) := dk_182 0 78 (dk_at dksX5_wouldBeat_1 3 rfl rfl)
theorem dX5_wouldBeat_30 : decode cX5_wouldBeat 30 = .ok (.pop, 1) := dk_87 (dk_at dksX5_wouldBeat_1 6 rfl rfl)
theorem dX5_wouldBeat_31 : decode cX5_wouldBeat 31 = .ok (.iconst 0, 1) := dk_3 (dk_at dksX5_wouldBeat_1 7 rfl rfl)
theorem dX5_wouldBeat_32 : decode cX5_wouldBeat 32 = .ok (.istore 5, 2) := dk_54 5 (dk_at dksX5_wouldBeat_1 8 rfl rfl)
theorem dX5_wouldBeat_34 : decode cX5_wouldBeat 34 = .ok (.iconst 0, 1) := dk_3 (dk_at dksX5_wouldBeat_1 10 rfl rfl)
theorem dX5_wouldBeat_35 : decode cX5_wouldBeat 35 = .ok (.istore 6, 2) := dk_54 6 (dk_at dksX5_wouldBeat_1 11 rfl rfl)
theorem dX5_wouldBeat_37 : decode cX5_wouldBeat 37 = .ok (.iload 6, 2) := dk_21 6 (dk_at dksX5_wouldBeat_1 13 rfl rfl)
theorem dX5_wouldBeat_39 : decode cX5_wouldBeat 39 = .ok (.aload_n 0, 1) := dk_42 (dk_at dksX5_wouldBeat_1 15 rfl rfl)
theorem dX5_wouldBeat_40 : decode cX5_wouldBeat 40 = .ok (.getfield 7, 3) := dk_180 0 7 (dk_at dksX5_wouldBeat_1 16 rfl rfl)
theorem dX5_wouldBeat_43 : decode cX5_wouldBeat 43 = .ok (.sipush 160, 3) := dk_17 0 160 (dk_at dksX5_wouldBeat_1 19 rfl rfl)
theorem dX5_wouldBeat_46 : decode cX5_wouldBeat 46 = .ok (.iaload, 1) := dk_46 (dk_at dksX5_wouldBeat_1 22 rfl rfl)
theorem dX5_wouldBeat_47 : decode cX5_wouldBeat 47 = .ok (.if_icmp .ge 56, 3) := dk_162 0 56 (dk_at dksX5_wouldBeat_2 0 rfl rfl)
theorem dX5_wouldBeat_50 : decode cX5_wouldBeat 50 = .ok (.aload_n 0, 1) := dk_42 (dk_at dksX5_wouldBeat_2 3 rfl rfl)
theorem dX5_wouldBeat_51 : decode cX5_wouldBeat 51 = .ok (.iload_n 1, 1) := dk_27 (dk_at dksX5_wouldBeat_2 4 rfl rfl)
theorem dX5_wouldBeat_52 : decode cX5_wouldBeat 52 = .ok (.iload_n 2, 1) := dk_28 (dk_at dksX5_wouldBeat_2 5 rfl rfl)
theorem dX5_wouldBeat_53 : decode cX5_wouldBeat 53 = .ok (.iload_n 3, 1) := dk_29 (dk_at dksX5_wouldBeat_2 6 rfl rfl)
theorem dX5_wouldBeat_54 : decode cX5_wouldBeat 54 = .ok (.iload 4, 2) := dk_21 4 (dk_at dksX5_wouldBeat_2 7 rfl rfl)
theorem dX5_wouldBeat_56 : decode cX5_wouldBeat 56 = .ok (.invokevirtual 190, 3) := dk_182 0 190 (dk_at dksX5_wouldBeat_2 9 rfl rfl)
theorem dX5_wouldBeat_59 : decode cX5_wouldBeat 59 = .ok (.ifCond .eq 44, 3) := dk_153 0 44 (dk_at dksX5_wouldBeat_2 12 rfl rfl)
theorem dX5_wouldBeat_62 : decode cX5_wouldBeat 62 = .ok (.iload 5, 2) := dk_21 5 (dk_at dksX5_wouldBeat_2 15 rfl rfl)
theorem dX5_wouldBeat_64 : decode cX5_wouldBeat 64 = .ok (.aload_n 0, 1) := dk_42 (dk_at dksX5_wouldBeat_2 17 rfl rfl)
theorem dX5_wouldBeat_65 : decode cX5_wouldBeat 65 = .ok (.getfield 25, 3) := dk_180 0 25 (dk_at dksX5_wouldBeat_2 18 rfl rfl)
theorem dX5_wouldBeat_68 : decode cX5_wouldBeat 68 = .ok (.iload 6, 2) := dk_21 6 (dk_at dksX5_wouldBeat_2 21 rfl rfl)
theorem dX5_wouldBeat_70 : decode cX5_wouldBeat 70 = .ok (.baload, 1) := dk_51 (dk_at dksX5_wouldBeat_2 23 rfl rfl)
theorem dX5_wouldBeat_71 : decode cX5_wouldBeat 71 = .ok (.ifCond .eq 22, 3) := dk_153 0 22 (dk_at dksX5_wouldBeat_3 0 rfl rfl)
theorem dX5_wouldBeat_74 : decode cX5_wouldBeat 74 = .ok (.aload_n 0, 1) := dk_42 (dk_at dksX5_wouldBeat_3 3 rfl rfl)
theorem dX5_wouldBeat_75 : decode cX5_wouldBeat 75 = .ok (.iload 6, 2) := dk_21 6 (dk_at dksX5_wouldBeat_3 4 rfl rfl)
theorem dX5_wouldBeat_77 : decode cX5_wouldBeat 77 = .ok (.iload_n 1, 1) := dk_27 (dk_at dksX5_wouldBeat_3 6 rfl rfl)
theorem dX5_wouldBeat_78 : decode cX5_wouldBeat 78 = .ok (.iload_n 2, 1) := dk_28 (dk_at dksX5_wouldBeat_3 7 rfl rfl)
theorem dX5_wouldBeat_79 : decode cX5_wouldBeat 79 = .ok (.iload_n 3, 1) := dk_29 (dk_at dksX5_wouldBeat_3 8 rfl rfl)
theorem dX5_wouldBeat_80 : decode cX5_wouldBeat 80 = .ok (.iload 4, 2) := dk_21 4 (dk_at dksX5_wouldBeat_3 9 rfl rfl)
theorem dX5_wouldBeat_82 : decode cX5_wouldBeat 82 = .ok (.invokevirtual 193, 3) := dk_182 0 193 (dk_at dksX5_wouldBeat_3 11 rfl rfl)
theorem dX5_wouldBeat_85 : decode cX5_wouldBeat 85 = .ok (.iconst 2, 1) := dk_5 (dk_at dksX5_wouldBeat_3 14 rfl rfl)
theorem dX5_wouldBeat_86 : decode cX5_wouldBeat 86 = .ok (.if_icmp .ne 7, 3) := dk_160 0 7 (dk_at dksX5_wouldBeat_3 15 rfl rfl)
theorem dX5_wouldBeat_89 : decode cX5_wouldBeat 89 = .ok (.iconst 1, 1) := dk_4 (dk_at dksX5_wouldBeat_3 18 rfl rfl)
theorem dX5_wouldBeat_90 : decode cX5_wouldBeat 90 = .ok (.goto 4, 3) := dk_167 0 4 (dk_at dksX5_wouldBeat_3 19 rfl rfl)
theorem dX5_wouldBeat_93 : decode cX5_wouldBeat 93 = .ok (.iconst 0, 1) := dk_3 (dk_at dksX5_wouldBeat_3 22 rfl rfl)
theorem dX5_wouldBeat_94 : decode cX5_wouldBeat 94 = .ok (.iadd, 1) := dk_96 (dk_at dksX5_wouldBeat_3 23 rfl rfl)
theorem dX5_wouldBeat_95 : decode cX5_wouldBeat 95 = .ok (.istore 5, 2) := dk_54 5 (dk_at dksX5_wouldBeat_4 0 rfl rfl)
theorem dX5_wouldBeat_97 : decode cX5_wouldBeat 97 = .ok (.iinc 6 1, 3) := dk_132 6 1 (dk_at dksX5_wouldBeat_4 2 rfl rfl)
theorem dX5_wouldBeat_100 : decode cX5_wouldBeat 100 = .ok (.goto (-63), 3) := dk_167 255 193 (dk_at dksX5_wouldBeat_4 5 rfl rfl)
theorem dX5_wouldBeat_103 : decode cX5_wouldBeat 103 = .ok (.iload 5, 2) := dk_21 5 (dk_at dksX5_wouldBeat_4 8 rfl rfl)
theorem dX5_wouldBeat_105 : decode cX5_wouldBeat 105 = .ok (.ireturn, 1) := dk_172 (dk_at dksX5_wouldBeat_4 10 rfl rfl)
abbrev cX5_raiseByTrying : ByteArray := prog_10_method_90_code
def yX5_raiseByTrying : MethodName := ⟨RX5, "raiseByTrying", "(II)I"⟩
def dkwX5_raiseByTrying_3 : List UInt8 := [182, 0, 105, 167, 0, 4, 29, 172]
abbrev dktX5_raiseByTrying_3 : List UInt8 := dkwX5_raiseByTrying_3 ++ []
def dkwX5_raiseByTrying_2 : List UInt8 := [180, 0, 38, 153, 0, 5, 3, 172, 42, 27, 28, 182, 0, 199, 62, 29, 2, 160, 0, 11, 42, 5]
abbrev dktX5_raiseByTrying_2 : List UInt8 := dkwX5_raiseByTrying_2 ++ dktX5_raiseByTrying_3
def dkwX5_raiseByTrying_1 : List UInt8 := [182, 0, 57, 153, 0, 11, 42, 28, 182, 0, 49, 154, 0, 7, 5, 167, 0, 4, 3, 181, 0, 38, 42]
abbrev dktX5_raiseByTrying_1 : List UInt8 := dkwX5_raiseByTrying_1 ++ dktX5_raiseByTrying_2
def dkwX5_raiseByTrying_0 : List UInt8 := [42, 42, 27, 182, 0, 102, 154, 0, 10, 28, 184, 0, 112, 153, 0, 7, 4, 167, 0, 24, 42, 27]
abbrev dktX5_raiseByTrying_0 : List UInt8 := dkwX5_raiseByTrying_0 ++ dktX5_raiseByTrying_1
theorem dksX5_raiseByTrying_0 : cX5_raiseByTrying.data.toList.drop 0 = dktX5_raiseByTrying_0 := by decide +kernel
theorem dksX5_raiseByTrying_1 : cX5_raiseByTrying.data.toList.drop 22 = dktX5_raiseByTrying_1 := dk_seg dksX5_raiseByTrying_0 22 rfl rfl
theorem dksX5_raiseByTrying_2 : cX5_raiseByTrying.data.toList.drop 45 = dktX5_raiseByTrying_2 := dk_seg dksX5_raiseByTrying_1 23 rfl rfl
theorem dksX5_raiseByTrying_3 : cX5_raiseByTrying.data.toList.drop 67 = dktX5_raiseByTrying_3 := dk_seg dksX5_raiseByTrying_2 22 rfl rfl
theorem dX5_raiseByTrying_0 : decode cX5_raiseByTrying 0 = .ok (.aload_n 0, 1) := dk_42 (dk_at dksX5_raiseByTrying_0 0 rfl rfl)
theorem dX5_raiseByTrying_1 : decode cX5_raiseByTrying 1 = .ok (.aload_n 0, 1) := dk_42 (dk_at dksX5_raiseByTrying_0 1 rfl rfl)
theorem dX5_raiseByTrying_2 : decode cX5_raiseByTrying 2 = .ok (.iload_n 1, 1) := dk_27 (dk_at dksX5_raiseByTrying_0 2 rfl rfl)
theorem dX5_raiseByTrying_3 : decode cX5_raiseByTrying 3 = .ok (.invokevirtual 102, 3) := dk_182 0 102 (dk_at dksX5_raiseByTrying_0 3 rfl rfl)
theorem dX5_raiseByTrying_6 : decode cX5_raiseByTrying 6 = .ok (.ifCond .ne 10, 3) := dk_154 0 10 (dk_at dksX5_raiseByTrying_0 6 rfl rfl)
theorem dX5_raiseByTrying_9 : decode cX5_raiseByTrying 9 = .ok (.iload_n 2, 1) := dk_28 (dk_at dksX5_raiseByTrying_0 9 rfl rfl)
theorem dX5_raiseByTrying_10 : decode cX5_raiseByTrying 10 = .ok (.invokestatic 112, 3) := dk_184 0 112 (dk_at dksX5_raiseByTrying_0 10 rfl rfl)
theorem dX5_raiseByTrying_13 : decode cX5_raiseByTrying 13 = .ok (.ifCond .eq 7, 3) := dk_153 0 7 (dk_at dksX5_raiseByTrying_0 13 rfl rfl)
theorem dX5_raiseByTrying_16 : decode cX5_raiseByTrying 16 = .ok (.iconst 1, 1) := dk_4 (dk_at dksX5_raiseByTrying_0 16 rfl rfl)
theorem dX5_raiseByTrying_17 : decode cX5_raiseByTrying 17 = .ok (.goto 24, 3) := dk_167 0 24 (dk_at dksX5_raiseByTrying_0 17 rfl rfl)
theorem dX5_raiseByTrying_20 : decode cX5_raiseByTrying 20 = .ok (.aload_n 0, 1) := dk_42 (dk_at dksX5_raiseByTrying_0 20 rfl rfl)
theorem dX5_raiseByTrying_21 : decode cX5_raiseByTrying 21 = .ok (.iload_n 1, 1) := dk_27 (dk_at dksX5_raiseByTrying_0 21 rfl rfl)
theorem dX5_raiseByTrying_22 : decode cX5_raiseByTrying 22 = .ok (.invokevirtual 57, 3) := dk_182 0 57 (dk_at dksX5_raiseByTrying_1 0 rfl rfl)
theorem dX5_raiseByTrying_25 : decode cX5_raiseByTrying 25 = .ok (.ifCond .eq 11, 3) := dk_153 0 11 (dk_at dksX5_raiseByTrying_1 3 rfl rfl)
theorem dX5_raiseByTrying_28 : decode cX5_raiseByTrying 28 = .ok (.aload_n 0, 1) := dk_42 (dk_at dksX5_raiseByTrying_1 6 rfl rfl)
theorem dX5_raiseByTrying_29 : decode cX5_raiseByTrying 29 = .ok (.iload_n 2, 1) := dk_28 (dk_at dksX5_raiseByTrying_1 7 rfl rfl)
theorem dX5_raiseByTrying_30 : decode cX5_raiseByTrying 30 = .ok (.invokevirtual 49, 3) := dk_182 0 49 (dk_at dksX5_raiseByTrying_1 8 rfl rfl)
theorem dX5_raiseByTrying_33 : decode cX5_raiseByTrying 33 = .ok (.ifCond .ne 7, 3) := dk_154 0 7 (dk_at dksX5_raiseByTrying_1 11 rfl rfl)
theorem dX5_raiseByTrying_36 : decode cX5_raiseByTrying 36 = .ok (.iconst 2, 1) := dk_5 (dk_at dksX5_raiseByTrying_1 14 rfl rfl)
theorem dX5_raiseByTrying_37 : decode cX5_raiseByTrying 37 = .ok (.goto 4, 3) := dk_167 0 4 (dk_at dksX5_raiseByTrying_1 15 rfl rfl)
theorem dX5_raiseByTrying_40 : decode cX5_raiseByTrying 40 = .ok (.iconst 0, 1) := dk_3 (dk_at dksX5_raiseByTrying_1 18 rfl rfl)
theorem dX5_raiseByTrying_41 : decode cX5_raiseByTrying 41 = .ok (.putfield 38, 3) := dk_181 0 38 (dk_at dksX5_raiseByTrying_1 19 rfl rfl)
theorem dX5_raiseByTrying_44 : decode cX5_raiseByTrying 44 = .ok (.aload_n 0, 1) := dk_42 (dk_at dksX5_raiseByTrying_1 22 rfl rfl)
theorem dX5_raiseByTrying_45 : decode cX5_raiseByTrying 45 = .ok (.getfield 38, 3) := dk_180 0 38 (dk_at dksX5_raiseByTrying_2 0 rfl rfl)
theorem dX5_raiseByTrying_48 : decode cX5_raiseByTrying 48 = .ok (.ifCond .eq 5, 3) := dk_153 0 5 (dk_at dksX5_raiseByTrying_2 3 rfl rfl)
theorem dX5_raiseByTrying_51 : decode cX5_raiseByTrying 51 = .ok (.iconst 0, 1) := dk_3 (dk_at dksX5_raiseByTrying_2 6 rfl rfl)
theorem dX5_raiseByTrying_52 : decode cX5_raiseByTrying 52 = .ok (.ireturn, 1) := dk_172 (dk_at dksX5_raiseByTrying_2 7 rfl rfl)
theorem dX5_raiseByTrying_53 : decode cX5_raiseByTrying 53 = .ok (.aload_n 0, 1) := dk_42 (dk_at dksX5_raiseByTrying_2 8 rfl rfl)
theorem dX5_raiseByTrying_54 : decode cX5_raiseByTrying 54 = .ok (.iload_n 1, 1) := dk_27 (dk_at dksX5_raiseByTrying_2 9 rfl rfl)
theorem dX5_raiseByTrying_55 : decode cX5_raiseByTrying 55 = .ok (.iload_n 2, 1) := dk_28 (dk_at dksX5_raiseByTrying_2 10 rfl rfl)
theorem dX5_raiseByTrying_56 : decode cX5_raiseByTrying 56 = .ok (.invokevirtual 199, 3) := dk_182 0 199 (dk_at dksX5_raiseByTrying_2 11 rfl rfl)
theorem dX5_raiseByTrying_59 : decode cX5_raiseByTrying 59 = .ok (.istore_n 3, 1) := dk_62 (dk_at dksX5_raiseByTrying_2 14 rfl rfl)
theorem dX5_raiseByTrying_60 : decode cX5_raiseByTrying 60 = .ok (.iload_n 3, 1) := dk_29 (dk_at dksX5_raiseByTrying_2 15 rfl rfl)
theorem dX5_raiseByTrying_61 : decode cX5_raiseByTrying 61 = .ok (.iconst (-1), 1) := dk_2 (dk_at dksX5_raiseByTrying_2 16 rfl rfl)
theorem dX5_raiseByTrying_62 : decode cX5_raiseByTrying 62 = .ok (.if_icmp .ne 11, 3) := dk_160 0 11 (dk_at dksX5_raiseByTrying_2 17 rfl rfl)
theorem dX5_raiseByTrying_65 : decode cX5_raiseByTrying 65 = .ok (.aload_n 0, 1) := dk_42 (dk_at dksX5_raiseByTrying_2 20 rfl rfl)
theorem dX5_raiseByTrying_66 : decode cX5_raiseByTrying 66 = .ok (.iconst 2, 1) := dk_5 (dk_at dksX5_raiseByTrying_2 21 rfl rfl)
theorem dX5_raiseByTrying_67 : decode cX5_raiseByTrying 67 = .ok (.invokevirtual 105, 3) := dk_182 0 105 (dk_at dksX5_raiseByTrying_3 0 rfl rfl)
theorem dX5_raiseByTrying_70 : decode cX5_raiseByTrying 70 = .ok (.goto 4, 3) := dk_167 0 4 (dk_at dksX5_raiseByTrying_3 3 rfl rfl)
theorem dX5_raiseByTrying_73 : decode cX5_raiseByTrying 73 = .ok (.iload_n 3, 1) := dk_29 (dk_at dksX5_raiseByTrying_3 6 rfl rfl)
theorem dX5_raiseByTrying_74 : decode cX5_raiseByTrying 74 = .ok (.ireturn, 1) := dk_172 (dk_at dksX5_raiseByTrying_3 7 rfl rfl)
abbrev cX5_raise : ByteArray := prog_10_method_89_code
def yX5_raise : MethodName := ⟨RX5, "raise", "(II)I"⟩
def dkwX5_raise_5 : List UInt8 := [28, 96, 29, 79, 21, 6, 153, 0, 8, 21, 4, 167, 0, 4, 2, 172]
abbrev dktX5_raise_5 : List UInt8 := dkwX5_raise_5 ++ []
def dkwX5_raise_4 : List UInt8 := [21, 4, 104, 96, 79, 42, 27, 182, 0, 171, 54, 6, 167, 255, 187, 42, 180, 0, 7, 3, 7, 27, 104, 96]
abbrev dktX5_raise_4 : List UInt8 := dkwX5_raise_4 ++ dktX5_raise_5
def dkwX5_raise_3 : List UInt8 := [184, 0, 42, 153, 0, 35, 132, 4, 1, 42, 180, 0, 7, 3, 7, 27, 104, 96, 28, 96, 29, 21, 5]
abbrev dktX5_raise_3 : List UInt8 := dkwX5_raise_3 ++ dktX5_raise_4
def dkwX5_raise_2 : List UInt8 := [4, 96, 104, 96, 42, 180, 0, 7, 17, 0, 165, 28, 96, 46, 42, 180, 0, 7, 17, 0, 169, 28, 96, 46]
abbrev dktX5_raise_2 : List UInt8 := dkwX5_raise_2 ++ dktX5_raise_3
def dkwX5_raise_1 : List UInt8 := [4, 167, 0, 4, 2, 54, 5, 42, 27, 182, 0, 171, 54, 6, 21, 6, 154, 0, 70, 29, 21, 5, 21, 4]
abbrev dktX5_raise_1 : List UInt8 := dkwX5_raise_1 ++ dktX5_raise_2
def dkwX5_raise_0 : List UInt8 := [42, 27, 28, 182, 0, 53, 62, 3, 54, 4, 42, 180, 0, 7, 17, 0, 161, 28, 96, 46, 4, 160, 0, 7]
abbrev dktX5_raise_0 : List UInt8 := dkwX5_raise_0 ++ dktX5_raise_1
theorem dksX5_raise_0 : cX5_raise.data.toList.drop 0 = dktX5_raise_0 := by decide +kernel
theorem dksX5_raise_1 : cX5_raise.data.toList.drop 24 = dktX5_raise_1 := dk_seg dksX5_raise_0 24 rfl rfl
theorem dksX5_raise_2 : cX5_raise.data.toList.drop 48 = dktX5_raise_2 := dk_seg dksX5_raise_1 24 rfl rfl
theorem dksX5_raise_3 : cX5_raise.data.toList.drop 72 = dktX5_raise_3 := dk_seg dksX5_raise_2 24 rfl rfl
theorem dksX5_raise_4 : cX5_raise.data.toList.drop 95 = dktX5_raise_4 := dk_seg dksX5_raise_3 23 rfl rfl
theorem dksX5_raise_5 : cX5_raise.data.toList.drop 119 = dktX5_raise_5 := dk_seg dksX5_raise_4 24 rfl rfl
theorem dX5_raise_0 : decode cX5_raise 0 = .ok (.aload_n 0, 1) := dk_42 (dk_at dksX5_raise_0 0 rfl rfl)
theorem dX5_raise_1 : decode cX5_raise 1 = .ok (.iload_n 1, 1) := dk_27 (dk_at dksX5_raise_0 1 rfl rfl)
theorem dX5_raise_2 : decode cX5_raise 2 = .ok (.iload_n 2, 1) := dk_28 (dk_at dksX5_raise_0 2 rfl rfl)
theorem dX5_raise_3 : decode cX5_raise 3 = .ok (.invokevirtual 53, 3) := dk_182 0 53 (dk_at dksX5_raise_0 3 rfl rfl)
theorem dX5_raise_6 : decode cX5_raise 6 = .ok (.istore_n 3, 1) := dk_62 (dk_at dksX5_raise_0 6 rfl rfl)
theorem dX5_raise_7 : decode cX5_raise 7 = .ok (.iconst 0, 1) := dk_3 (dk_at dksX5_raise_0 7 rfl rfl)
theorem dX5_raise_8 : decode cX5_raise 8 = .ok (.istore 4, 2) := dk_54 4 (dk_at dksX5_raise_0 8 rfl rfl)
theorem dX5_raise_10 : decode cX5_raise 10 = .ok (.aload_n 0, 1) := dk_42 (dk_at dksX5_raise_0 10 rfl rfl)
theorem dX5_raise_11 : decode cX5_raise 11 = .ok (.getfield 7, 3) := dk_180 0 7 (dk_at dksX5_raise_0 11 rfl rfl)
theorem dX5_raise_14 : decode cX5_raise 14 = .ok (.sipush 161, 3) := dk_17 0 161 (dk_at dksX5_raise_0 14 rfl rfl)
theorem dX5_raise_17 : decode cX5_raise 17 = .ok (.iload_n 2, 1) := dk_28 (dk_at dksX5_raise_0 17 rfl rfl)
theorem dX5_raise_18 : decode cX5_raise 18 = .ok (.iadd, 1) := dk_96 (dk_at dksX5_raise_0 18 rfl rfl)
theorem dX5_raise_19 : decode cX5_raise 19 = .ok (.iaload, 1) := dk_46 (dk_at dksX5_raise_0 19 rfl rfl)
theorem dX5_raise_20 : decode cX5_raise 20 = .ok (.iconst 1, 1) := dk_4 (dk_at dksX5_raise_0 20 rfl rfl)
theorem dX5_raise_21 : decode cX5_raise 21 = .ok (.if_icmp .ne 7, 3) := dk_160 0 7 (dk_at dksX5_raise_0 21 rfl rfl)
theorem dX5_raise_24 : decode cX5_raise 24 = .ok (.iconst 1, 1) := dk_4 (dk_at dksX5_raise_1 0 rfl rfl)
theorem dX5_raise_25 : decode cX5_raise 25 = .ok (.goto 4, 3) := dk_167 0 4 (dk_at dksX5_raise_1 1 rfl rfl)
theorem dX5_raise_28 : decode cX5_raise 28 = .ok (.iconst (-1), 1) := dk_2 (dk_at dksX5_raise_1 4 rfl rfl)
theorem dX5_raise_29 : decode cX5_raise 29 = .ok (.istore 5, 2) := dk_54 5 (dk_at dksX5_raise_1 5 rfl rfl)
theorem dX5_raise_31 : decode cX5_raise 31 = .ok (.aload_n 0, 1) := dk_42 (dk_at dksX5_raise_1 7 rfl rfl)
theorem dX5_raise_32 : decode cX5_raise 32 = .ok (.iload_n 1, 1) := dk_27 (dk_at dksX5_raise_1 8 rfl rfl)
theorem dX5_raise_33 : decode cX5_raise 33 = .ok (.invokevirtual 171, 3) := dk_182 0 171 (dk_at dksX5_raise_1 9 rfl rfl)
theorem dX5_raise_36 : decode cX5_raise 36 = .ok (.istore 6, 2) := dk_54 6 (dk_at dksX5_raise_1 12 rfl rfl)
theorem dX5_raise_38 : decode cX5_raise 38 = .ok (.iload 6, 2) := dk_21 6 (dk_at dksX5_raise_1 14 rfl rfl)
theorem dX5_raise_40 : decode cX5_raise 40 = .ok (.ifCond .ne 70, 3) := dk_154 0 70 (dk_at dksX5_raise_1 16 rfl rfl)
theorem dX5_raise_43 : decode cX5_raise 43 = .ok (.iload_n 3, 1) := dk_29 (dk_at dksX5_raise_1 19 rfl rfl)
theorem dX5_raise_44 : decode cX5_raise 44 = .ok (.iload 5, 2) := dk_21 5 (dk_at dksX5_raise_1 20 rfl rfl)
theorem dX5_raise_46 : decode cX5_raise 46 = .ok (.iload 4, 2) := dk_21 4 (dk_at dksX5_raise_1 22 rfl rfl)
theorem dX5_raise_48 : decode cX5_raise 48 = .ok (.iconst 1, 1) := dk_4 (dk_at dksX5_raise_2 0 rfl rfl)
theorem dX5_raise_49 : decode cX5_raise 49 = .ok (.iadd, 1) := dk_96 (dk_at dksX5_raise_2 1 rfl rfl)
theorem dX5_raise_50 : decode cX5_raise 50 = .ok (.imul, 1) := dk_104 (dk_at dksX5_raise_2 2 rfl rfl)
theorem dX5_raise_51 : decode cX5_raise 51 = .ok (.iadd, 1) := dk_96 (dk_at dksX5_raise_2 3 rfl rfl)
theorem dX5_raise_52 : decode cX5_raise 52 = .ok (.aload_n 0, 1) := dk_42 (dk_at dksX5_raise_2 4 rfl rfl)
theorem dX5_raise_53 : decode cX5_raise 53 = .ok (.getfield 7, 3) := dk_180 0 7 (dk_at dksX5_raise_2 5 rfl rfl)
theorem dX5_raise_56 : decode cX5_raise 56 = .ok (.sipush 165, 3) := dk_17 0 165 (dk_at dksX5_raise_2 8 rfl rfl)
theorem dX5_raise_59 : decode cX5_raise 59 = .ok (.iload_n 2, 1) := dk_28 (dk_at dksX5_raise_2 11 rfl rfl)
theorem dX5_raise_60 : decode cX5_raise 60 = .ok (.iadd, 1) := dk_96 (dk_at dksX5_raise_2 12 rfl rfl)
theorem dX5_raise_61 : decode cX5_raise 61 = .ok (.iaload, 1) := dk_46 (dk_at dksX5_raise_2 13 rfl rfl)
theorem dX5_raise_62 : decode cX5_raise 62 = .ok (.aload_n 0, 1) := dk_42 (dk_at dksX5_raise_2 14 rfl rfl)
theorem dX5_raise_63 : decode cX5_raise 63 = .ok (.getfield 7, 3) := dk_180 0 7 (dk_at dksX5_raise_2 15 rfl rfl)
theorem dX5_raise_66 : decode cX5_raise 66 = .ok (.sipush 169, 3) := dk_17 0 169 (dk_at dksX5_raise_2 18 rfl rfl)
theorem dX5_raise_69 : decode cX5_raise 69 = .ok (.iload_n 2, 1) := dk_28 (dk_at dksX5_raise_2 21 rfl rfl)
theorem dX5_raise_70 : decode cX5_raise 70 = .ok (.iadd, 1) := dk_96 (dk_at dksX5_raise_2 22 rfl rfl)
theorem dX5_raise_71 : decode cX5_raise 71 = .ok (.iaload, 1) := dk_46 (dk_at dksX5_raise_2 23 rfl rfl)
theorem dX5_raise_72 : decode cX5_raise 72 = .ok (.invokestatic 42, 3) := dk_184 0 42 (dk_at dksX5_raise_3 0 rfl rfl)
theorem dX5_raise_75 : decode cX5_raise 75 = .ok (.ifCond .eq 35, 3) := dk_153 0 35 (dk_at dksX5_raise_3 3 rfl rfl)
theorem dX5_raise_78 : decode cX5_raise 78 = .ok (.iinc 4 1, 3) := dk_132 4 1 (dk_at dksX5_raise_3 6 rfl rfl)
theorem dX5_raise_81 : decode cX5_raise 81 = .ok (.aload_n 0, 1) := dk_42 (dk_at dksX5_raise_3 9 rfl rfl)
theorem dX5_raise_82 : decode cX5_raise 82 = .ok (.getfield 7, 3) := dk_180 0 7 (dk_at dksX5_raise_3 10 rfl rfl)
theorem dX5_raise_85 : decode cX5_raise 85 = .ok (.iconst 0, 1) := dk_3 (dk_at dksX5_raise_3 13 rfl rfl)
theorem dX5_raise_86 : decode cX5_raise 86 = .ok (.iconst 4, 1) := dk_7 (dk_at dksX5_raise_3 14 rfl rfl)
theorem dX5_raise_87 : decode cX5_raise 87 = .ok (.iload_n 1, 1) := dk_27 (dk_at dksX5_raise_3 15 rfl rfl)
theorem dX5_raise_88 : decode cX5_raise 88 = .ok (.imul, 1) := dk_104 (dk_at dksX5_raise_3 16 rfl rfl)
theorem dX5_raise_89 : decode cX5_raise 89 = .ok (.iadd, 1) := dk_96 (dk_at dksX5_raise_3 17 rfl rfl)
theorem dX5_raise_90 : decode cX5_raise 90 = .ok (.iload_n 2, 1) := dk_28 (dk_at dksX5_raise_3 18 rfl rfl)
theorem dX5_raise_91 : decode cX5_raise 91 = .ok (.iadd, 1) := dk_96 (dk_at dksX5_raise_3 19 rfl rfl)
theorem dX5_raise_92 : decode cX5_raise 92 = .ok (.iload_n 3, 1) := dk_29 (dk_at dksX5_raise_3 20 rfl rfl)
theorem dX5_raise_93 : decode cX5_raise 93 = .ok (.iload 5, 2) := dk_21 5 (dk_at dksX5_raise_3 21 rfl rfl)
theorem dX5_raise_95 : decode cX5_raise 95 = .ok (.iload 4, 2) := dk_21 4 (dk_at dksX5_raise_4 0 rfl rfl)
theorem dX5_raise_97 : decode cX5_raise 97 = .ok (.imul, 1) := dk_104 (dk_at dksX5_raise_4 2 rfl rfl)
theorem dX5_raise_98 : decode cX5_raise 98 = .ok (.iadd, 1) := dk_96 (dk_at dksX5_raise_4 3 rfl rfl)
theorem dX5_raise_99 : decode cX5_raise 99 = .ok (.iastore, 1) := dk_79 (dk_at dksX5_raise_4 4 rfl rfl)
theorem dX5_raise_100 : decode cX5_raise 100 = .ok (.aload_n 0, 1) := dk_42 (dk_at dksX5_raise_4 5 rfl rfl)
theorem dX5_raise_101 : decode cX5_raise 101 = .ok (.iload_n 1, 1) := dk_27 (dk_at dksX5_raise_4 6 rfl rfl)
theorem dX5_raise_102 : decode cX5_raise 102 = .ok (.invokevirtual 171, 3) := dk_182 0 171 (dk_at dksX5_raise_4 7 rfl rfl)
theorem dX5_raise_105 : decode cX5_raise 105 = .ok (.istore 6, 2) := dk_54 6 (dk_at dksX5_raise_4 10 rfl rfl)
theorem dX5_raise_107 : decode cX5_raise 107 = .ok (.goto (-69), 3) := dk_167 255 187 (dk_at dksX5_raise_4 12 rfl rfl)
theorem dX5_raise_110 : decode cX5_raise 110 = .ok (.aload_n 0, 1) := dk_42 (dk_at dksX5_raise_4 15 rfl rfl)
theorem dX5_raise_111 : decode cX5_raise 111 = .ok (.getfield 7, 3) := dk_180 0 7 (dk_at dksX5_raise_4 16 rfl rfl)
theorem dX5_raise_114 : decode cX5_raise 114 = .ok (.iconst 0, 1) := dk_3 (dk_at dksX5_raise_4 19 rfl rfl)
theorem dX5_raise_115 : decode cX5_raise 115 = .ok (.iconst 4, 1) := dk_7 (dk_at dksX5_raise_4 20 rfl rfl)
theorem dX5_raise_116 : decode cX5_raise 116 = .ok (.iload_n 1, 1) := dk_27 (dk_at dksX5_raise_4 21 rfl rfl)
theorem dX5_raise_117 : decode cX5_raise 117 = .ok (.imul, 1) := dk_104 (dk_at dksX5_raise_4 22 rfl rfl)
theorem dX5_raise_118 : decode cX5_raise 118 = .ok (.iadd, 1) := dk_96 (dk_at dksX5_raise_4 23 rfl rfl)
theorem dX5_raise_119 : decode cX5_raise 119 = .ok (.iload_n 2, 1) := dk_28 (dk_at dksX5_raise_5 0 rfl rfl)
theorem dX5_raise_120 : decode cX5_raise 120 = .ok (.iadd, 1) := dk_96 (dk_at dksX5_raise_5 1 rfl rfl)
theorem dX5_raise_121 : decode cX5_raise 121 = .ok (.iload_n 3, 1) := dk_29 (dk_at dksX5_raise_5 2 rfl rfl)
theorem dX5_raise_122 : decode cX5_raise 122 = .ok (.iastore, 1) := dk_79 (dk_at dksX5_raise_5 3 rfl rfl)
theorem dX5_raise_123 : decode cX5_raise 123 = .ok (.iload 6, 2) := dk_21 6 (dk_at dksX5_raise_5 4 rfl rfl)
theorem dX5_raise_125 : decode cX5_raise 125 = .ok (.ifCond .eq 8, 3) := dk_153 0 8 (dk_at dksX5_raise_5 6 rfl rfl)
theorem dX5_raise_128 : decode cX5_raise 128 = .ok (.iload 4, 2) := dk_21 4 (dk_at dksX5_raise_5 9 rfl rfl)
theorem dX5_raise_130 : decode cX5_raise 130 = .ok (.goto 4, 3) := dk_167 0 4 (dk_at dksX5_raise_5 11 rfl rfl)
theorem dX5_raise_133 : decode cX5_raise 133 = .ok (.iconst (-1), 1) := dk_2 (dk_at dksX5_raise_5 14 rfl rfl)
theorem dX5_raise_134 : decode cX5_raise 134 = .ok (.ireturn, 1) := dk_172 (dk_at dksX5_raise_5 15 rfl rfl)
abbrev cX5_raiseByBeaters : ByteArray := prog_10_method_91_code
def yX5_raiseByBeaters : MethodName := ⟨RX5, "raiseByBeaters", "(II)I"⟩
def dkwX5_raiseByBeaters_0 : List UInt8 := [42, 27, 28, 182, 0, 202, 172]
abbrev dktX5_raiseByBeaters_0 : List UInt8 := dkwX5_raiseByBeaters_0 ++ []
theorem dksX5_raiseByBeaters_0 : cX5_raiseByBeaters.data.toList.drop 0 = dktX5_raiseByBeaters_0 := by decide +kernel
theorem dX5_raiseByBeaters_0 : decode cX5_raiseByBeaters 0 = .ok (.aload_n 0, 1) := dk_42 (dk_at dksX5_raiseByBeaters_0 0 rfl rfl)
theorem dX5_raiseByBeaters_1 : decode cX5_raiseByBeaters 1 = .ok (.iload_n 1, 1) := dk_27 (dk_at dksX5_raiseByBeaters_0 1 rfl rfl)
theorem dX5_raiseByBeaters_2 : decode cX5_raiseByBeaters 2 = .ok (.iload_n 2, 1) := dk_28 (dk_at dksX5_raiseByBeaters_0 2 rfl rfl)
theorem dX5_raiseByBeaters_3 : decode cX5_raiseByBeaters 3 = .ok (.invokevirtual 202, 3) := dk_182 0 202 (dk_at dksX5_raiseByBeaters_0 3 rfl rfl)
theorem dX5_raiseByBeaters_6 : decode cX5_raiseByBeaters 6 = .ok (.ireturn, 1) := dk_172 (dk_at dksX5_raiseByBeaters_0 6 rfl rfl)
abbrev cX5_coveredGreedily : ByteArray := prog_10_method_92_code
def yX5_coveredGreedily : MethodName := ⟨RX5, "coveredGreedily", "(I)I"⟩
def dkwX5_coveredGreedily_1 : List UInt8 := [182, 0, 205, 172]
abbrev dktX5_coveredGreedily_1 : List UInt8 := dkwX5_coveredGreedily_1 ++ []
def dkwX5_coveredGreedily_0 : List UInt8 := [42, 3, 181, 0, 38, 27, 4, 8, 184, 0, 42, 154, 0, 11, 42, 4, 182, 0, 105, 167, 0, 8, 42, 27]
abbrev dktX5_coveredGreedily_0 : List UInt8 := dkwX5_coveredGreedily_0 ++ dktX5_coveredGreedily_1
theorem dksX5_coveredGreedily_0 : cX5_coveredGreedily.data.toList.drop 0 = dktX5_coveredGreedily_0 := by decide +kernel
theorem dksX5_coveredGreedily_1 : cX5_coveredGreedily.data.toList.drop 24 = dktX5_coveredGreedily_1 := dk_seg dksX5_coveredGreedily_0 24 rfl rfl
theorem dX5_coveredGreedily_0 : decode cX5_coveredGreedily 0 = .ok (.aload_n 0, 1) := dk_42 (dk_at dksX5_coveredGreedily_0 0 rfl rfl)
theorem dX5_coveredGreedily_1 : decode cX5_coveredGreedily 1 = .ok (.iconst 0, 1) := dk_3 (dk_at dksX5_coveredGreedily_0 1 rfl rfl)
theorem dX5_coveredGreedily_2 : decode cX5_coveredGreedily 2 = .ok (.putfield 38, 3) := dk_181 0 38 (dk_at dksX5_coveredGreedily_0 2 rfl rfl)
theorem dX5_coveredGreedily_5 : decode cX5_coveredGreedily 5 = .ok (.iload_n 1, 1) := dk_27 (dk_at dksX5_coveredGreedily_0 5 rfl rfl)
theorem dX5_coveredGreedily_6 : decode cX5_coveredGreedily 6 = .ok (.iconst 1, 1) := dk_4 (dk_at dksX5_coveredGreedily_0 6 rfl rfl)
theorem dX5_coveredGreedily_7 : decode cX5_coveredGreedily 7 = .ok (.iconst 5, 1) := dk_8 (dk_at dksX5_coveredGreedily_0 7 rfl rfl)
theorem dX5_coveredGreedily_8 : decode cX5_coveredGreedily 8 = .ok (.invokestatic 42, 3) := dk_184 0 42 (dk_at dksX5_coveredGreedily_0 8 rfl rfl)
theorem dX5_coveredGreedily_11 : decode cX5_coveredGreedily 11 = .ok (.ifCond .ne 11, 3) := dk_154 0 11 (dk_at dksX5_coveredGreedily_0 11 rfl rfl)
theorem dX5_coveredGreedily_14 : decode cX5_coveredGreedily 14 = .ok (.aload_n 0, 1) := dk_42 (dk_at dksX5_coveredGreedily_0 14 rfl rfl)
theorem dX5_coveredGreedily_15 : decode cX5_coveredGreedily 15 = .ok (.iconst 1, 1) := dk_4 (dk_at dksX5_coveredGreedily_0 15 rfl rfl)
theorem dX5_coveredGreedily_16 : decode cX5_coveredGreedily 16 = .ok (.invokevirtual 105, 3) := dk_182 0 105 (dk_at dksX5_coveredGreedily_0 16 rfl rfl)
theorem dX5_coveredGreedily_19 : decode cX5_coveredGreedily 19 = .ok (.goto 8, 3) := dk_167 0 8 (dk_at dksX5_coveredGreedily_0 19 rfl rfl)
theorem dX5_coveredGreedily_22 : decode cX5_coveredGreedily 22 = .ok (.aload_n 0, 1) := dk_42 (dk_at dksX5_coveredGreedily_0 22 rfl rfl)
theorem dX5_coveredGreedily_23 : decode cX5_coveredGreedily 23 = .ok (.iload_n 1, 1) := dk_27 (dk_at dksX5_coveredGreedily_0 23 rfl rfl)
theorem dX5_coveredGreedily_24 : decode cX5_coveredGreedily 24 = .ok (.invokevirtual 205, 3) := dk_182 0 205 (dk_at dksX5_coveredGreedily_1 0 rfl rfl)
theorem dX5_coveredGreedily_27 : decode cX5_coveredGreedily 27 = .ok (.ireturn, 1) := dk_172 (dk_at dksX5_coveredGreedily_1 3 rfl rfl)
abbrev cX5_cover : ByteArray := prog_10_method_23_code
def yX5_cover : MethodName := ⟨RX5, "cover", "(I)I"⟩
def dkwX5_cover_12 : List UInt8 := [79, 42, 89, 180, 0, 82, 4, 96, 181, 0, 82, 29, 21, 5, 96, 62, 167, 255, 5, 29, 172]
abbrev dktX5_cover_12 : List UInt8 := dkwX5_cover_12 ++ []
def dkwX5_cover_11 : List UInt8 := [132, 6, 1, 167, 255, 207, 42, 180, 0, 25, 21, 4, 3, 84, 42, 180, 0, 35, 42, 180, 0, 82, 21, 4]
abbrev dktX5_cover_11 : List UInt8 := dkwX5_cover_11 ++ dktX5_cover_12
def dkwX5_cover_10 : List UInt8 := [21, 6, 51, 154, 0, 14, 42, 21, 4, 21, 6, 182, 0, 74, 153, 0, 7, 4, 167, 0, 4, 3, 84]
abbrev dktX5_cover_10 : List UInt8 := dkwX5_cover_10 ++ dktX5_cover_11
def dkwX5_cover_9 : List UInt8 := [21, 6, 42, 180, 0, 7, 17, 0, 160, 46, 162, 0, 42, 42, 180, 0, 29, 21, 6, 42, 180, 0, 29]
abbrev dktX5_cover_9 : List UInt8 := dkwX5_cover_9 ++ dktX5_cover_10
def dkwX5_cover_8 : List UInt8 := [21, 5, 164, 0, 8, 21, 7, 167, 0, 5, 21, 5, 54, 5, 132, 6, 1, 167, 255, 122, 3, 54, 6]
abbrev dktX5_cover_8 : List UInt8 := dkwX5_cover_8 ++ dktX5_cover_9
def dkwX5_cover_7 : List UInt8 := [164, 0, 8, 21, 6, 167, 0, 5, 21, 4, 54, 4, 42, 180, 0, 25, 21, 6, 51, 153, 0, 15, 21, 7]
abbrev dktX5_cover_7 : List UInt8 := dkwX5_cover_7 ++ dktX5_cover_8
def dkwX5_cover_6 : List UInt8 := [54, 7, 132, 8, 1, 167, 255, 199, 42, 180, 0, 25, 21, 6, 51, 153, 0, 15, 21, 7, 21, 5]
abbrev dktX5_cover_6 : List UInt8 := dkwX5_cover_6 ++ dktX5_cover_7
def dkwX5_cover_5 : List UInt8 := [21, 8, 51, 154, 0, 18, 42, 21, 6, 21, 8, 182, 0, 74, 153, 0, 7, 4, 167, 0, 4, 3, 96]
abbrev dktX5_cover_5 : List UInt8 := dkwX5_cover_5 ++ dktX5_cover_6
def dkwX5_cover_4 : List UInt8 := [17, 0, 160, 46, 162, 0, 50, 42, 180, 0, 25, 21, 6, 51, 153, 0, 40, 21, 7, 42, 180, 0, 29]
abbrev dktX5_cover_4 : List UInt8 := dkwX5_cover_4 ++ dktX5_cover_5
def dkwX5_cover_3 : List UInt8 := [180, 0, 7, 17, 0, 160, 46, 162, 0, 127, 3, 54, 7, 3, 54, 8, 21, 8, 42, 180, 0, 7]
abbrev dktX5_cover_3 : List UInt8 := dkwX5_cover_3 ++ dktX5_cover_4
def dkwX5_cover_2 : List UInt8 := [162, 0, 249, 42, 180, 0, 82, 27, 162, 0, 241, 2, 54, 4, 2, 54, 5, 3, 54, 6, 21, 6, 42]
abbrev dktX5_cover_2 : List UInt8 := dkwX5_cover_2 ++ dktX5_cover_3
def dkwX5_cover_1 : List UInt8 := [180, 0, 29, 29, 3, 84, 132, 3, 1, 167, 255, 234, 42, 3, 181, 0, 82, 3, 62, 42, 180, 0, 82, 28]
abbrev dktX5_cover_1 : List UInt8 := dkwX5_cover_1 ++ dktX5_cover_2
def dkwX5_cover_0 : List UInt8 := [42, 42, 182, 0, 67, 182, 0, 78, 61, 3, 62, 29, 42, 180, 0, 7, 17, 0, 160, 46, 162, 0, 16, 42]
abbrev dktX5_cover_0 : List UInt8 := dkwX5_cover_0 ++ dktX5_cover_1
theorem dksX5_cover_0 : cX5_cover.data.toList.drop 0 = dktX5_cover_0 := by decide +kernel
theorem dksX5_cover_1 : cX5_cover.data.toList.drop 24 = dktX5_cover_1 := dk_seg dksX5_cover_0 24 rfl rfl
theorem dksX5_cover_2 : cX5_cover.data.toList.drop 48 = dktX5_cover_2 := dk_seg dksX5_cover_1 24 rfl rfl
theorem dksX5_cover_3 : cX5_cover.data.toList.drop 71 = dktX5_cover_3 := dk_seg dksX5_cover_2 23 rfl rfl
theorem dksX5_cover_4 : cX5_cover.data.toList.drop 93 = dktX5_cover_4 := dk_seg dksX5_cover_3 22 rfl rfl
theorem dksX5_cover_5 : cX5_cover.data.toList.drop 116 = dktX5_cover_5 := dk_seg dksX5_cover_4 23 rfl rfl
theorem dksX5_cover_6 : cX5_cover.data.toList.drop 139 = dktX5_cover_6 := dk_seg dksX5_cover_5 23 rfl rfl
theorem dksX5_cover_7 : cX5_cover.data.toList.drop 161 = dktX5_cover_7 := dk_seg dksX5_cover_6 22 rfl rfl
theorem dksX5_cover_8 : cX5_cover.data.toList.drop 185 = dktX5_cover_8 := dk_seg dksX5_cover_7 24 rfl rfl
theorem dksX5_cover_9 : cX5_cover.data.toList.drop 208 = dktX5_cover_9 := dk_seg dksX5_cover_8 23 rfl rfl
theorem dksX5_cover_10 : cX5_cover.data.toList.drop 231 = dktX5_cover_10 := dk_seg dksX5_cover_9 23 rfl rfl
theorem dksX5_cover_11 : cX5_cover.data.toList.drop 254 = dktX5_cover_11 := dk_seg dksX5_cover_10 23 rfl rfl
theorem dksX5_cover_12 : cX5_cover.data.toList.drop 278 = dktX5_cover_12 := dk_seg dksX5_cover_11 24 rfl rfl
theorem dX5_cover_0 : decode cX5_cover 0 = .ok (.aload_n 0, 1) := dk_42 (dk_at dksX5_cover_0 0 rfl rfl)
theorem dX5_cover_1 : decode cX5_cover 1 = .ok (.aload_n 0, 1) := dk_42 (dk_at dksX5_cover_0 1 rfl rfl)
theorem dX5_cover_2 : decode cX5_cover 2 = .ok (.invokevirtual 67, 3) := dk_182 0 67 (dk_at dksX5_cover_0 2 rfl rfl)
theorem dX5_cover_5 : decode cX5_cover 5 = .ok (.invokevirtual 78, 3) := dk_182 0 78 (dk_at dksX5_cover_0 5 rfl rfl)
theorem dX5_cover_8 : decode cX5_cover 8 = .ok (.istore_n 2, 1) := dk_61 (dk_at dksX5_cover_0 8 rfl rfl)
theorem dX5_cover_9 : decode cX5_cover 9 = .ok (.iconst 0, 1) := dk_3 (dk_at dksX5_cover_0 9 rfl rfl)
theorem dX5_cover_10 : decode cX5_cover 10 = .ok (.istore_n 3, 1) := dk_62 (dk_at dksX5_cover_0 10 rfl rfl)
theorem dX5_cover_11 : decode cX5_cover 11 = .ok (.iload_n 3, 1) := dk_29 (dk_at dksX5_cover_0 11 rfl rfl)
theorem dX5_cover_12 : decode cX5_cover 12 = .ok (.aload_n 0, 1) := dk_42 (dk_at dksX5_cover_0 12 rfl rfl)
theorem dX5_cover_13 : decode cX5_cover 13 = .ok (.getfield 7, 3) := dk_180 0 7 (dk_at dksX5_cover_0 13 rfl rfl)
theorem dX5_cover_16 : decode cX5_cover 16 = .ok (.sipush 160, 3) := dk_17 0 160 (dk_at dksX5_cover_0 16 rfl rfl)
theorem dX5_cover_19 : decode cX5_cover 19 = .ok (.iaload, 1) := dk_46 (dk_at dksX5_cover_0 19 rfl rfl)
theorem dX5_cover_20 : decode cX5_cover 20 = .ok (.if_icmp .ge 16, 3) := dk_162 0 16 (dk_at dksX5_cover_0 20 rfl rfl)
theorem dX5_cover_23 : decode cX5_cover 23 = .ok (.aload_n 0, 1) := dk_42 (dk_at dksX5_cover_0 23 rfl rfl)
theorem dX5_cover_24 : decode cX5_cover 24 = .ok (.getfield 29, 3) := dk_180 0 29 (dk_at dksX5_cover_1 0 rfl rfl)
theorem dX5_cover_27 : decode cX5_cover 27 = .ok (.iload_n 3, 1) := dk_29 (dk_at dksX5_cover_1 3 rfl rfl)
theorem dX5_cover_28 : decode cX5_cover 28 = .ok (.iconst 0, 1) := dk_3 (dk_at dksX5_cover_1 4 rfl rfl)
theorem dX5_cover_29 : decode cX5_cover 29 = .ok (.bastore, 1) := dk_84 (dk_at dksX5_cover_1 5 rfl rfl)
theorem dX5_cover_30 : decode cX5_cover 30 = .ok (.iinc 3 1, 3) := dk_132 3 1 (dk_at dksX5_cover_1 6 rfl rfl)
theorem dX5_cover_33 : decode cX5_cover 33 = .ok (.goto (-22), 3) := dk_167 255 234 (dk_at dksX5_cover_1 9 rfl rfl)
theorem dX5_cover_36 : decode cX5_cover 36 = .ok (.aload_n 0, 1) := dk_42 (dk_at dksX5_cover_1 12 rfl rfl)
theorem dX5_cover_37 : decode cX5_cover 37 = .ok (.iconst 0, 1) := dk_3 (dk_at dksX5_cover_1 13 rfl rfl)
theorem dX5_cover_38 : decode cX5_cover 38 = .ok (.putfield 82, 3) := dk_181 0 82 (dk_at dksX5_cover_1 14 rfl rfl)
theorem dX5_cover_41 : decode cX5_cover 41 = .ok (.iconst 0, 1) := dk_3 (dk_at dksX5_cover_1 17 rfl rfl)
theorem dX5_cover_42 : decode cX5_cover 42 = .ok (.istore_n 3, 1) := dk_62 (dk_at dksX5_cover_1 18 rfl rfl)
theorem dX5_cover_43 : decode cX5_cover 43 = .ok (.aload_n 0, 1) := dk_42 (dk_at dksX5_cover_1 19 rfl rfl)
theorem dX5_cover_44 : decode cX5_cover 44 = .ok (.getfield 82, 3) := dk_180 0 82 (dk_at dksX5_cover_1 20 rfl rfl)
theorem dX5_cover_47 : decode cX5_cover 47 = .ok (.iload_n 2, 1) := dk_28 (dk_at dksX5_cover_1 23 rfl rfl)
theorem dX5_cover_48 : decode cX5_cover 48 = .ok (.if_icmp .ge 249, 3) := dk_162 0 249 (dk_at dksX5_cover_2 0 rfl rfl)
theorem dX5_cover_51 : decode cX5_cover 51 = .ok (.aload_n 0, 1) := dk_42 (dk_at dksX5_cover_2 3 rfl rfl)
theorem dX5_cover_52 : decode cX5_cover 52 = .ok (.getfield 82, 3) := dk_180 0 82 (dk_at dksX5_cover_2 4 rfl rfl)
theorem dX5_cover_55 : decode cX5_cover 55 = .ok (.iload_n 1, 1) := dk_27 (dk_at dksX5_cover_2 7 rfl rfl)
theorem dX5_cover_56 : decode cX5_cover 56 = .ok (.if_icmp .ge 241, 3) := dk_162 0 241 (dk_at dksX5_cover_2 8 rfl rfl)
theorem dX5_cover_59 : decode cX5_cover 59 = .ok (.iconst (-1), 1) := dk_2 (dk_at dksX5_cover_2 11 rfl rfl)
theorem dX5_cover_60 : decode cX5_cover 60 = .ok (.istore 4, 2) := dk_54 4 (dk_at dksX5_cover_2 12 rfl rfl)
theorem dX5_cover_62 : decode cX5_cover 62 = .ok (.iconst (-1), 1) := dk_2 (dk_at dksX5_cover_2 14 rfl rfl)
theorem dX5_cover_63 : decode cX5_cover 63 = .ok (.istore 5, 2) := dk_54 5 (dk_at dksX5_cover_2 15 rfl rfl)
theorem dX5_cover_65 : decode cX5_cover 65 = .ok (.iconst 0, 1) := dk_3 (dk_at dksX5_cover_2 17 rfl rfl)
theorem dX5_cover_66 : decode cX5_cover 66 = .ok (.istore 6, 2) := dk_54 6 (dk_at dksX5_cover_2 18 rfl rfl)
theorem dX5_cover_68 : decode cX5_cover 68 = .ok (.iload 6, 2) := dk_21 6 (dk_at dksX5_cover_2 20 rfl rfl)
theorem dX5_cover_70 : decode cX5_cover 70 = .ok (.aload_n 0, 1) := dk_42 (dk_at dksX5_cover_2 22 rfl rfl)
theorem dX5_cover_71 : decode cX5_cover 71 = .ok (.getfield 7, 3) := dk_180 0 7 (dk_at dksX5_cover_3 0 rfl rfl)
theorem dX5_cover_74 : decode cX5_cover 74 = .ok (.sipush 160, 3) := dk_17 0 160 (dk_at dksX5_cover_3 3 rfl rfl)
theorem dX5_cover_77 : decode cX5_cover 77 = .ok (.iaload, 1) := dk_46 (dk_at dksX5_cover_3 6 rfl rfl)
theorem dX5_cover_78 : decode cX5_cover 78 = .ok (.if_icmp .ge 127, 3) := dk_162 0 127 (dk_at dksX5_cover_3 7 rfl rfl)
theorem dX5_cover_81 : decode cX5_cover 81 = .ok (.iconst 0, 1) := dk_3 (dk_at dksX5_cover_3 10 rfl rfl)
theorem dX5_cover_82 : decode cX5_cover 82 = .ok (.istore 7, 2) := dk_54 7 (dk_at dksX5_cover_3 11 rfl rfl)
theorem dX5_cover_84 : decode cX5_cover 84 = .ok (.iconst 0, 1) := dk_3 (dk_at dksX5_cover_3 13 rfl rfl)
theorem dX5_cover_85 : decode cX5_cover 85 = .ok (.istore 8, 2) := dk_54 8 (dk_at dksX5_cover_3 14 rfl rfl)
theorem dX5_cover_87 : decode cX5_cover 87 = .ok (.iload 8, 2) := dk_21 8 (dk_at dksX5_cover_3 16 rfl rfl)
theorem dX5_cover_89 : decode cX5_cover 89 = .ok (.aload_n 0, 1) := dk_42 (dk_at dksX5_cover_3 18 rfl rfl)
theorem dX5_cover_90 : decode cX5_cover 90 = .ok (.getfield 7, 3) := dk_180 0 7 (dk_at dksX5_cover_3 19 rfl rfl)
theorem dX5_cover_93 : decode cX5_cover 93 = .ok (.sipush 160, 3) := dk_17 0 160 (dk_at dksX5_cover_4 0 rfl rfl)
theorem dX5_cover_96 : decode cX5_cover 96 = .ok (.iaload, 1) := dk_46 (dk_at dksX5_cover_4 3 rfl rfl)
theorem dX5_cover_97 : decode cX5_cover 97 = .ok (.if_icmp .ge 50, 3) := dk_162 0 50 (dk_at dksX5_cover_4 4 rfl rfl)
theorem dX5_cover_100 : decode cX5_cover 100 = .ok (.aload_n 0, 1) := dk_42 (dk_at dksX5_cover_4 7 rfl rfl)
theorem dX5_cover_101 : decode cX5_cover 101 = .ok (.getfield 25, 3) := dk_180 0 25 (dk_at dksX5_cover_4 8 rfl rfl)
theorem dX5_cover_104 : decode cX5_cover 104 = .ok (.iload 6, 2) := dk_21 6 (dk_at dksX5_cover_4 11 rfl rfl)
theorem dX5_cover_106 : decode cX5_cover 106 = .ok (.baload, 1) := dk_51 (dk_at dksX5_cover_4 13 rfl rfl)
theorem dX5_cover_107 : decode cX5_cover 107 = .ok (.ifCond .eq 40, 3) := dk_153 0 40 (dk_at dksX5_cover_4 14 rfl rfl)
theorem dX5_cover_110 : decode cX5_cover 110 = .ok (.iload 7, 2) := dk_21 7 (dk_at dksX5_cover_4 17 rfl rfl)
theorem dX5_cover_112 : decode cX5_cover 112 = .ok (.aload_n 0, 1) := dk_42 (dk_at dksX5_cover_4 19 rfl rfl)
theorem dX5_cover_113 : decode cX5_cover 113 = .ok (.getfield 29, 3) := dk_180 0 29 (dk_at dksX5_cover_4 20 rfl rfl)
theorem dX5_cover_116 : decode cX5_cover 116 = .ok (.iload 8, 2) := dk_21 8 (dk_at dksX5_cover_5 0 rfl rfl)
theorem dX5_cover_118 : decode cX5_cover 118 = .ok (.baload, 1) := dk_51 (dk_at dksX5_cover_5 2 rfl rfl)
theorem dX5_cover_119 : decode cX5_cover 119 = .ok (.ifCond .ne 18, 3) := dk_154 0 18 (dk_at dksX5_cover_5 3 rfl rfl)
theorem dX5_cover_122 : decode cX5_cover 122 = .ok (.aload_n 0, 1) := dk_42 (dk_at dksX5_cover_5 6 rfl rfl)
theorem dX5_cover_123 : decode cX5_cover 123 = .ok (.iload 6, 2) := dk_21 6 (dk_at dksX5_cover_5 7 rfl rfl)
theorem dX5_cover_125 : decode cX5_cover 125 = .ok (.iload 8, 2) := dk_21 8 (dk_at dksX5_cover_5 9 rfl rfl)
theorem dX5_cover_127 : decode cX5_cover 127 = .ok (.invokevirtual 74, 3) := dk_182 0 74 (dk_at dksX5_cover_5 11 rfl rfl)
theorem dX5_cover_130 : decode cX5_cover 130 = .ok (.ifCond .eq 7, 3) := dk_153 0 7 (dk_at dksX5_cover_5 14 rfl rfl)
theorem dX5_cover_133 : decode cX5_cover 133 = .ok (.iconst 1, 1) := dk_4 (dk_at dksX5_cover_5 17 rfl rfl)
theorem dX5_cover_134 : decode cX5_cover 134 = .ok (.goto 4, 3) := dk_167 0 4 (dk_at dksX5_cover_5 18 rfl rfl)
theorem dX5_cover_137 : decode cX5_cover 137 = .ok (.iconst 0, 1) := dk_3 (dk_at dksX5_cover_5 21 rfl rfl)
theorem dX5_cover_138 : decode cX5_cover 138 = .ok (.iadd, 1) := dk_96 (dk_at dksX5_cover_5 22 rfl rfl)
theorem dX5_cover_139 : decode cX5_cover 139 = .ok (.istore 7, 2) := dk_54 7 (dk_at dksX5_cover_6 0 rfl rfl)
theorem dX5_cover_141 : decode cX5_cover 141 = .ok (.iinc 8 1, 3) := dk_132 8 1 (dk_at dksX5_cover_6 2 rfl rfl)
theorem dX5_cover_144 : decode cX5_cover 144 = .ok (.goto (-57), 3) := dk_167 255 199 (dk_at dksX5_cover_6 5 rfl rfl)
theorem dX5_cover_147 : decode cX5_cover 147 = .ok (.aload_n 0, 1) := dk_42 (dk_at dksX5_cover_6 8 rfl rfl)
theorem dX5_cover_148 : decode cX5_cover 148 = .ok (.getfield 25, 3) := dk_180 0 25 (dk_at dksX5_cover_6 9 rfl rfl)
theorem dX5_cover_151 : decode cX5_cover 151 = .ok (.iload 6, 2) := dk_21 6 (dk_at dksX5_cover_6 12 rfl rfl)
theorem dX5_cover_153 : decode cX5_cover 153 = .ok (.baload, 1) := dk_51 (dk_at dksX5_cover_6 14 rfl rfl)
theorem dX5_cover_154 : decode cX5_cover 154 = .ok (.ifCond .eq 15, 3) := dk_153 0 15 (dk_at dksX5_cover_6 15 rfl rfl)
theorem dX5_cover_157 : decode cX5_cover 157 = .ok (.iload 7, 2) := dk_21 7 (dk_at dksX5_cover_6 18 rfl rfl)
theorem dX5_cover_159 : decode cX5_cover 159 = .ok (.iload 5, 2) := dk_21 5 (dk_at dksX5_cover_6 20 rfl rfl)
theorem dX5_cover_161 : decode cX5_cover 161 = .ok (.if_icmp .le 8, 3) := dk_164 0 8 (dk_at dksX5_cover_7 0 rfl rfl)
theorem dX5_cover_164 : decode cX5_cover 164 = .ok (.iload 6, 2) := dk_21 6 (dk_at dksX5_cover_7 3 rfl rfl)
theorem dX5_cover_166 : decode cX5_cover 166 = .ok (.goto 5, 3) := dk_167 0 5 (dk_at dksX5_cover_7 5 rfl rfl)
theorem dX5_cover_169 : decode cX5_cover 169 = .ok (.iload 4, 2) := dk_21 4 (dk_at dksX5_cover_7 8 rfl rfl)
theorem dX5_cover_171 : decode cX5_cover 171 = .ok (.istore 4, 2) := dk_54 4 (dk_at dksX5_cover_7 10 rfl rfl)
theorem dX5_cover_173 : decode cX5_cover 173 = .ok (.aload_n 0, 1) := dk_42 (dk_at dksX5_cover_7 12 rfl rfl)
theorem dX5_cover_174 : decode cX5_cover 174 = .ok (.getfield 25, 3) := dk_180 0 25 (dk_at dksX5_cover_7 13 rfl rfl)
theorem dX5_cover_177 : decode cX5_cover 177 = .ok (.iload 6, 2) := dk_21 6 (dk_at dksX5_cover_7 16 rfl rfl)
theorem dX5_cover_179 : decode cX5_cover 179 = .ok (.baload, 1) := dk_51 (dk_at dksX5_cover_7 18 rfl rfl)
theorem dX5_cover_180 : decode cX5_cover 180 = .ok (.ifCond .eq 15, 3) := dk_153 0 15 (dk_at dksX5_cover_7 19 rfl rfl)
theorem dX5_cover_183 : decode cX5_cover 183 = .ok (.iload 7, 2) := dk_21 7 (dk_at dksX5_cover_7 22 rfl rfl)
theorem dX5_cover_185 : decode cX5_cover 185 = .ok (.iload 5, 2) := dk_21 5 (dk_at dksX5_cover_8 0 rfl rfl)
theorem dX5_cover_187 : decode cX5_cover 187 = .ok (.if_icmp .le 8, 3) := dk_164 0 8 (dk_at dksX5_cover_8 2 rfl rfl)
theorem dX5_cover_190 : decode cX5_cover 190 = .ok (.iload 7, 2) := dk_21 7 (dk_at dksX5_cover_8 5 rfl rfl)
theorem dX5_cover_192 : decode cX5_cover 192 = .ok (.goto 5, 3) := dk_167 0 5 (dk_at dksX5_cover_8 7 rfl rfl)
theorem dX5_cover_195 : decode cX5_cover 195 = .ok (.iload 5, 2) := dk_21 5 (dk_at dksX5_cover_8 10 rfl rfl)
theorem dX5_cover_197 : decode cX5_cover 197 = .ok (.istore 5, 2) := dk_54 5 (dk_at dksX5_cover_8 12 rfl rfl)
theorem dX5_cover_199 : decode cX5_cover 199 = .ok (.iinc 6 1, 3) := dk_132 6 1 (dk_at dksX5_cover_8 14 rfl rfl)
theorem dX5_cover_202 : decode cX5_cover 202 = .ok (.goto (-134), 3) := dk_167 255 122 (dk_at dksX5_cover_8 17 rfl rfl)
theorem dX5_cover_205 : decode cX5_cover 205 = .ok (.iconst 0, 1) := dk_3 (dk_at dksX5_cover_8 20 rfl rfl)
theorem dX5_cover_206 : decode cX5_cover 206 = .ok (.istore 6, 2) := dk_54 6 (dk_at dksX5_cover_8 21 rfl rfl)
theorem dX5_cover_208 : decode cX5_cover 208 = .ok (.iload 6, 2) := dk_21 6 (dk_at dksX5_cover_9 0 rfl rfl)
theorem dX5_cover_210 : decode cX5_cover 210 = .ok (.aload_n 0, 1) := dk_42 (dk_at dksX5_cover_9 2 rfl rfl)
theorem dX5_cover_211 : decode cX5_cover 211 = .ok (.getfield 7, 3) := dk_180 0 7 (dk_at dksX5_cover_9 3 rfl rfl)
theorem dX5_cover_214 : decode cX5_cover 214 = .ok (.sipush 160, 3) := dk_17 0 160 (dk_at dksX5_cover_9 6 rfl rfl)
theorem dX5_cover_217 : decode cX5_cover 217 = .ok (.iaload, 1) := dk_46 (dk_at dksX5_cover_9 9 rfl rfl)
theorem dX5_cover_218 : decode cX5_cover 218 = .ok (.if_icmp .ge 42, 3) := dk_162 0 42 (dk_at dksX5_cover_9 10 rfl rfl)
theorem dX5_cover_221 : decode cX5_cover 221 = .ok (.aload_n 0, 1) := dk_42 (dk_at dksX5_cover_9 13 rfl rfl)
theorem dX5_cover_222 : decode cX5_cover 222 = .ok (.getfield 29, 3) := dk_180 0 29 (dk_at dksX5_cover_9 14 rfl rfl)
theorem dX5_cover_225 : decode cX5_cover 225 = .ok (.iload 6, 2) := dk_21 6 (dk_at dksX5_cover_9 17 rfl rfl)
theorem dX5_cover_227 : decode cX5_cover 227 = .ok (.aload_n 0, 1) := dk_42 (dk_at dksX5_cover_9 19 rfl rfl)
theorem dX5_cover_228 : decode cX5_cover 228 = .ok (.getfield 29, 3) := dk_180 0 29 (dk_at dksX5_cover_9 20 rfl rfl)
theorem dX5_cover_231 : decode cX5_cover 231 = .ok (.iload 6, 2) := dk_21 6 (dk_at dksX5_cover_10 0 rfl rfl)
theorem dX5_cover_233 : decode cX5_cover 233 = .ok (.baload, 1) := dk_51 (dk_at dksX5_cover_10 2 rfl rfl)
theorem dX5_cover_234 : decode cX5_cover 234 = .ok (.ifCond .ne 14, 3) := dk_154 0 14 (dk_at dksX5_cover_10 3 rfl rfl)
theorem dX5_cover_237 : decode cX5_cover 237 = .ok (.aload_n 0, 1) := dk_42 (dk_at dksX5_cover_10 6 rfl rfl)
theorem dX5_cover_238 : decode cX5_cover 238 = .ok (.iload 4, 2) := dk_21 4 (dk_at dksX5_cover_10 7 rfl rfl)
theorem dX5_cover_240 : decode cX5_cover 240 = .ok (.iload 6, 2) := dk_21 6 (dk_at dksX5_cover_10 9 rfl rfl)
theorem dX5_cover_242 : decode cX5_cover 242 = .ok (.invokevirtual 74, 3) := dk_182 0 74 (dk_at dksX5_cover_10 11 rfl rfl)
theorem dX5_cover_245 : decode cX5_cover 245 = .ok (.ifCond .eq 7, 3) := dk_153 0 7 (dk_at dksX5_cover_10 14 rfl rfl)
theorem dX5_cover_248 : decode cX5_cover 248 = .ok (.iconst 1, 1) := dk_4 (dk_at dksX5_cover_10 17 rfl rfl)
theorem dX5_cover_249 : decode cX5_cover 249 = .ok (.goto 4, 3) := dk_167 0 4 (dk_at dksX5_cover_10 18 rfl rfl)
theorem dX5_cover_252 : decode cX5_cover 252 = .ok (.iconst 0, 1) := dk_3 (dk_at dksX5_cover_10 21 rfl rfl)
theorem dX5_cover_253 : decode cX5_cover 253 = .ok (.bastore, 1) := dk_84 (dk_at dksX5_cover_10 22 rfl rfl)
theorem dX5_cover_254 : decode cX5_cover 254 = .ok (.iinc 6 1, 3) := dk_132 6 1 (dk_at dksX5_cover_11 0 rfl rfl)
theorem dX5_cover_257 : decode cX5_cover 257 = .ok (.goto (-49), 3) := dk_167 255 207 (dk_at dksX5_cover_11 3 rfl rfl)
theorem dX5_cover_260 : decode cX5_cover 260 = .ok (.aload_n 0, 1) := dk_42 (dk_at dksX5_cover_11 6 rfl rfl)
theorem dX5_cover_261 : decode cX5_cover 261 = .ok (.getfield 25, 3) := dk_180 0 25 (dk_at dksX5_cover_11 7 rfl rfl)
theorem dX5_cover_264 : decode cX5_cover 264 = .ok (.iload 4, 2) := dk_21 4 (dk_at dksX5_cover_11 10 rfl rfl)
theorem dX5_cover_266 : decode cX5_cover 266 = .ok (.iconst 0, 1) := dk_3 (dk_at dksX5_cover_11 12 rfl rfl)
theorem dX5_cover_267 : decode cX5_cover 267 = .ok (.bastore, 1) := dk_84 (dk_at dksX5_cover_11 13 rfl rfl)
theorem dX5_cover_268 : decode cX5_cover 268 = .ok (.aload_n 0, 1) := dk_42 (dk_at dksX5_cover_11 14 rfl rfl)
theorem dX5_cover_269 : decode cX5_cover 269 = .ok (.getfield 35, 3) := dk_180 0 35 (dk_at dksX5_cover_11 15 rfl rfl)
theorem dX5_cover_272 : decode cX5_cover 272 = .ok (.aload_n 0, 1) := dk_42 (dk_at dksX5_cover_11 18 rfl rfl)
theorem dX5_cover_273 : decode cX5_cover 273 = .ok (.getfield 82, 3) := dk_180 0 82 (dk_at dksX5_cover_11 19 rfl rfl)
theorem dX5_cover_276 : decode cX5_cover 276 = .ok (.iload 4, 2) := dk_21 4 (dk_at dksX5_cover_11 22 rfl rfl)
theorem dX5_cover_278 : decode cX5_cover 278 = .ok (.iastore, 1) := dk_79 (dk_at dksX5_cover_12 0 rfl rfl)
theorem dX5_cover_279 : decode cX5_cover 279 = .ok (.aload_n 0, 1) := dk_42 (dk_at dksX5_cover_12 1 rfl rfl)
theorem dX5_cover_280 : decode cX5_cover 280 = .ok (.dup, 1) := dk_89 (dk_at dksX5_cover_12 2 rfl rfl)
theorem dX5_cover_281 : decode cX5_cover 281 = .ok (.getfield 82, 3) := dk_180 0 82 (dk_at dksX5_cover_12 3 rfl rfl)
theorem dX5_cover_284 : decode cX5_cover 284 = .ok (.iconst 1, 1) := dk_4 (dk_at dksX5_cover_12 6 rfl rfl)
theorem dX5_cover_285 : decode cX5_cover 285 = .ok (.iadd, 1) := dk_96 (dk_at dksX5_cover_12 7 rfl rfl)
theorem dX5_cover_286 : decode cX5_cover 286 = .ok (.putfield 82, 3) := dk_181 0 82 (dk_at dksX5_cover_12 8 rfl rfl)
theorem dX5_cover_289 : decode cX5_cover 289 = .ok (.iload_n 3, 1) := dk_29 (dk_at dksX5_cover_12 11 rfl rfl)
theorem dX5_cover_290 : decode cX5_cover 290 = .ok (.iload 5, 2) := dk_21 5 (dk_at dksX5_cover_12 12 rfl rfl)
theorem dX5_cover_292 : decode cX5_cover 292 = .ok (.iadd, 1) := dk_96 (dk_at dksX5_cover_12 14 rfl rfl)
theorem dX5_cover_293 : decode cX5_cover 293 = .ok (.istore_n 3, 1) := dk_62 (dk_at dksX5_cover_12 15 rfl rfl)
theorem dX5_cover_294 : decode cX5_cover 294 = .ok (.goto (-251), 3) := dk_167 255 5 (dk_at dksX5_cover_12 16 rfl rfl)
theorem dX5_cover_297 : decode cX5_cover 297 = .ok (.iload_n 3, 1) := dk_29 (dk_at dksX5_cover_12 19 rfl rfl)
theorem dX5_cover_298 : decode cX5_cover 298 = .ok (.ireturn, 1) := dk_172 (dk_at dksX5_cover_12 20 rfl rfl)
abbrev cX5_coveredByTwo : ByteArray := prog_10_method_93_code
def yX5_coveredByTwo : MethodName := ⟨RX5, "coveredByTwo", "()I"⟩
def dkwX5_coveredByTwo_0 : List UInt8 := [42, 3, 181, 0, 38, 42, 182, 0, 208, 172]
abbrev dktX5_coveredByTwo_0 : List UInt8 := dkwX5_coveredByTwo_0 ++ []
theorem dksX5_coveredByTwo_0 : cX5_coveredByTwo.data.toList.drop 0 = dktX5_coveredByTwo_0 := by decide +kernel
theorem dX5_coveredByTwo_0 : decode cX5_coveredByTwo 0 = .ok (.aload_n 0, 1) := dk_42 (dk_at dksX5_coveredByTwo_0 0 rfl rfl)
theorem dX5_coveredByTwo_1 : decode cX5_coveredByTwo 1 = .ok (.iconst 0, 1) := dk_3 (dk_at dksX5_coveredByTwo_0 1 rfl rfl)
theorem dX5_coveredByTwo_2 : decode cX5_coveredByTwo 2 = .ok (.putfield 38, 3) := dk_181 0 38 (dk_at dksX5_coveredByTwo_0 2 rfl rfl)
theorem dX5_coveredByTwo_5 : decode cX5_coveredByTwo 5 = .ok (.aload_n 0, 1) := dk_42 (dk_at dksX5_coveredByTwo_0 5 rfl rfl)
theorem dX5_coveredByTwo_6 : decode cX5_coveredByTwo 6 = .ok (.invokevirtual 208, 3) := dk_182 0 208 (dk_at dksX5_coveredByTwo_0 6 rfl rfl)
theorem dX5_coveredByTwo_9 : decode cX5_coveredByTwo 9 = .ok (.ireturn, 1) := dk_172 (dk_at dksX5_coveredByTwo_0 9 rfl rfl)
abbrev cX5_byTwo : ByteArray := prog_10_method_24_code
def yX5_byTwo : MethodName := ⟨RX5, "byTwo", "()I"⟩
def dkwX5_byTwo_6 : List UInt8 := [154, 0, 7, 3, 167, 0, 4, 28, 172]
abbrev dktX5_byTwo_6 : List UInt8 := dkwX5_byTwo_6 ++ []
def dkwX5_byTwo_5 : List UInt8 := [164, 0, 8, 21, 5, 167, 0, 4, 28, 61, 132, 4, 1, 167, 255, 156, 132, 3, 1, 167, 255, 135, 27]
abbrev dktX5_byTwo_5 : List UInt8 := dkwX5_byTwo_5 ++ dktX5_byTwo_6
def dkwX5_byTwo_4 : List UInt8 := [182, 0, 74, 153, 0, 7, 4, 167, 0, 4, 3, 96, 54, 5, 132, 6, 1, 167, 255, 209, 21, 5, 28]
abbrev dktX5_byTwo_4 : List UInt8 := dkwX5_byTwo_4 ++ dktX5_byTwo_5
def dkwX5_byTwo_3 : List UInt8 := [17, 0, 160, 46, 162, 0, 40, 21, 5, 42, 29, 21, 6, 182, 0, 74, 154, 0, 14, 42, 21, 4, 21, 6]
abbrev dktX5_byTwo_3 : List UInt8 := dkwX5_byTwo_3 ++ dktX5_byTwo_4
def dkwX5_byTwo_2 : List UInt8 := [180, 0, 25, 21, 4, 51, 154, 0, 6, 167, 0, 72, 3, 54, 5, 3, 54, 6, 21, 6, 42, 180, 0, 7]
abbrev dktX5_byTwo_2 : List UInt8 := dkwX5_byTwo_2 ++ dktX5_byTwo_3
def dkwX5_byTwo_1 : List UInt8 := [162, 0, 115, 3, 54, 4, 21, 4, 29, 163, 0, 100, 42, 180, 0, 25, 29, 51, 153, 0, 85, 42]
abbrev dktX5_byTwo_1 : List UInt8 := dkwX5_byTwo_1 ++ dktX5_byTwo_2
def dkwX5_byTwo_0 : List UInt8 := [42, 42, 182, 0, 67, 182, 0, 78, 60, 3, 61, 3, 62, 29, 42, 180, 0, 7, 17, 0, 160, 46]
abbrev dktX5_byTwo_0 : List UInt8 := dkwX5_byTwo_0 ++ dktX5_byTwo_1
theorem dksX5_byTwo_0 : cX5_byTwo.data.toList.drop 0 = dktX5_byTwo_0 := by decide +kernel
theorem dksX5_byTwo_1 : cX5_byTwo.data.toList.drop 22 = dktX5_byTwo_1 := dk_seg dksX5_byTwo_0 22 rfl rfl
theorem dksX5_byTwo_2 : cX5_byTwo.data.toList.drop 44 = dktX5_byTwo_2 := dk_seg dksX5_byTwo_1 22 rfl rfl
theorem dksX5_byTwo_3 : cX5_byTwo.data.toList.drop 68 = dktX5_byTwo_3 := dk_seg dksX5_byTwo_2 24 rfl rfl
theorem dksX5_byTwo_4 : cX5_byTwo.data.toList.drop 92 = dktX5_byTwo_4 := dk_seg dksX5_byTwo_3 24 rfl rfl
theorem dksX5_byTwo_5 : cX5_byTwo.data.toList.drop 115 = dktX5_byTwo_5 := dk_seg dksX5_byTwo_4 23 rfl rfl
theorem dksX5_byTwo_6 : cX5_byTwo.data.toList.drop 138 = dktX5_byTwo_6 := dk_seg dksX5_byTwo_5 23 rfl rfl
theorem dX5_byTwo_0 : decode cX5_byTwo 0 = .ok (.aload_n 0, 1) := dk_42 (dk_at dksX5_byTwo_0 0 rfl rfl)
theorem dX5_byTwo_1 : decode cX5_byTwo 1 = .ok (.aload_n 0, 1) := dk_42 (dk_at dksX5_byTwo_0 1 rfl rfl)
theorem dX5_byTwo_2 : decode cX5_byTwo 2 = .ok (.invokevirtual 67, 3) := dk_182 0 67 (dk_at dksX5_byTwo_0 2 rfl rfl)
theorem dX5_byTwo_5 : decode cX5_byTwo 5 = .ok (.invokevirtual 78, 3) := dk_182 0 78 (dk_at dksX5_byTwo_0 5 rfl rfl)
theorem dX5_byTwo_8 : decode cX5_byTwo 8 = .ok (.istore_n 1, 1) := dk_60 (dk_at dksX5_byTwo_0 8 rfl rfl)
theorem dX5_byTwo_9 : decode cX5_byTwo 9 = .ok (.iconst 0, 1) := dk_3 (dk_at dksX5_byTwo_0 9 rfl rfl)
theorem dX5_byTwo_10 : decode cX5_byTwo 10 = .ok (.istore_n 2, 1) := dk_61 (dk_at dksX5_byTwo_0 10 rfl rfl)
theorem dX5_byTwo_11 : decode cX5_byTwo 11 = .ok (.iconst 0, 1) := dk_3 (dk_at dksX5_byTwo_0 11 rfl rfl)
theorem dX5_byTwo_12 : decode cX5_byTwo 12 = .ok (.istore_n 3, 1) := dk_62 (dk_at dksX5_byTwo_0 12 rfl rfl)
theorem dX5_byTwo_13 : decode cX5_byTwo 13 = .ok (.iload_n 3, 1) := dk_29 (dk_at dksX5_byTwo_0 13 rfl rfl)
theorem dX5_byTwo_14 : decode cX5_byTwo 14 = .ok (.aload_n 0, 1) := dk_42 (dk_at dksX5_byTwo_0 14 rfl rfl)
theorem dX5_byTwo_15 : decode cX5_byTwo 15 = .ok (.getfield 7, 3) := dk_180 0 7 (dk_at dksX5_byTwo_0 15 rfl rfl)
theorem dX5_byTwo_18 : decode cX5_byTwo 18 = .ok (.sipush 160, 3) := dk_17 0 160 (dk_at dksX5_byTwo_0 18 rfl rfl)
theorem dX5_byTwo_21 : decode cX5_byTwo 21 = .ok (.iaload, 1) := dk_46 (dk_at dksX5_byTwo_0 21 rfl rfl)
theorem dX5_byTwo_22 : decode cX5_byTwo 22 = .ok (.if_icmp .ge 115, 3) := dk_162 0 115 (dk_at dksX5_byTwo_1 0 rfl rfl)
theorem dX5_byTwo_25 : decode cX5_byTwo 25 = .ok (.iconst 0, 1) := dk_3 (dk_at dksX5_byTwo_1 3 rfl rfl)
theorem dX5_byTwo_26 : decode cX5_byTwo 26 = .ok (.istore 4, 2) := dk_54 4 (dk_at dksX5_byTwo_1 4 rfl rfl)
theorem dX5_byTwo_28 : decode cX5_byTwo 28 = .ok (.iload 4, 2) := dk_21 4 (dk_at dksX5_byTwo_1 6 rfl rfl)
theorem dX5_byTwo_30 : decode cX5_byTwo 30 = .ok (.iload_n 3, 1) := dk_29 (dk_at dksX5_byTwo_1 8 rfl rfl)
theorem dX5_byTwo_31 : decode cX5_byTwo 31 = .ok (.if_icmp .gt 100, 3) := dk_163 0 100 (dk_at dksX5_byTwo_1 9 rfl rfl)
theorem dX5_byTwo_34 : decode cX5_byTwo 34 = .ok (.aload_n 0, 1) := dk_42 (dk_at dksX5_byTwo_1 12 rfl rfl)
theorem dX5_byTwo_35 : decode cX5_byTwo 35 = .ok (.getfield 25, 3) := dk_180 0 25 (dk_at dksX5_byTwo_1 13 rfl rfl)
theorem dX5_byTwo_38 : decode cX5_byTwo 38 = .ok (.iload_n 3, 1) := dk_29 (dk_at dksX5_byTwo_1 16 rfl rfl)
theorem dX5_byTwo_39 : decode cX5_byTwo 39 = .ok (.baload, 1) := dk_51 (dk_at dksX5_byTwo_1 17 rfl rfl)
theorem dX5_byTwo_40 : decode cX5_byTwo 40 = .ok (.ifCond .eq 85, 3) := dk_153 0 85 (dk_at dksX5_byTwo_1 18 rfl rfl)
theorem dX5_byTwo_43 : decode cX5_byTwo 43 = .ok (.aload_n 0, 1) := dk_42 (dk_at dksX5_byTwo_1 21 rfl rfl)
theorem dX5_byTwo_44 : decode cX5_byTwo 44 = .ok (.getfield 25, 3) := dk_180 0 25 (dk_at dksX5_byTwo_2 0 rfl rfl)
theorem dX5_byTwo_47 : decode cX5_byTwo 47 = .ok (.iload 4, 2) := dk_21 4 (dk_at dksX5_byTwo_2 3 rfl rfl)
theorem dX5_byTwo_49 : decode cX5_byTwo 49 = .ok (.baload, 1) := dk_51 (dk_at dksX5_byTwo_2 5 rfl rfl)
theorem dX5_byTwo_50 : decode cX5_byTwo 50 = .ok (.ifCond .ne 6, 3) := dk_154 0 6 (dk_at dksX5_byTwo_2 6 rfl rfl)
theorem dX5_byTwo_53 : decode cX5_byTwo 53 = .ok (.goto 72, 3) := dk_167 0 72 (dk_at dksX5_byTwo_2 9 rfl rfl)
theorem dX5_byTwo_56 : decode cX5_byTwo 56 = .ok (.iconst 0, 1) := dk_3 (dk_at dksX5_byTwo_2 12 rfl rfl)
theorem dX5_byTwo_57 : decode cX5_byTwo 57 = .ok (.istore 5, 2) := dk_54 5 (dk_at dksX5_byTwo_2 13 rfl rfl)
theorem dX5_byTwo_59 : decode cX5_byTwo 59 = .ok (.iconst 0, 1) := dk_3 (dk_at dksX5_byTwo_2 15 rfl rfl)
theorem dX5_byTwo_60 : decode cX5_byTwo 60 = .ok (.istore 6, 2) := dk_54 6 (dk_at dksX5_byTwo_2 16 rfl rfl)
theorem dX5_byTwo_62 : decode cX5_byTwo 62 = .ok (.iload 6, 2) := dk_21 6 (dk_at dksX5_byTwo_2 18 rfl rfl)
theorem dX5_byTwo_64 : decode cX5_byTwo 64 = .ok (.aload_n 0, 1) := dk_42 (dk_at dksX5_byTwo_2 20 rfl rfl)
theorem dX5_byTwo_65 : decode cX5_byTwo 65 = .ok (.getfield 7, 3) := dk_180 0 7 (dk_at dksX5_byTwo_2 21 rfl rfl)
theorem dX5_byTwo_68 : decode cX5_byTwo 68 = .ok (.sipush 160, 3) := dk_17 0 160 (dk_at dksX5_byTwo_3 0 rfl rfl)
theorem dX5_byTwo_71 : decode cX5_byTwo 71 = .ok (.iaload, 1) := dk_46 (dk_at dksX5_byTwo_3 3 rfl rfl)
theorem dX5_byTwo_72 : decode cX5_byTwo 72 = .ok (.if_icmp .ge 40, 3) := dk_162 0 40 (dk_at dksX5_byTwo_3 4 rfl rfl)
theorem dX5_byTwo_75 : decode cX5_byTwo 75 = .ok (.iload 5, 2) := dk_21 5 (dk_at dksX5_byTwo_3 7 rfl rfl)
theorem dX5_byTwo_77 : decode cX5_byTwo 77 = .ok (.aload_n 0, 1) := dk_42 (dk_at dksX5_byTwo_3 9 rfl rfl)
theorem dX5_byTwo_78 : decode cX5_byTwo 78 = .ok (.iload_n 3, 1) := dk_29 (dk_at dksX5_byTwo_3 10 rfl rfl)
theorem dX5_byTwo_79 : decode cX5_byTwo 79 = .ok (.iload 6, 2) := dk_21 6 (dk_at dksX5_byTwo_3 11 rfl rfl)
theorem dX5_byTwo_81 : decode cX5_byTwo 81 = .ok (.invokevirtual 74, 3) := dk_182 0 74 (dk_at dksX5_byTwo_3 13 rfl rfl)
theorem dX5_byTwo_84 : decode cX5_byTwo 84 = .ok (.ifCond .ne 14, 3) := dk_154 0 14 (dk_at dksX5_byTwo_3 16 rfl rfl)
theorem dX5_byTwo_87 : decode cX5_byTwo 87 = .ok (.aload_n 0, 1) := dk_42 (dk_at dksX5_byTwo_3 19 rfl rfl)
theorem dX5_byTwo_88 : decode cX5_byTwo 88 = .ok (.iload 4, 2) := dk_21 4 (dk_at dksX5_byTwo_3 20 rfl rfl)
theorem dX5_byTwo_90 : decode cX5_byTwo 90 = .ok (.iload 6, 2) := dk_21 6 (dk_at dksX5_byTwo_3 22 rfl rfl)
theorem dX5_byTwo_92 : decode cX5_byTwo 92 = .ok (.invokevirtual 74, 3) := dk_182 0 74 (dk_at dksX5_byTwo_4 0 rfl rfl)
theorem dX5_byTwo_95 : decode cX5_byTwo 95 = .ok (.ifCond .eq 7, 3) := dk_153 0 7 (dk_at dksX5_byTwo_4 3 rfl rfl)
theorem dX5_byTwo_98 : decode cX5_byTwo 98 = .ok (.iconst 1, 1) := dk_4 (dk_at dksX5_byTwo_4 6 rfl rfl)
theorem dX5_byTwo_99 : decode cX5_byTwo 99 = .ok (.goto 4, 3) := dk_167 0 4 (dk_at dksX5_byTwo_4 7 rfl rfl)
theorem dX5_byTwo_102 : decode cX5_byTwo 102 = .ok (.iconst 0, 1) := dk_3 (dk_at dksX5_byTwo_4 10 rfl rfl)
theorem dX5_byTwo_103 : decode cX5_byTwo 103 = .ok (.iadd, 1) := dk_96 (dk_at dksX5_byTwo_4 11 rfl rfl)
theorem dX5_byTwo_104 : decode cX5_byTwo 104 = .ok (.istore 5, 2) := dk_54 5 (dk_at dksX5_byTwo_4 12 rfl rfl)
theorem dX5_byTwo_106 : decode cX5_byTwo 106 = .ok (.iinc 6 1, 3) := dk_132 6 1 (dk_at dksX5_byTwo_4 14 rfl rfl)
theorem dX5_byTwo_109 : decode cX5_byTwo 109 = .ok (.goto (-47), 3) := dk_167 255 209 (dk_at dksX5_byTwo_4 17 rfl rfl)
theorem dX5_byTwo_112 : decode cX5_byTwo 112 = .ok (.iload 5, 2) := dk_21 5 (dk_at dksX5_byTwo_4 20 rfl rfl)
theorem dX5_byTwo_114 : decode cX5_byTwo 114 = .ok (.iload_n 2, 1) := dk_28 (dk_at dksX5_byTwo_4 22 rfl rfl)
theorem dX5_byTwo_115 : decode cX5_byTwo 115 = .ok (.if_icmp .le 8, 3) := dk_164 0 8 (dk_at dksX5_byTwo_5 0 rfl rfl)
theorem dX5_byTwo_118 : decode cX5_byTwo 118 = .ok (.iload 5, 2) := dk_21 5 (dk_at dksX5_byTwo_5 3 rfl rfl)
theorem dX5_byTwo_120 : decode cX5_byTwo 120 = .ok (.goto 4, 3) := dk_167 0 4 (dk_at dksX5_byTwo_5 5 rfl rfl)
theorem dX5_byTwo_123 : decode cX5_byTwo 123 = .ok (.iload_n 2, 1) := dk_28 (dk_at dksX5_byTwo_5 8 rfl rfl)
theorem dX5_byTwo_124 : decode cX5_byTwo 124 = .ok (.istore_n 2, 1) := dk_61 (dk_at dksX5_byTwo_5 9 rfl rfl)
theorem dX5_byTwo_125 : decode cX5_byTwo 125 = .ok (.iinc 4 1, 3) := dk_132 4 1 (dk_at dksX5_byTwo_5 10 rfl rfl)
theorem dX5_byTwo_128 : decode cX5_byTwo 128 = .ok (.goto (-100), 3) := dk_167 255 156 (dk_at dksX5_byTwo_5 13 rfl rfl)
theorem dX5_byTwo_131 : decode cX5_byTwo 131 = .ok (.iinc 3 1, 3) := dk_132 3 1 (dk_at dksX5_byTwo_5 16 rfl rfl)
theorem dX5_byTwo_134 : decode cX5_byTwo 134 = .ok (.goto (-121), 3) := dk_167 255 135 (dk_at dksX5_byTwo_5 19 rfl rfl)
theorem dX5_byTwo_137 : decode cX5_byTwo 137 = .ok (.iload_n 1, 1) := dk_27 (dk_at dksX5_byTwo_5 22 rfl rfl)
theorem dX5_byTwo_138 : decode cX5_byTwo 138 = .ok (.ifCond .ne 7, 3) := dk_154 0 7 (dk_at dksX5_byTwo_6 0 rfl rfl)
theorem dX5_byTwo_141 : decode cX5_byTwo 141 = .ok (.iconst 0, 1) := dk_3 (dk_at dksX5_byTwo_6 3 rfl rfl)
theorem dX5_byTwo_142 : decode cX5_byTwo 142 = .ok (.goto 4, 3) := dk_167 0 4 (dk_at dksX5_byTwo_6 4 rfl rfl)
theorem dX5_byTwo_145 : decode cX5_byTwo 145 = .ok (.iload_n 2, 1) := dk_28 (dk_at dksX5_byTwo_6 7 rfl rfl)
theorem dX5_byTwo_146 : decode cX5_byTwo 146 = .ok (.ireturn, 1) := dk_172 (dk_at dksX5_byTwo_6 8 rfl rfl)
abbrev cX5_takenAt : ByteArray := prog_10_method_94_code
def yX5_takenAt : MethodName := ⟨RX5, "takenAt", "(I)I"⟩
def dkwX5_takenAt_1 : List UInt8 := [154, 0, 11, 42, 4, 182, 0, 105, 167, 0, 9, 42, 180, 0, 35, 27, 46, 172]
abbrev dktX5_takenAt_1 : List UInt8 := dkwX5_takenAt_1 ++ []
def dkwX5_takenAt_0 : List UInt8 := [42, 3, 181, 0, 38, 42, 16, 40, 182, 0, 205, 61, 27, 3, 42, 180, 0, 82, 4, 100, 184, 0, 42]
abbrev dktX5_takenAt_0 : List UInt8 := dkwX5_takenAt_0 ++ dktX5_takenAt_1
theorem dksX5_takenAt_0 : cX5_takenAt.data.toList.drop 0 = dktX5_takenAt_0 := by decide +kernel
theorem dksX5_takenAt_1 : cX5_takenAt.data.toList.drop 23 = dktX5_takenAt_1 := dk_seg dksX5_takenAt_0 23 rfl rfl
theorem dX5_takenAt_0 : decode cX5_takenAt 0 = .ok (.aload_n 0, 1) := dk_42 (dk_at dksX5_takenAt_0 0 rfl rfl)
theorem dX5_takenAt_1 : decode cX5_takenAt 1 = .ok (.iconst 0, 1) := dk_3 (dk_at dksX5_takenAt_0 1 rfl rfl)
theorem dX5_takenAt_2 : decode cX5_takenAt 2 = .ok (.putfield 38, 3) := dk_181 0 38 (dk_at dksX5_takenAt_0 2 rfl rfl)
theorem dX5_takenAt_5 : decode cX5_takenAt 5 = .ok (.aload_n 0, 1) := dk_42 (dk_at dksX5_takenAt_0 5 rfl rfl)
theorem dX5_takenAt_6 : decode cX5_takenAt 6 = .ok (.bipush 40, 2) := dk_16 40 (dk_at dksX5_takenAt_0 6 rfl rfl)
theorem dX5_takenAt_8 : decode cX5_takenAt 8 = .ok (.invokevirtual 205, 3) := dk_182 0 205 (dk_at dksX5_takenAt_0 8 rfl rfl)
theorem dX5_takenAt_11 : decode cX5_takenAt 11 = .ok (.istore_n 2, 1) := dk_61 (dk_at dksX5_takenAt_0 11 rfl rfl)
theorem dX5_takenAt_12 : decode cX5_takenAt 12 = .ok (.iload_n 1, 1) := dk_27 (dk_at dksX5_takenAt_0 12 rfl rfl)
theorem dX5_takenAt_13 : decode cX5_takenAt 13 = .ok (.iconst 0, 1) := dk_3 (dk_at dksX5_takenAt_0 13 rfl rfl)
theorem dX5_takenAt_14 : decode cX5_takenAt 14 = .ok (.aload_n 0, 1) := dk_42 (dk_at dksX5_takenAt_0 14 rfl rfl)
theorem dX5_takenAt_15 : decode cX5_takenAt 15 = .ok (.getfield 82, 3) := dk_180 0 82 (dk_at dksX5_takenAt_0 15 rfl rfl)
theorem dX5_takenAt_18 : decode cX5_takenAt 18 = .ok (.iconst 1, 1) := dk_4 (dk_at dksX5_takenAt_0 18 rfl rfl)
theorem dX5_takenAt_19 : decode cX5_takenAt 19 = .ok (.isub, 1) := dk_100 (dk_at dksX5_takenAt_0 19 rfl rfl)
theorem dX5_takenAt_20 : decode cX5_takenAt 20 = .ok (.invokestatic 42, 3) := dk_184 0 42 (dk_at dksX5_takenAt_0 20 rfl rfl)
theorem dX5_takenAt_23 : decode cX5_takenAt 23 = .ok (.ifCond .ne 11, 3) := dk_154 0 11 (dk_at dksX5_takenAt_1 0 rfl rfl)
theorem dX5_takenAt_26 : decode cX5_takenAt 26 = .ok (.aload_n 0, 1) := dk_42 (dk_at dksX5_takenAt_1 3 rfl rfl)
theorem dX5_takenAt_27 : decode cX5_takenAt 27 = .ok (.iconst 1, 1) := dk_4 (dk_at dksX5_takenAt_1 4 rfl rfl)
theorem dX5_takenAt_28 : decode cX5_takenAt 28 = .ok (.invokevirtual 105, 3) := dk_182 0 105 (dk_at dksX5_takenAt_1 5 rfl rfl)
theorem dX5_takenAt_31 : decode cX5_takenAt 31 = .ok (.goto 9, 3) := dk_167 0 9 (dk_at dksX5_takenAt_1 8 rfl rfl)
theorem dX5_takenAt_34 : decode cX5_takenAt 34 = .ok (.aload_n 0, 1) := dk_42 (dk_at dksX5_takenAt_1 11 rfl rfl)
theorem dX5_takenAt_35 : decode cX5_takenAt 35 = .ok (.getfield 35, 3) := dk_180 0 35 (dk_at dksX5_takenAt_1 12 rfl rfl)
theorem dX5_takenAt_38 : decode cX5_takenAt 38 = .ok (.iload_n 1, 1) := dk_27 (dk_at dksX5_takenAt_1 15 rfl rfl)
theorem dX5_takenAt_39 : decode cX5_takenAt 39 = .ok (.iaload, 1) := dk_46 (dk_at dksX5_takenAt_1 16 rfl rfl)
theorem dX5_takenAt_40 : decode cX5_takenAt 40 = .ok (.ireturn, 1) := dk_172 (dk_at dksX5_takenAt_1 17 rfl rfl)
abbrev cX5_scoreOf : ByteArray := prog_10_method_95_code
def yX5_scoreOf : MethodName := ⟨RX5, "scoreOf", "(I)I"⟩
def dkwX5_scoreOf_1 : List UInt8 := [182, 0, 85, 172]
abbrev dktX5_scoreOf_1 : List UInt8 := dkwX5_scoreOf_1 ++ []
def dkwX5_scoreOf_0 : List UInt8 := [42, 3, 181, 0, 38, 42, 27, 182, 0, 102, 153, 0, 11, 42, 4, 182, 0, 105, 167, 0, 8, 42, 27]
abbrev dktX5_scoreOf_0 : List UInt8 := dkwX5_scoreOf_0 ++ dktX5_scoreOf_1
theorem dksX5_scoreOf_0 : cX5_scoreOf.data.toList.drop 0 = dktX5_scoreOf_0 := by decide +kernel
theorem dksX5_scoreOf_1 : cX5_scoreOf.data.toList.drop 23 = dktX5_scoreOf_1 := dk_seg dksX5_scoreOf_0 23 rfl rfl
theorem dX5_scoreOf_0 : decode cX5_scoreOf 0 = .ok (.aload_n 0, 1) := dk_42 (dk_at dksX5_scoreOf_0 0 rfl rfl)
theorem dX5_scoreOf_1 : decode cX5_scoreOf 1 = .ok (.iconst 0, 1) := dk_3 (dk_at dksX5_scoreOf_0 1 rfl rfl)
theorem dX5_scoreOf_2 : decode cX5_scoreOf 2 = .ok (.putfield 38, 3) := dk_181 0 38 (dk_at dksX5_scoreOf_0 2 rfl rfl)
theorem dX5_scoreOf_5 : decode cX5_scoreOf 5 = .ok (.aload_n 0, 1) := dk_42 (dk_at dksX5_scoreOf_0 5 rfl rfl)
theorem dX5_scoreOf_6 : decode cX5_scoreOf 6 = .ok (.iload_n 1, 1) := dk_27 (dk_at dksX5_scoreOf_0 6 rfl rfl)
theorem dX5_scoreOf_7 : decode cX5_scoreOf 7 = .ok (.invokevirtual 102, 3) := dk_182 0 102 (dk_at dksX5_scoreOf_0 7 rfl rfl)
theorem dX5_scoreOf_10 : decode cX5_scoreOf 10 = .ok (.ifCond .eq 11, 3) := dk_153 0 11 (dk_at dksX5_scoreOf_0 10 rfl rfl)
theorem dX5_scoreOf_13 : decode cX5_scoreOf 13 = .ok (.aload_n 0, 1) := dk_42 (dk_at dksX5_scoreOf_0 13 rfl rfl)
theorem dX5_scoreOf_14 : decode cX5_scoreOf 14 = .ok (.iconst 1, 1) := dk_4 (dk_at dksX5_scoreOf_0 14 rfl rfl)
theorem dX5_scoreOf_15 : decode cX5_scoreOf 15 = .ok (.invokevirtual 105, 3) := dk_182 0 105 (dk_at dksX5_scoreOf_0 15 rfl rfl)
theorem dX5_scoreOf_18 : decode cX5_scoreOf 18 = .ok (.goto 8, 3) := dk_167 0 8 (dk_at dksX5_scoreOf_0 18 rfl rfl)
theorem dX5_scoreOf_21 : decode cX5_scoreOf 21 = .ok (.aload_n 0, 1) := dk_42 (dk_at dksX5_scoreOf_0 21 rfl rfl)
theorem dX5_scoreOf_22 : decode cX5_scoreOf 22 = .ok (.iload_n 1, 1) := dk_27 (dk_at dksX5_scoreOf_0 22 rfl rfl)
theorem dX5_scoreOf_23 : decode cX5_scoreOf 23 = .ok (.invokevirtual 85, 3) := dk_182 0 85 (dk_at dksX5_scoreOf_1 0 rfl rfl)
theorem dX5_scoreOf_26 : decode cX5_scoreOf 26 = .ok (.ireturn, 1) := dk_172 (dk_at dksX5_scoreOf_1 3 rfl rfl)
abbrev cX5_score : ByteArray := prog_10_method_25_code
def yX5_score : MethodName := ⟨RX5, "score", "(I)I"⟩
def dkwX5_score_2 : List UInt8 := [172]
abbrev dktX5_score_2 : List UInt8 := dkwX5_score_2 ++ []
def dkwX5_score_1 : List UInt8 := [42, 180, 0, 7, 17, 0, 173, 29, 96, 46, 104, 167, 0, 4, 3, 96, 61, 132, 3, 1, 167, 255, 216, 28]
abbrev dktX5_score_1 : List UInt8 := dkwX5_score_1 ++ dktX5_score_2
def dkwX5_score_0 : List UInt8 := [3, 61, 3, 62, 29, 7, 162, 0, 41, 28, 42, 29, 182, 0, 49, 153, 0, 23, 42, 27, 29, 182, 0, 60]
abbrev dktX5_score_0 : List UInt8 := dkwX5_score_0 ++ dktX5_score_1
theorem dksX5_score_0 : cX5_score.data.toList.drop 0 = dktX5_score_0 := by decide +kernel
theorem dksX5_score_1 : cX5_score.data.toList.drop 24 = dktX5_score_1 := dk_seg dksX5_score_0 24 rfl rfl
theorem dksX5_score_2 : cX5_score.data.toList.drop 48 = dktX5_score_2 := dk_seg dksX5_score_1 24 rfl rfl
theorem dX5_score_0 : decode cX5_score 0 = .ok (.iconst 0, 1) := dk_3 (dk_at dksX5_score_0 0 rfl rfl)
theorem dX5_score_1 : decode cX5_score 1 = .ok (.istore_n 2, 1) := dk_61 (dk_at dksX5_score_0 1 rfl rfl)
theorem dX5_score_2 : decode cX5_score 2 = .ok (.iconst 0, 1) := dk_3 (dk_at dksX5_score_0 2 rfl rfl)
theorem dX5_score_3 : decode cX5_score 3 = .ok (.istore_n 3, 1) := dk_62 (dk_at dksX5_score_0 3 rfl rfl)
theorem dX5_score_4 : decode cX5_score 4 = .ok (.iload_n 3, 1) := dk_29 (dk_at dksX5_score_0 4 rfl rfl)
theorem dX5_score_5 : decode cX5_score 5 = .ok (.iconst 4, 1) := dk_7 (dk_at dksX5_score_0 5 rfl rfl)
theorem dX5_score_6 : decode cX5_score 6 = .ok (.if_icmp .ge 41, 3) := dk_162 0 41 (dk_at dksX5_score_0 6 rfl rfl)
theorem dX5_score_9 : decode cX5_score 9 = .ok (.iload_n 2, 1) := dk_28 (dk_at dksX5_score_0 9 rfl rfl)
theorem dX5_score_10 : decode cX5_score 10 = .ok (.aload_n 0, 1) := dk_42 (dk_at dksX5_score_0 10 rfl rfl)
theorem dX5_score_11 : decode cX5_score 11 = .ok (.iload_n 3, 1) := dk_29 (dk_at dksX5_score_0 11 rfl rfl)
theorem dX5_score_12 : decode cX5_score 12 = .ok (.invokevirtual 49, 3) := dk_182 0 49 (dk_at dksX5_score_0 12 rfl rfl)
theorem dX5_score_15 : decode cX5_score 15 = .ok (.ifCond .eq 23, 3) := dk_153 0 23 (dk_at dksX5_score_0 15 rfl rfl)
theorem dX5_score_18 : decode cX5_score 18 = .ok (.aload_n 0, 1) := dk_42 (dk_at dksX5_score_0 18 rfl rfl)
theorem dX5_score_19 : decode cX5_score 19 = .ok (.iload_n 1, 1) := dk_27 (dk_at dksX5_score_0 19 rfl rfl)
theorem dX5_score_20 : decode cX5_score 20 = .ok (.iload_n 3, 1) := dk_29 (dk_at dksX5_score_0 20 rfl rfl)
theorem dX5_score_21 : decode cX5_score 21 = .ok (.invokevirtual 60, 3) := dk_182 0 60 (dk_at dksX5_score_0 21 rfl rfl)
theorem dX5_score_24 : decode cX5_score 24 = .ok (.aload_n 0, 1) := dk_42 (dk_at dksX5_score_1 0 rfl rfl)
theorem dX5_score_25 : decode cX5_score 25 = .ok (.getfield 7, 3) := dk_180 0 7 (dk_at dksX5_score_1 1 rfl rfl)
theorem dX5_score_28 : decode cX5_score 28 = .ok (.sipush 173, 3) := dk_17 0 173 (dk_at dksX5_score_1 4 rfl rfl)
theorem dX5_score_31 : decode cX5_score 31 = .ok (.iload_n 3, 1) := dk_29 (dk_at dksX5_score_1 7 rfl rfl)
theorem dX5_score_32 : decode cX5_score 32 = .ok (.iadd, 1) := dk_96 (dk_at dksX5_score_1 8 rfl rfl)
theorem dX5_score_33 : decode cX5_score 33 = .ok (.iaload, 1) := dk_46 (dk_at dksX5_score_1 9 rfl rfl)
theorem dX5_score_34 : decode cX5_score 34 = .ok (.imul, 1) := dk_104 (dk_at dksX5_score_1 10 rfl rfl)
theorem dX5_score_35 : decode cX5_score 35 = .ok (.goto 4, 3) := dk_167 0 4 (dk_at dksX5_score_1 11 rfl rfl)
theorem dX5_score_38 : decode cX5_score 38 = .ok (.iconst 0, 1) := dk_3 (dk_at dksX5_score_1 14 rfl rfl)
theorem dX5_score_39 : decode cX5_score 39 = .ok (.iadd, 1) := dk_96 (dk_at dksX5_score_1 15 rfl rfl)
theorem dX5_score_40 : decode cX5_score 40 = .ok (.istore_n 2, 1) := dk_61 (dk_at dksX5_score_1 16 rfl rfl)
theorem dX5_score_41 : decode cX5_score 41 = .ok (.iinc 3 1, 3) := dk_132 3 1 (dk_at dksX5_score_1 17 rfl rfl)
theorem dX5_score_44 : decode cX5_score 44 = .ok (.goto (-40), 3) := dk_167 255 216 (dk_at dksX5_score_1 20 rfl rfl)
theorem dX5_score_47 : decode cX5_score 47 = .ok (.iload_n 2, 1) := dk_28 (dk_at dksX5_score_1 23 rfl rfl)
theorem dX5_score_48 : decode cX5_score 48 = .ok (.ireturn, 1) := dk_172 (dk_at dksX5_score_2 0 rfl rfl)
abbrev cX5_byScore : ByteArray := prog_10_method_96_code
def yX5_byScore : MethodName := ⟨RX5, "byScore", "(I)I"⟩
def dkwX5_byScore_1 : List UInt8 := [28, 172]
abbrev dktX5_byScore_1 : List UInt8 := dkwX5_byScore_1 ++ []
def dkwX5_byScore_0 : List UInt8 := [42, 3, 181, 0, 38, 42, 27, 182, 0, 211, 61, 28, 2, 160, 0, 11, 42, 4, 182, 0, 105, 167, 0, 4]
abbrev dktX5_byScore_0 : List UInt8 := dkwX5_byScore_0 ++ dktX5_byScore_1
theorem dksX5_byScore_0 : cX5_byScore.data.toList.drop 0 = dktX5_byScore_0 := by decide +kernel
theorem dksX5_byScore_1 : cX5_byScore.data.toList.drop 24 = dktX5_byScore_1 := dk_seg dksX5_byScore_0 24 rfl rfl
theorem dX5_byScore_0 : decode cX5_byScore 0 = .ok (.aload_n 0, 1) := dk_42 (dk_at dksX5_byScore_0 0 rfl rfl)
theorem dX5_byScore_1 : decode cX5_byScore 1 = .ok (.iconst 0, 1) := dk_3 (dk_at dksX5_byScore_0 1 rfl rfl)
theorem dX5_byScore_2 : decode cX5_byScore 2 = .ok (.putfield 38, 3) := dk_181 0 38 (dk_at dksX5_byScore_0 2 rfl rfl)
theorem dX5_byScore_5 : decode cX5_byScore 5 = .ok (.aload_n 0, 1) := dk_42 (dk_at dksX5_byScore_0 5 rfl rfl)
theorem dX5_byScore_6 : decode cX5_byScore 6 = .ok (.iload_n 1, 1) := dk_27 (dk_at dksX5_byScore_0 6 rfl rfl)
theorem dX5_byScore_7 : decode cX5_byScore 7 = .ok (.invokevirtual 211, 3) := dk_182 0 211 (dk_at dksX5_byScore_0 7 rfl rfl)
theorem dX5_byScore_10 : decode cX5_byScore 10 = .ok (.istore_n 2, 1) := dk_61 (dk_at dksX5_byScore_0 10 rfl rfl)
theorem dX5_byScore_11 : decode cX5_byScore 11 = .ok (.iload_n 2, 1) := dk_28 (dk_at dksX5_byScore_0 11 rfl rfl)
theorem dX5_byScore_12 : decode cX5_byScore 12 = .ok (.iconst (-1), 1) := dk_2 (dk_at dksX5_byScore_0 12 rfl rfl)
theorem dX5_byScore_13 : decode cX5_byScore 13 = .ok (.if_icmp .ne 11, 3) := dk_160 0 11 (dk_at dksX5_byScore_0 13 rfl rfl)
theorem dX5_byScore_16 : decode cX5_byScore 16 = .ok (.aload_n 0, 1) := dk_42 (dk_at dksX5_byScore_0 16 rfl rfl)
theorem dX5_byScore_17 : decode cX5_byScore 17 = .ok (.iconst 1, 1) := dk_4 (dk_at dksX5_byScore_0 17 rfl rfl)
theorem dX5_byScore_18 : decode cX5_byScore 18 = .ok (.invokevirtual 105, 3) := dk_182 0 105 (dk_at dksX5_byScore_0 18 rfl rfl)
theorem dX5_byScore_21 : decode cX5_byScore 21 = .ok (.goto 4, 3) := dk_167 0 4 (dk_at dksX5_byScore_0 21 rfl rfl)
theorem dX5_byScore_24 : decode cX5_byScore 24 = .ok (.iload_n 2, 1) := dk_28 (dk_at dksX5_byScore_1 0 rfl rfl)
theorem dX5_byScore_25 : decode cX5_byScore 25 = .ok (.ireturn, 1) := dk_172 (dk_at dksX5_byScore_1 1 rfl rfl)
abbrev cX5_scored : ByteArray := prog_10_method_26_code
def yX5_scored : MethodName := ⟨RX5, "scored", "(I)I"⟩
def dkwX5_scored_4 : List UInt8 := [182, 0, 57, 153, 0, 10, 29, 27, 160, 0, 5, 28, 172, 132, 2, 1, 167, 255, 151, 2, 172]
abbrev dktX5_scored_4 : List UInt8 := dkwX5_scored_4 ++ []
def dkwX5_scored_3 : List UInt8 := [160, 0, 13, 21, 4, 28, 162, 0, 7, 4, 167, 0, 4, 3, 96, 62, 132, 4, 1, 167, 255, 189, 42, 28]
abbrev dktX5_scored_3 : List UInt8 := dkwX5_scored_3 ++ dktX5_scored_4
def dkwX5_scored_2 : List UInt8 := [182, 0, 85, 42, 28, 182, 0, 85, 163, 0, 23, 42, 21, 4, 182, 0, 85, 42, 28, 182, 0, 85]
abbrev dktX5_scored_2 : List UInt8 := dkwX5_scored_2 ++ dktX5_scored_3
def dkwX5_scored_1 : List UInt8 := [180, 0, 7, 17, 0, 160, 46, 162, 0, 60, 29, 42, 21, 4, 182, 0, 57, 153, 0, 41, 42, 21, 4]
abbrev dktX5_scored_1 : List UInt8 := dkwX5_scored_1 ++ dktX5_scored_2
def dkwX5_scored_0 : List UInt8 := [3, 61, 28, 42, 180, 0, 7, 17, 0, 160, 46, 162, 0, 99, 3, 62, 3, 54, 4, 21, 4, 42]
abbrev dktX5_scored_0 : List UInt8 := dkwX5_scored_0 ++ dktX5_scored_1
theorem dksX5_scored_0 : cX5_scored.data.toList.drop 0 = dktX5_scored_0 := by decide +kernel
theorem dksX5_scored_1 : cX5_scored.data.toList.drop 22 = dktX5_scored_1 := dk_seg dksX5_scored_0 22 rfl rfl
theorem dksX5_scored_2 : cX5_scored.data.toList.drop 45 = dktX5_scored_2 := dk_seg dksX5_scored_1 23 rfl rfl
theorem dksX5_scored_3 : cX5_scored.data.toList.drop 67 = dktX5_scored_3 := dk_seg dksX5_scored_2 22 rfl rfl
theorem dksX5_scored_4 : cX5_scored.data.toList.drop 91 = dktX5_scored_4 := dk_seg dksX5_scored_3 24 rfl rfl
theorem dX5_scored_0 : decode cX5_scored 0 = .ok (.iconst 0, 1) := dk_3 (dk_at dksX5_scored_0 0 rfl rfl)
theorem dX5_scored_1 : decode cX5_scored 1 = .ok (.istore_n 2, 1) := dk_61 (dk_at dksX5_scored_0 1 rfl rfl)
theorem dX5_scored_2 : decode cX5_scored 2 = .ok (.iload_n 2, 1) := dk_28 (dk_at dksX5_scored_0 2 rfl rfl)
theorem dX5_scored_3 : decode cX5_scored 3 = .ok (.aload_n 0, 1) := dk_42 (dk_at dksX5_scored_0 3 rfl rfl)
theorem dX5_scored_4 : decode cX5_scored 4 = .ok (.getfield 7, 3) := dk_180 0 7 (dk_at dksX5_scored_0 4 rfl rfl)
theorem dX5_scored_7 : decode cX5_scored 7 = .ok (.sipush 160, 3) := dk_17 0 160 (dk_at dksX5_scored_0 7 rfl rfl)
theorem dX5_scored_10 : decode cX5_scored 10 = .ok (.iaload, 1) := dk_46 (dk_at dksX5_scored_0 10 rfl rfl)
theorem dX5_scored_11 : decode cX5_scored 11 = .ok (.if_icmp .ge 99, 3) := dk_162 0 99 (dk_at dksX5_scored_0 11 rfl rfl)
theorem dX5_scored_14 : decode cX5_scored 14 = .ok (.iconst 0, 1) := dk_3 (dk_at dksX5_scored_0 14 rfl rfl)
theorem dX5_scored_15 : decode cX5_scored 15 = .ok (.istore_n 3, 1) := dk_62 (dk_at dksX5_scored_0 15 rfl rfl)
theorem dX5_scored_16 : decode cX5_scored 16 = .ok (.iconst 0, 1) := dk_3 (dk_at dksX5_scored_0 16 rfl rfl)
theorem dX5_scored_17 : decode cX5_scored 17 = .ok (.istore 4, 2) := dk_54 4 (dk_at dksX5_scored_0 17 rfl rfl)
theorem dX5_scored_19 : decode cX5_scored 19 = .ok (.iload 4, 2) := dk_21 4 (dk_at dksX5_scored_0 19 rfl rfl)
theorem dX5_scored_21 : decode cX5_scored 21 = .ok (.aload_n 0, 1) := dk_42 (dk_at dksX5_scored_0 21 rfl rfl)
theorem dX5_scored_22 : decode cX5_scored 22 = .ok (.getfield 7, 3) := dk_180 0 7 (dk_at dksX5_scored_1 0 rfl rfl)
theorem dX5_scored_25 : decode cX5_scored 25 = .ok (.sipush 160, 3) := dk_17 0 160 (dk_at dksX5_scored_1 3 rfl rfl)
theorem dX5_scored_28 : decode cX5_scored 28 = .ok (.iaload, 1) := dk_46 (dk_at dksX5_scored_1 6 rfl rfl)
theorem dX5_scored_29 : decode cX5_scored 29 = .ok (.if_icmp .ge 60, 3) := dk_162 0 60 (dk_at dksX5_scored_1 7 rfl rfl)
theorem dX5_scored_32 : decode cX5_scored 32 = .ok (.iload_n 3, 1) := dk_29 (dk_at dksX5_scored_1 10 rfl rfl)
theorem dX5_scored_33 : decode cX5_scored 33 = .ok (.aload_n 0, 1) := dk_42 (dk_at dksX5_scored_1 11 rfl rfl)
theorem dX5_scored_34 : decode cX5_scored 34 = .ok (.iload 4, 2) := dk_21 4 (dk_at dksX5_scored_1 12 rfl rfl)
theorem dX5_scored_36 : decode cX5_scored 36 = .ok (.invokevirtual 57, 3) := dk_182 0 57 (dk_at dksX5_scored_1 14 rfl rfl)
theorem dX5_scored_39 : decode cX5_scored 39 = .ok (.ifCond .eq 41, 3) := dk_153 0 41 (dk_at dksX5_scored_1 17 rfl rfl)
theorem dX5_scored_42 : decode cX5_scored 42 = .ok (.aload_n 0, 1) := dk_42 (dk_at dksX5_scored_1 20 rfl rfl)
theorem dX5_scored_43 : decode cX5_scored 43 = .ok (.iload 4, 2) := dk_21 4 (dk_at dksX5_scored_1 21 rfl rfl)
theorem dX5_scored_45 : decode cX5_scored 45 = .ok (.invokevirtual 85, 3) := dk_182 0 85 (dk_at dksX5_scored_2 0 rfl rfl)
theorem dX5_scored_48 : decode cX5_scored 48 = .ok (.aload_n 0, 1) := dk_42 (dk_at dksX5_scored_2 3 rfl rfl)
theorem dX5_scored_49 : decode cX5_scored 49 = .ok (.iload_n 2, 1) := dk_28 (dk_at dksX5_scored_2 4 rfl rfl)
theorem dX5_scored_50 : decode cX5_scored 50 = .ok (.invokevirtual 85, 3) := dk_182 0 85 (dk_at dksX5_scored_2 5 rfl rfl)
theorem dX5_scored_53 : decode cX5_scored 53 = .ok (.if_icmp .gt 23, 3) := dk_163 0 23 (dk_at dksX5_scored_2 8 rfl rfl)
theorem dX5_scored_56 : decode cX5_scored 56 = .ok (.aload_n 0, 1) := dk_42 (dk_at dksX5_scored_2 11 rfl rfl)
theorem dX5_scored_57 : decode cX5_scored 57 = .ok (.iload 4, 2) := dk_21 4 (dk_at dksX5_scored_2 12 rfl rfl)
theorem dX5_scored_59 : decode cX5_scored 59 = .ok (.invokevirtual 85, 3) := dk_182 0 85 (dk_at dksX5_scored_2 14 rfl rfl)
theorem dX5_scored_62 : decode cX5_scored 62 = .ok (.aload_n 0, 1) := dk_42 (dk_at dksX5_scored_2 17 rfl rfl)
theorem dX5_scored_63 : decode cX5_scored 63 = .ok (.iload_n 2, 1) := dk_28 (dk_at dksX5_scored_2 18 rfl rfl)
theorem dX5_scored_64 : decode cX5_scored 64 = .ok (.invokevirtual 85, 3) := dk_182 0 85 (dk_at dksX5_scored_2 19 rfl rfl)
theorem dX5_scored_67 : decode cX5_scored 67 = .ok (.if_icmp .ne 13, 3) := dk_160 0 13 (dk_at dksX5_scored_3 0 rfl rfl)
theorem dX5_scored_70 : decode cX5_scored 70 = .ok (.iload 4, 2) := dk_21 4 (dk_at dksX5_scored_3 3 rfl rfl)
theorem dX5_scored_72 : decode cX5_scored 72 = .ok (.iload_n 2, 1) := dk_28 (dk_at dksX5_scored_3 5 rfl rfl)
theorem dX5_scored_73 : decode cX5_scored 73 = .ok (.if_icmp .ge 7, 3) := dk_162 0 7 (dk_at dksX5_scored_3 6 rfl rfl)
theorem dX5_scored_76 : decode cX5_scored 76 = .ok (.iconst 1, 1) := dk_4 (dk_at dksX5_scored_3 9 rfl rfl)
theorem dX5_scored_77 : decode cX5_scored 77 = .ok (.goto 4, 3) := dk_167 0 4 (dk_at dksX5_scored_3 10 rfl rfl)
theorem dX5_scored_80 : decode cX5_scored 80 = .ok (.iconst 0, 1) := dk_3 (dk_at dksX5_scored_3 13 rfl rfl)
theorem dX5_scored_81 : decode cX5_scored 81 = .ok (.iadd, 1) := dk_96 (dk_at dksX5_scored_3 14 rfl rfl)
theorem dX5_scored_82 : decode cX5_scored 82 = .ok (.istore_n 3, 1) := dk_62 (dk_at dksX5_scored_3 15 rfl rfl)
theorem dX5_scored_83 : decode cX5_scored 83 = .ok (.iinc 4 1, 3) := dk_132 4 1 (dk_at dksX5_scored_3 16 rfl rfl)
theorem dX5_scored_86 : decode cX5_scored 86 = .ok (.goto (-67), 3) := dk_167 255 189 (dk_at dksX5_scored_3 19 rfl rfl)
theorem dX5_scored_89 : decode cX5_scored 89 = .ok (.aload_n 0, 1) := dk_42 (dk_at dksX5_scored_3 22 rfl rfl)
theorem dX5_scored_90 : decode cX5_scored 90 = .ok (.iload_n 2, 1) := dk_28 (dk_at dksX5_scored_3 23 rfl rfl)
theorem dX5_scored_91 : decode cX5_scored 91 = .ok (.invokevirtual 57, 3) := dk_182 0 57 (dk_at dksX5_scored_4 0 rfl rfl)
theorem dX5_scored_94 : decode cX5_scored 94 = .ok (.ifCond .eq 10, 3) := dk_153 0 10 (dk_at dksX5_scored_4 3 rfl rfl)
theorem dX5_scored_97 : decode cX5_scored 97 = .ok (.iload_n 3, 1) := dk_29 (dk_at dksX5_scored_4 6 rfl rfl)
theorem dX5_scored_98 : decode cX5_scored 98 = .ok (.iload_n 1, 1) := dk_27 (dk_at dksX5_scored_4 7 rfl rfl)
theorem dX5_scored_99 : decode cX5_scored 99 = .ok (.if_icmp .ne 5, 3) := dk_160 0 5 (dk_at dksX5_scored_4 8 rfl rfl)
theorem dX5_scored_102 : decode cX5_scored 102 = .ok (.iload_n 2, 1) := dk_28 (dk_at dksX5_scored_4 11 rfl rfl)
theorem dX5_scored_103 : decode cX5_scored 103 = .ok (.ireturn, 1) := dk_172 (dk_at dksX5_scored_4 12 rfl rfl)
theorem dX5_scored_104 : decode cX5_scored 104 = .ok (.iinc 2 1, 3) := dk_132 2 1 (dk_at dksX5_scored_4 13 rfl rfl)
theorem dX5_scored_107 : decode cX5_scored 107 = .ok (.goto (-105), 3) := dk_167 255 151 (dk_at dksX5_scored_4 16 rfl rfl)
theorem dX5_scored_110 : decode cX5_scored 110 = .ok (.iconst (-1), 1) := dk_2 (dk_at dksX5_scored_4 19 rfl rfl)
theorem dX5_scored_111 : decode cX5_scored 111 = .ok (.ireturn, 1) := dk_172 (dk_at dksX5_scored_4 20 rfl rfl)
abbrev cX5_reachByPairs : ByteArray := prog_10_method_97_code
def yX5_reachByPairs : MethodName := ⟨RX5, "reachByPairs", "(II)I"⟩
def dkwX5_reachByPairs_2 : List UInt8 := [42, 180, 0, 38, 153, 0, 7, 3, 167, 0, 9, 42, 27, 28, 182, 0, 214, 172]
abbrev dktX5_reachByPairs_2 : List UInt8 := dkwX5_reachByPairs_2 ++ []
def dkwX5_reachByPairs_1 : List UInt8 := [42, 27, 182, 0, 49, 153, 0, 11, 42, 28, 182, 0, 49, 154, 0, 7, 5, 167, 0, 4, 3, 181, 0, 38]
abbrev dktX5_reachByPairs_1 : List UInt8 := dkwX5_reachByPairs_1 ++ dktX5_reachByPairs_2
def dkwX5_reachByPairs_0 : List UInt8 := [42, 27, 184, 0, 112, 154, 0, 10, 28, 184, 0, 112, 153, 0, 7, 4, 167, 0, 29, 27, 28, 159, 0, 19]
abbrev dktX5_reachByPairs_0 : List UInt8 := dkwX5_reachByPairs_0 ++ dktX5_reachByPairs_1
theorem dksX5_reachByPairs_0 : cX5_reachByPairs.data.toList.drop 0 = dktX5_reachByPairs_0 := by decide +kernel
theorem dksX5_reachByPairs_1 : cX5_reachByPairs.data.toList.drop 24 = dktX5_reachByPairs_1 := dk_seg dksX5_reachByPairs_0 24 rfl rfl
theorem dksX5_reachByPairs_2 : cX5_reachByPairs.data.toList.drop 48 = dktX5_reachByPairs_2 := dk_seg dksX5_reachByPairs_1 24 rfl rfl
theorem dX5_reachByPairs_0 : decode cX5_reachByPairs 0 = .ok (.aload_n 0, 1) := dk_42 (dk_at dksX5_reachByPairs_0 0 rfl rfl)
theorem dX5_reachByPairs_1 : decode cX5_reachByPairs 1 = .ok (.iload_n 1, 1) := dk_27 (dk_at dksX5_reachByPairs_0 1 rfl rfl)
theorem dX5_reachByPairs_2 : decode cX5_reachByPairs 2 = .ok (.invokestatic 112, 3) := dk_184 0 112 (dk_at dksX5_reachByPairs_0 2 rfl rfl)
theorem dX5_reachByPairs_5 : decode cX5_reachByPairs 5 = .ok (.ifCond .ne 10, 3) := dk_154 0 10 (dk_at dksX5_reachByPairs_0 5 rfl rfl)
theorem dX5_reachByPairs_8 : decode cX5_reachByPairs 8 = .ok (.iload_n 2, 1) := dk_28 (dk_at dksX5_reachByPairs_0 8 rfl rfl)
theorem dX5_reachByPairs_9 : decode cX5_reachByPairs 9 = .ok (.invokestatic 112, 3) := dk_184 0 112 (dk_at dksX5_reachByPairs_0 9 rfl rfl)
theorem dX5_reachByPairs_12 : decode cX5_reachByPairs 12 = .ok (.ifCond .eq 7, 3) := dk_153 0 7 (dk_at dksX5_reachByPairs_0 12 rfl rfl)
theorem dX5_reachByPairs_15 : decode cX5_reachByPairs 15 = .ok (.iconst 1, 1) := dk_4 (dk_at dksX5_reachByPairs_0 15 rfl rfl)
theorem dX5_reachByPairs_16 : decode cX5_reachByPairs 16 = .ok (.goto 29, 3) := dk_167 0 29 (dk_at dksX5_reachByPairs_0 16 rfl rfl)
theorem dX5_reachByPairs_19 : decode cX5_reachByPairs 19 = .ok (.iload_n 1, 1) := dk_27 (dk_at dksX5_reachByPairs_0 19 rfl rfl)
theorem dX5_reachByPairs_20 : decode cX5_reachByPairs 20 = .ok (.iload_n 2, 1) := dk_28 (dk_at dksX5_reachByPairs_0 20 rfl rfl)
theorem dX5_reachByPairs_21 : decode cX5_reachByPairs 21 = .ok (.if_icmp .eq 19, 3) := dk_159 0 19 (dk_at dksX5_reachByPairs_0 21 rfl rfl)
theorem dX5_reachByPairs_24 : decode cX5_reachByPairs 24 = .ok (.aload_n 0, 1) := dk_42 (dk_at dksX5_reachByPairs_1 0 rfl rfl)
theorem dX5_reachByPairs_25 : decode cX5_reachByPairs 25 = .ok (.iload_n 1, 1) := dk_27 (dk_at dksX5_reachByPairs_1 1 rfl rfl)
theorem dX5_reachByPairs_26 : decode cX5_reachByPairs 26 = .ok (.invokevirtual 49, 3) := dk_182 0 49 (dk_at dksX5_reachByPairs_1 2 rfl rfl)
theorem dX5_reachByPairs_29 : decode cX5_reachByPairs 29 = .ok (.ifCond .eq 11, 3) := dk_153 0 11 (dk_at dksX5_reachByPairs_1 5 rfl rfl)
theorem dX5_reachByPairs_32 : decode cX5_reachByPairs 32 = .ok (.aload_n 0, 1) := dk_42 (dk_at dksX5_reachByPairs_1 8 rfl rfl)
theorem dX5_reachByPairs_33 : decode cX5_reachByPairs 33 = .ok (.iload_n 2, 1) := dk_28 (dk_at dksX5_reachByPairs_1 9 rfl rfl)
theorem dX5_reachByPairs_34 : decode cX5_reachByPairs 34 = .ok (.invokevirtual 49, 3) := dk_182 0 49 (dk_at dksX5_reachByPairs_1 10 rfl rfl)
theorem dX5_reachByPairs_37 : decode cX5_reachByPairs 37 = .ok (.ifCond .ne 7, 3) := dk_154 0 7 (dk_at dksX5_reachByPairs_1 13 rfl rfl)
theorem dX5_reachByPairs_40 : decode cX5_reachByPairs 40 = .ok (.iconst 2, 1) := dk_5 (dk_at dksX5_reachByPairs_1 16 rfl rfl)
theorem dX5_reachByPairs_41 : decode cX5_reachByPairs 41 = .ok (.goto 4, 3) := dk_167 0 4 (dk_at dksX5_reachByPairs_1 17 rfl rfl)
theorem dX5_reachByPairs_44 : decode cX5_reachByPairs 44 = .ok (.iconst 0, 1) := dk_3 (dk_at dksX5_reachByPairs_1 20 rfl rfl)
theorem dX5_reachByPairs_45 : decode cX5_reachByPairs 45 = .ok (.putfield 38, 3) := dk_181 0 38 (dk_at dksX5_reachByPairs_1 21 rfl rfl)
theorem dX5_reachByPairs_48 : decode cX5_reachByPairs 48 = .ok (.aload_n 0, 1) := dk_42 (dk_at dksX5_reachByPairs_2 0 rfl rfl)
theorem dX5_reachByPairs_49 : decode cX5_reachByPairs 49 = .ok (.getfield 38, 3) := dk_180 0 38 (dk_at dksX5_reachByPairs_2 1 rfl rfl)
theorem dX5_reachByPairs_52 : decode cX5_reachByPairs 52 = .ok (.ifCond .eq 7, 3) := dk_153 0 7 (dk_at dksX5_reachByPairs_2 4 rfl rfl)
theorem dX5_reachByPairs_55 : decode cX5_reachByPairs 55 = .ok (.iconst 0, 1) := dk_3 (dk_at dksX5_reachByPairs_2 7 rfl rfl)
theorem dX5_reachByPairs_56 : decode cX5_reachByPairs 56 = .ok (.goto 9, 3) := dk_167 0 9 (dk_at dksX5_reachByPairs_2 8 rfl rfl)
theorem dX5_reachByPairs_59 : decode cX5_reachByPairs 59 = .ok (.aload_n 0, 1) := dk_42 (dk_at dksX5_reachByPairs_2 11 rfl rfl)
theorem dX5_reachByPairs_60 : decode cX5_reachByPairs 60 = .ok (.iload_n 1, 1) := dk_27 (dk_at dksX5_reachByPairs_2 12 rfl rfl)
theorem dX5_reachByPairs_61 : decode cX5_reachByPairs 61 = .ok (.iload_n 2, 1) := dk_28 (dk_at dksX5_reachByPairs_2 13 rfl rfl)
theorem dX5_reachByPairs_62 : decode cX5_reachByPairs 62 = .ok (.invokevirtual 214, 3) := dk_182 0 214 (dk_at dksX5_reachByPairs_2 14 rfl rfl)
theorem dX5_reachByPairs_65 : decode cX5_reachByPairs 65 = .ok (.ireturn, 1) := dk_172 (dk_at dksX5_reachByPairs_2 17 rfl rfl)
abbrev cX5_reached : ByteArray := prog_10_method_27_code
def yX5_reached : MethodName := ⟨RX5, "reached", "(II)I"⟩
def dkwX5_reached_4 : List UInt8 := [167, 255, 167, 29, 172]
abbrev dktX5_reached_4 : List UInt8 := dkwX5_reached_4 ++ []
def dkwX5_reached_3 : List UInt8 := [167, 0, 5, 21, 5, 54, 5, 132, 6, 1, 167, 255, 193, 29, 21, 5, 4, 96, 96, 62, 132, 4, 1]
abbrev dktX5_reached_3 : List UInt8 := dkwX5_reached_3 ++ dktX5_reached_4
def dkwX5_reached_2 : List UInt8 := [21, 4, 161, 0, 25, 42, 21, 6, 28, 182, 0, 60, 21, 5, 164, 0, 13, 42, 21, 6, 28, 182, 0, 60]
abbrev dktX5_reached_2 : List UInt8 := dkwX5_reached_2 ++ dktX5_reached_3
def dkwX5_reached_1 : List UInt8 := [17, 0, 160, 46, 162, 0, 56, 42, 21, 6, 182, 0, 57, 153, 0, 37, 42, 21, 6, 27, 182, 0, 60]
abbrev dktX5_reached_1 : List UInt8 := dkwX5_reached_1 ++ dktX5_reached_2
def dkwX5_reached_0 : List UInt8 := [3, 62, 3, 54, 4, 21, 4, 16, 100, 162, 0, 88, 2, 54, 5, 3, 54, 6, 21, 6, 42, 180, 0, 7]
abbrev dktX5_reached_0 : List UInt8 := dkwX5_reached_0 ++ dktX5_reached_1
theorem dksX5_reached_0 : cX5_reached.data.toList.drop 0 = dktX5_reached_0 := by decide +kernel
theorem dksX5_reached_1 : cX5_reached.data.toList.drop 24 = dktX5_reached_1 := dk_seg dksX5_reached_0 24 rfl rfl
theorem dksX5_reached_2 : cX5_reached.data.toList.drop 47 = dktX5_reached_2 := dk_seg dksX5_reached_1 23 rfl rfl
theorem dksX5_reached_3 : cX5_reached.data.toList.drop 71 = dktX5_reached_3 := dk_seg dksX5_reached_2 24 rfl rfl
theorem dksX5_reached_4 : cX5_reached.data.toList.drop 94 = dktX5_reached_4 := dk_seg dksX5_reached_3 23 rfl rfl
theorem dX5_reached_0 : decode cX5_reached 0 = .ok (.iconst 0, 1) := dk_3 (dk_at dksX5_reached_0 0 rfl rfl)
theorem dX5_reached_1 : decode cX5_reached 1 = .ok (.istore_n 3, 1) := dk_62 (dk_at dksX5_reached_0 1 rfl rfl)
theorem dX5_reached_2 : decode cX5_reached 2 = .ok (.iconst 0, 1) := dk_3 (dk_at dksX5_reached_0 2 rfl rfl)
theorem dX5_reached_3 : decode cX5_reached 3 = .ok (.istore 4, 2) := dk_54 4 (dk_at dksX5_reached_0 3 rfl rfl)
theorem dX5_reached_5 : decode cX5_reached 5 = .ok (.iload 4, 2) := dk_21 4 (dk_at dksX5_reached_0 5 rfl rfl)
theorem dX5_reached_7 : decode cX5_reached 7 = .ok (.bipush 100, 2) := dk_16 100 (dk_at dksX5_reached_0 7 rfl rfl)
theorem dX5_reached_9 : decode cX5_reached 9 = .ok (.if_icmp .ge 88, 3) := dk_162 0 88 (dk_at dksX5_reached_0 9 rfl rfl)
theorem dX5_reached_12 : decode cX5_reached 12 = .ok (.iconst (-1), 1) := dk_2 (dk_at dksX5_reached_0 12 rfl rfl)
theorem dX5_reached_13 : decode cX5_reached 13 = .ok (.istore 5, 2) := dk_54 5 (dk_at dksX5_reached_0 13 rfl rfl)
theorem dX5_reached_15 : decode cX5_reached 15 = .ok (.iconst 0, 1) := dk_3 (dk_at dksX5_reached_0 15 rfl rfl)
theorem dX5_reached_16 : decode cX5_reached 16 = .ok (.istore 6, 2) := dk_54 6 (dk_at dksX5_reached_0 16 rfl rfl)
theorem dX5_reached_18 : decode cX5_reached 18 = .ok (.iload 6, 2) := dk_21 6 (dk_at dksX5_reached_0 18 rfl rfl)
theorem dX5_reached_20 : decode cX5_reached 20 = .ok (.aload_n 0, 1) := dk_42 (dk_at dksX5_reached_0 20 rfl rfl)
theorem dX5_reached_21 : decode cX5_reached 21 = .ok (.getfield 7, 3) := dk_180 0 7 (dk_at dksX5_reached_0 21 rfl rfl)
theorem dX5_reached_24 : decode cX5_reached 24 = .ok (.sipush 160, 3) := dk_17 0 160 (dk_at dksX5_reached_1 0 rfl rfl)
theorem dX5_reached_27 : decode cX5_reached 27 = .ok (.iaload, 1) := dk_46 (dk_at dksX5_reached_1 3 rfl rfl)
theorem dX5_reached_28 : decode cX5_reached 28 = .ok (.if_icmp .ge 56, 3) := dk_162 0 56 (dk_at dksX5_reached_1 4 rfl rfl)
theorem dX5_reached_31 : decode cX5_reached 31 = .ok (.aload_n 0, 1) := dk_42 (dk_at dksX5_reached_1 7 rfl rfl)
theorem dX5_reached_32 : decode cX5_reached 32 = .ok (.iload 6, 2) := dk_21 6 (dk_at dksX5_reached_1 8 rfl rfl)
theorem dX5_reached_34 : decode cX5_reached 34 = .ok (.invokevirtual 57, 3) := dk_182 0 57 (dk_at dksX5_reached_1 10 rfl rfl)
theorem dX5_reached_37 : decode cX5_reached 37 = .ok (.ifCond .eq 37, 3) := dk_153 0 37 (dk_at dksX5_reached_1 13 rfl rfl)
theorem dX5_reached_40 : decode cX5_reached 40 = .ok (.aload_n 0, 1) := dk_42 (dk_at dksX5_reached_1 16 rfl rfl)
theorem dX5_reached_41 : decode cX5_reached 41 = .ok (.iload 6, 2) := dk_21 6 (dk_at dksX5_reached_1 17 rfl rfl)
theorem dX5_reached_43 : decode cX5_reached 43 = .ok (.iload_n 1, 1) := dk_27 (dk_at dksX5_reached_1 19 rfl rfl)
theorem dX5_reached_44 : decode cX5_reached 44 = .ok (.invokevirtual 60, 3) := dk_182 0 60 (dk_at dksX5_reached_1 20 rfl rfl)
theorem dX5_reached_47 : decode cX5_reached 47 = .ok (.iload 4, 2) := dk_21 4 (dk_at dksX5_reached_2 0 rfl rfl)
theorem dX5_reached_49 : decode cX5_reached 49 = .ok (.if_icmp .lt 25, 3) := dk_161 0 25 (dk_at dksX5_reached_2 2 rfl rfl)
theorem dX5_reached_52 : decode cX5_reached 52 = .ok (.aload_n 0, 1) := dk_42 (dk_at dksX5_reached_2 5 rfl rfl)
theorem dX5_reached_53 : decode cX5_reached 53 = .ok (.iload 6, 2) := dk_21 6 (dk_at dksX5_reached_2 6 rfl rfl)
theorem dX5_reached_55 : decode cX5_reached 55 = .ok (.iload_n 2, 1) := dk_28 (dk_at dksX5_reached_2 8 rfl rfl)
theorem dX5_reached_56 : decode cX5_reached 56 = .ok (.invokevirtual 60, 3) := dk_182 0 60 (dk_at dksX5_reached_2 9 rfl rfl)
theorem dX5_reached_59 : decode cX5_reached 59 = .ok (.iload 5, 2) := dk_21 5 (dk_at dksX5_reached_2 12 rfl rfl)
theorem dX5_reached_61 : decode cX5_reached 61 = .ok (.if_icmp .le 13, 3) := dk_164 0 13 (dk_at dksX5_reached_2 14 rfl rfl)
theorem dX5_reached_64 : decode cX5_reached 64 = .ok (.aload_n 0, 1) := dk_42 (dk_at dksX5_reached_2 17 rfl rfl)
theorem dX5_reached_65 : decode cX5_reached 65 = .ok (.iload 6, 2) := dk_21 6 (dk_at dksX5_reached_2 18 rfl rfl)
theorem dX5_reached_67 : decode cX5_reached 67 = .ok (.iload_n 2, 1) := dk_28 (dk_at dksX5_reached_2 20 rfl rfl)
theorem dX5_reached_68 : decode cX5_reached 68 = .ok (.invokevirtual 60, 3) := dk_182 0 60 (dk_at dksX5_reached_2 21 rfl rfl)
theorem dX5_reached_71 : decode cX5_reached 71 = .ok (.goto 5, 3) := dk_167 0 5 (dk_at dksX5_reached_3 0 rfl rfl)
theorem dX5_reached_74 : decode cX5_reached 74 = .ok (.iload 5, 2) := dk_21 5 (dk_at dksX5_reached_3 3 rfl rfl)
theorem dX5_reached_76 : decode cX5_reached 76 = .ok (.istore 5, 2) := dk_54 5 (dk_at dksX5_reached_3 5 rfl rfl)
theorem dX5_reached_78 : decode cX5_reached 78 = .ok (.iinc 6 1, 3) := dk_132 6 1 (dk_at dksX5_reached_3 7 rfl rfl)
theorem dX5_reached_81 : decode cX5_reached 81 = .ok (.goto (-63), 3) := dk_167 255 193 (dk_at dksX5_reached_3 10 rfl rfl)
theorem dX5_reached_84 : decode cX5_reached 84 = .ok (.iload_n 3, 1) := dk_29 (dk_at dksX5_reached_3 13 rfl rfl)
theorem dX5_reached_85 : decode cX5_reached 85 = .ok (.iload 5, 2) := dk_21 5 (dk_at dksX5_reached_3 14 rfl rfl)
theorem dX5_reached_87 : decode cX5_reached 87 = .ok (.iconst 1, 1) := dk_4 (dk_at dksX5_reached_3 16 rfl rfl)
theorem dX5_reached_88 : decode cX5_reached 88 = .ok (.iadd, 1) := dk_96 (dk_at dksX5_reached_3 17 rfl rfl)
theorem dX5_reached_89 : decode cX5_reached 89 = .ok (.iadd, 1) := dk_96 (dk_at dksX5_reached_3 18 rfl rfl)
theorem dX5_reached_90 : decode cX5_reached 90 = .ok (.istore_n 3, 1) := dk_62 (dk_at dksX5_reached_3 19 rfl rfl)
theorem dX5_reached_91 : decode cX5_reached 91 = .ok (.iinc 4 1, 3) := dk_132 4 1 (dk_at dksX5_reached_3 20 rfl rfl)
theorem dX5_reached_94 : decode cX5_reached 94 = .ok (.goto (-89), 3) := dk_167 255 167 (dk_at dksX5_reached_4 0 rfl rfl)
theorem dX5_reached_97 : decode cX5_reached 97 = .ok (.iload_n 3, 1) := dk_29 (dk_at dksX5_reached_4 3 rfl rfl)
theorem dX5_reached_98 : decode cX5_reached 98 = .ok (.ireturn, 1) := dk_172 (dk_at dksX5_reached_4 4 rfl rfl)
abbrev cX5_reachBySteps : ByteArray := prog_10_method_98_code
def yX5_reachBySteps : MethodName := ⟨RX5, "reachBySteps", "(II)I"⟩
def dkwX5_reachBySteps_0 : List UInt8 := [42, 27, 28, 182, 0, 217, 172]
abbrev dktX5_reachBySteps_0 : List UInt8 := dkwX5_reachBySteps_0 ++ []
theorem dksX5_reachBySteps_0 : cX5_reachBySteps.data.toList.drop 0 = dktX5_reachBySteps_0 := by decide +kernel
theorem dX5_reachBySteps_0 : decode cX5_reachBySteps 0 = .ok (.aload_n 0, 1) := dk_42 (dk_at dksX5_reachBySteps_0 0 rfl rfl)
theorem dX5_reachBySteps_1 : decode cX5_reachBySteps 1 = .ok (.iload_n 1, 1) := dk_27 (dk_at dksX5_reachBySteps_0 1 rfl rfl)
theorem dX5_reachBySteps_2 : decode cX5_reachBySteps 2 = .ok (.iload_n 2, 1) := dk_28 (dk_at dksX5_reachBySteps_0 2 rfl rfl)
theorem dX5_reachBySteps_3 : decode cX5_reachBySteps 3 = .ok (.invokevirtual 217, 3) := dk_182 0 217 (dk_at dksX5_reachBySteps_0 3 rfl rfl)
theorem dX5_reachBySteps_6 : decode cX5_reachBySteps 6 = .ok (.ireturn, 1) := dk_172 (dk_at dksX5_reachBySteps_0 6 rfl rfl)
abbrev cX5_added : ByteArray := prog_10_method_99_code
def yX5_added : MethodName := ⟨RX5, "added", "()I"⟩
def dkwX5_added_0 : List UInt8 := [42, 3, 181, 0, 38, 42, 180, 0, 7, 17, 0, 177, 46, 172]
abbrev dktX5_added_0 : List UInt8 := dkwX5_added_0 ++ []
theorem dksX5_added_0 : cX5_added.data.toList.drop 0 = dktX5_added_0 := by decide +kernel
theorem dX5_added_0 : decode cX5_added 0 = .ok (.aload_n 0, 1) := dk_42 (dk_at dksX5_added_0 0 rfl rfl)
theorem dX5_added_1 : decode cX5_added 1 = .ok (.iconst 0, 1) := dk_3 (dk_at dksX5_added_0 1 rfl rfl)
theorem dX5_added_2 : decode cX5_added 2 = .ok (.putfield 38, 3) := dk_181 0 38 (dk_at dksX5_added_0 2 rfl rfl)
theorem dX5_added_5 : decode cX5_added 5 = .ok (.aload_n 0, 1) := dk_42 (dk_at dksX5_added_0 5 rfl rfl)
theorem dX5_added_6 : decode cX5_added 6 = .ok (.getfield 7, 3) := dk_180 0 7 (dk_at dksX5_added_0 6 rfl rfl)
theorem dX5_added_9 : decode cX5_added 9 = .ok (.sipush 177, 3) := dk_17 0 177 (dk_at dksX5_added_0 9 rfl rfl)
theorem dX5_added_12 : decode cX5_added 12 = .ok (.iaload, 1) := dk_46 (dk_at dksX5_added_0 12 rfl rfl)
theorem dX5_added_13 : decode cX5_added 13 = .ok (.ireturn, 1) := dk_172 (dk_at dksX5_added_0 13 rfl rfl)
abbrev cX5_removed : ByteArray := prog_10_method_100_code
def yX5_removed : MethodName := ⟨RX5, "removed", "()I"⟩
def dkwX5_removed_0 : List UInt8 := [42, 3, 181, 0, 38, 42, 180, 0, 7, 17, 0, 178, 46, 172]
abbrev dktX5_removed_0 : List UInt8 := dkwX5_removed_0 ++ []
theorem dksX5_removed_0 : cX5_removed.data.toList.drop 0 = dktX5_removed_0 := by decide +kernel
theorem dX5_removed_0 : decode cX5_removed 0 = .ok (.aload_n 0, 1) := dk_42 (dk_at dksX5_removed_0 0 rfl rfl)
theorem dX5_removed_1 : decode cX5_removed 1 = .ok (.iconst 0, 1) := dk_3 (dk_at dksX5_removed_0 1 rfl rfl)
theorem dX5_removed_2 : decode cX5_removed 2 = .ok (.putfield 38, 3) := dk_181 0 38 (dk_at dksX5_removed_0 2 rfl rfl)
theorem dX5_removed_5 : decode cX5_removed 5 = .ok (.aload_n 0, 1) := dk_42 (dk_at dksX5_removed_0 5 rfl rfl)
theorem dX5_removed_6 : decode cX5_removed 6 = .ok (.getfield 7, 3) := dk_180 0 7 (dk_at dksX5_removed_0 6 rfl rfl)
theorem dX5_removed_9 : decode cX5_removed 9 = .ok (.sipush 178, 3) := dk_17 0 178 (dk_at dksX5_removed_0 9 rfl rfl)
theorem dX5_removed_12 : decode cX5_removed 12 = .ok (.iaload, 1) := dk_46 (dk_at dksX5_removed_0 12 rfl rfl)
theorem dX5_removed_13 : decode cX5_removed 13 = .ok (.ireturn, 1) := dk_172 (dk_at dksX5_removed_0 13 rfl rfl)
abbrev cX5_beatings : ByteArray := prog_10_method_102_code
def yX5_beatings : MethodName := ⟨RX5, "beatings", "()I"⟩
def dkwX5_beatings_0 : List UInt8 := [42, 3, 181, 0, 38, 42, 182, 0, 220, 172]
abbrev dktX5_beatings_0 : List UInt8 := dkwX5_beatings_0 ++ []
theorem dksX5_beatings_0 : cX5_beatings.data.toList.drop 0 = dktX5_beatings_0 := by decide +kernel
theorem dX5_beatings_0 : decode cX5_beatings 0 = .ok (.aload_n 0, 1) := dk_42 (dk_at dksX5_beatings_0 0 rfl rfl)
theorem dX5_beatings_1 : decode cX5_beatings 1 = .ok (.iconst 0, 1) := dk_3 (dk_at dksX5_beatings_0 1 rfl rfl)
theorem dX5_beatings_2 : decode cX5_beatings 2 = .ok (.putfield 38, 3) := dk_181 0 38 (dk_at dksX5_beatings_0 2 rfl rfl)
theorem dX5_beatings_5 : decode cX5_beatings 5 = .ok (.aload_n 0, 1) := dk_42 (dk_at dksX5_beatings_0 5 rfl rfl)
theorem dX5_beatings_6 : decode cX5_beatings 6 = .ok (.invokevirtual 220, 3) := dk_182 0 220 (dk_at dksX5_beatings_0 6 rfl rfl)
theorem dX5_beatings_9 : decode cX5_beatings 9 = .ok (.ireturn, 1) := dk_172 (dk_at dksX5_beatings_0 9 rfl rfl)
abbrev cX5_allBeatings : ByteArray := prog_10_method_101_code
def yX5_allBeatings : MethodName := ⟨RX5, "allBeatings", "()I"⟩
def dkwX5_allBeatings_1 : List UInt8 := [132, 2, 1, 167, 255, 233, 27, 172]
abbrev dktX5_allBeatings_1 : List UInt8 := dkwX5_allBeatings_1 ++ []
def dkwX5_allBeatings_0 : List UInt8 := [3, 60, 3, 61, 28, 42, 180, 0, 7, 17, 0, 160, 46, 162, 0, 17, 27, 42, 28, 182, 0, 168, 96, 60]
abbrev dktX5_allBeatings_0 : List UInt8 := dkwX5_allBeatings_0 ++ dktX5_allBeatings_1
theorem dksX5_allBeatings_0 : cX5_allBeatings.data.toList.drop 0 = dktX5_allBeatings_0 := by decide +kernel
theorem dksX5_allBeatings_1 : cX5_allBeatings.data.toList.drop 24 = dktX5_allBeatings_1 := dk_seg dksX5_allBeatings_0 24 rfl rfl
theorem dX5_allBeatings_0 : decode cX5_allBeatings 0 = .ok (.iconst 0, 1) := dk_3 (dk_at dksX5_allBeatings_0 0 rfl rfl)
theorem dX5_allBeatings_1 : decode cX5_allBeatings 1 = .ok (.istore_n 1, 1) := dk_60 (dk_at dksX5_allBeatings_0 1 rfl rfl)
theorem dX5_allBeatings_2 : decode cX5_allBeatings 2 = .ok (.iconst 0, 1) := dk_3 (dk_at dksX5_allBeatings_0 2 rfl rfl)
theorem dX5_allBeatings_3 : decode cX5_allBeatings 3 = .ok (.istore_n 2, 1) := dk_61 (dk_at dksX5_allBeatings_0 3 rfl rfl)
theorem dX5_allBeatings_4 : decode cX5_allBeatings 4 = .ok (.iload_n 2, 1) := dk_28 (dk_at dksX5_allBeatings_0 4 rfl rfl)
theorem dX5_allBeatings_5 : decode cX5_allBeatings 5 = .ok (.aload_n 0, 1) := dk_42 (dk_at dksX5_allBeatings_0 5 rfl rfl)
theorem dX5_allBeatings_6 : decode cX5_allBeatings 6 = .ok (.getfield 7, 3) := dk_180 0 7 (dk_at dksX5_allBeatings_0 6 rfl rfl)
theorem dX5_allBeatings_9 : decode cX5_allBeatings 9 = .ok (.sipush 160, 3) := dk_17 0 160 (dk_at dksX5_allBeatings_0 9 rfl rfl)
theorem dX5_allBeatings_12 : decode cX5_allBeatings 12 = .ok (.iaload, 1) := dk_46 (dk_at dksX5_allBeatings_0 12 rfl rfl)
theorem dX5_allBeatings_13 : decode cX5_allBeatings 13 = .ok (.if_icmp .ge 17, 3) := dk_162 0 17 (dk_at dksX5_allBeatings_0 13 rfl rfl)
theorem dX5_allBeatings_16 : decode cX5_allBeatings 16 = .ok (.iload_n 1, 1) := dk_27 (dk_at dksX5_allBeatings_0 16 rfl rfl)
theorem dX5_allBeatings_17 : decode cX5_allBeatings 17 = .ok (.aload_n 0, 1) := dk_42 (dk_at dksX5_allBeatings_0 17 rfl rfl)
theorem dX5_allBeatings_18 : decode cX5_allBeatings 18 = .ok (.iload_n 2, 1) := dk_28 (dk_at dksX5_allBeatings_0 18 rfl rfl)
theorem dX5_allBeatings_19 : decode cX5_allBeatings 19 = .ok (.invokevirtual 168, 3) := dk_182 0 168 (dk_at dksX5_allBeatings_0 19 rfl rfl)
theorem dX5_allBeatings_22 : decode cX5_allBeatings 22 = .ok (.iadd, 1) := dk_96 (dk_at dksX5_allBeatings_0 22 rfl rfl)
theorem dX5_allBeatings_23 : decode cX5_allBeatings 23 = .ok (.istore_n 1, 1) := dk_60 (dk_at dksX5_allBeatings_0 23 rfl rfl)
theorem dX5_allBeatings_24 : decode cX5_allBeatings 24 = .ok (.iinc 2 1, 3) := dk_132 2 1 (dk_at dksX5_allBeatings_1 0 rfl rfl)
theorem dX5_allBeatings_27 : decode cX5_allBeatings 27 = .ok (.goto (-23), 3) := dk_167 255 233 (dk_at dksX5_allBeatings_1 3 rfl rfl)
theorem dX5_allBeatings_30 : decode cX5_allBeatings 30 = .ok (.iload_n 1, 1) := dk_27 (dk_at dksX5_allBeatings_1 6 rfl rfl)
theorem dX5_allBeatings_31 : decode cX5_allBeatings 31 = .ok (.ireturn, 1) := dk_172 (dk_at dksX5_allBeatings_1 7 rfl rfl)
abbrev cX5_toldShare : ByteArray := prog_10_method_103_code
def yX5_toldShare : MethodName := ⟨RX5, "toldShare", "()D"⟩
def dkwX5_toldShare_1 : List UInt8 := [182, 0, 78, 135, 27, 135, 111, 175]
abbrev dktX5_toldShare_1 : List UInt8 := dkwX5_toldShare_1 ++ []
def dkwX5_toldShare_0 : List UInt8 := [42, 3, 181, 0, 38, 42, 182, 0, 115, 60, 27, 154, 0, 7, 14, 167, 0, 15, 42, 42, 182, 0, 67]
abbrev dktX5_toldShare_0 : List UInt8 := dkwX5_toldShare_0 ++ dktX5_toldShare_1
theorem dksX5_toldShare_0 : cX5_toldShare.data.toList.drop 0 = dktX5_toldShare_0 := by decide +kernel
theorem dksX5_toldShare_1 : cX5_toldShare.data.toList.drop 23 = dktX5_toldShare_1 := dk_seg dksX5_toldShare_0 23 rfl rfl
theorem dX5_toldShare_0 : decode cX5_toldShare 0 = .ok (.aload_n 0, 1) := dk_42 (dk_at dksX5_toldShare_0 0 rfl rfl)
theorem dX5_toldShare_1 : decode cX5_toldShare 1 = .ok (.iconst 0, 1) := dk_3 (dk_at dksX5_toldShare_0 1 rfl rfl)
theorem dX5_toldShare_2 : decode cX5_toldShare 2 = .ok (.putfield 38, 3) := dk_181 0 38 (dk_at dksX5_toldShare_0 2 rfl rfl)
theorem dX5_toldShare_5 : decode cX5_toldShare 5 = .ok (.aload_n 0, 1) := dk_42 (dk_at dksX5_toldShare_0 5 rfl rfl)
theorem dX5_toldShare_6 : decode cX5_toldShare 6 = .ok (.invokevirtual 115, 3) := dk_182 0 115 (dk_at dksX5_toldShare_0 6 rfl rfl)
theorem dX5_toldShare_9 : decode cX5_toldShare 9 = .ok (.istore_n 1, 1) := dk_60 (dk_at dksX5_toldShare_0 9 rfl rfl)
theorem dX5_toldShare_10 : decode cX5_toldShare 10 = .ok (.iload_n 1, 1) := dk_27 (dk_at dksX5_toldShare_0 10 rfl rfl)
theorem dX5_toldShare_11 : decode cX5_toldShare 11 = .ok (.ifCond .ne 7, 3) := dk_154 0 7 (dk_at dksX5_toldShare_0 11 rfl rfl)
theorem dX5_toldShare_14 : decode cX5_toldShare 14 = .ok (.dconst 0, 1) := dk_14 (dk_at dksX5_toldShare_0 14 rfl rfl)
theorem dX5_toldShare_15 : decode cX5_toldShare 15 = .ok (.goto 15, 3) := dk_167 0 15 (dk_at dksX5_toldShare_0 15 rfl rfl)
theorem dX5_toldShare_18 : decode cX5_toldShare 18 = .ok (.aload_n 0, 1) := dk_42 (dk_at dksX5_toldShare_0 18 rfl rfl)
theorem dX5_toldShare_19 : decode cX5_toldShare 19 = .ok (.aload_n 0, 1) := dk_42 (dk_at dksX5_toldShare_0 19 rfl rfl)
theorem dX5_toldShare_20 : decode cX5_toldShare 20 = .ok (.invokevirtual 67, 3) := dk_182 0 67 (dk_at dksX5_toldShare_0 20 rfl rfl)
theorem dX5_toldShare_23 : decode cX5_toldShare 23 = .ok (.invokevirtual 78, 3) := dk_182 0 78 (dk_at dksX5_toldShare_1 0 rfl rfl)
theorem dX5_toldShare_26 : decode cX5_toldShare 26 = .ok (.i2d, 1) := dk_135 (dk_at dksX5_toldShare_1 3 rfl rfl)
theorem dX5_toldShare_27 : decode cX5_toldShare 27 = .ok (.iload_n 1, 1) := dk_27 (dk_at dksX5_toldShare_1 4 rfl rfl)
theorem dX5_toldShare_28 : decode cX5_toldShare 28 = .ok (.i2d, 1) := dk_135 (dk_at dksX5_toldShare_1 5 rfl rfl)
theorem dX5_toldShare_29 : decode cX5_toldShare 29 = .ok (.ddiv, 1) := dk_111 (dk_at dksX5_toldShare_1 6 rfl rfl)
theorem dX5_toldShare_30 : decode cX5_toldShare 30 = .ok (.dreturn, 1) := dk_175 (dk_at dksX5_toldShare_1 7 rfl rfl)
abbrev cX5_digest : ByteArray := prog_10_method_107_code
def yX5_digest : MethodName := ⟨RX5, "digest", "()J"⟩
def dkwX5_digest_12 : List UInt8 := [167, 255, 234, 42, 3, 181, 0, 38, 42, 180, 0, 225, 173]
abbrev dktX5_digest_12 : List UInt8 := dkwX5_digest_12 ++ []
def dkwX5_digest_11 : List UInt8 := [62, 29, 42, 180, 0, 118, 162, 0, 20, 42, 42, 180, 0, 22, 29, 46, 133, 182, 0, 229, 132, 3, 1]
abbrev dktX5_digest_11 : List UInt8 := dkwX5_digest_11 ++ dktX5_digest_12
def dkwX5_digest_10 : List UInt8 := [180, 0, 159, 153, 0, 7, 10, 167, 0, 4, 9, 182, 0, 229, 42, 42, 180, 0, 118, 133, 182, 0, 229, 3]
abbrev dktX5_digest_10 : List UInt8 := dkwX5_digest_10 ++ dktX5_digest_11
def dkwX5_digest_9 : List UInt8 := [184, 0, 251, 182, 0, 229, 42, 42, 180, 0, 155, 153, 0, 7, 10, 167, 0, 4, 9, 182, 0, 229, 42, 42]
abbrev dktX5_digest_9 : List UInt8 := dkwX5_digest_9 ++ dktX5_digest_10
def dkwX5_digest_8 : List UInt8 := [42, 42, 182, 0, 220, 133, 182, 0, 229, 42, 42, 180, 0, 46, 133, 182, 0, 229, 42, 42, 182, 0, 247]
abbrev dktX5_digest_8 : List UInt8 := dkwX5_digest_8 ++ dktX5_digest_9
def dkwX5_digest_7 : List UInt8 := [180, 0, 7, 17, 0, 177, 46, 133, 182, 0, 229, 42, 42, 180, 0, 7, 17, 0, 178, 46, 133, 182, 0, 229]
abbrev dktX5_digest_7 : List UInt8 := dkwX5_digest_7 ++ dktX5_digest_8
def dkwX5_digest_6 : List UInt8 := [28, 133, 182, 0, 229, 42, 28, 133, 182, 0, 229, 42, 27, 133, 182, 0, 229, 42, 182, 0, 244, 42, 42]
abbrev dktX5_digest_6 : List UInt8 := dkwX5_digest_6 ++ dktX5_digest_7
def dkwX5_digest_5 : List UInt8 := [162, 0, 14, 42, 28, 182, 0, 241, 132, 2, 1, 167, 255, 236, 42, 42, 182, 0, 67, 182, 0, 78, 61, 42]
abbrev dktX5_digest_5 : List UInt8 := dkwX5_digest_5 ++ dktX5_digest_6
def dkwX5_digest_4 : List UInt8 := [42, 182, 0, 115, 133, 182, 0, 229, 42, 182, 0, 174, 60, 3, 61, 28, 42, 180, 0, 7, 17, 0, 160, 46]
abbrev dktX5_digest_4 : List UInt8 := dkwX5_digest_4 ++ dktX5_digest_5
def dkwX5_digest_3 : List UInt8 := [133, 182, 0, 229, 132, 1, 1, 167, 255, 188, 42, 42, 180, 0, 7, 17, 0, 160, 46, 133, 182, 0, 229, 42]
abbrev dktX5_digest_3 : List UInt8 := dkwX5_digest_3 ++ dktX5_digest_4
def dkwX5_digest_2 : List UInt8 := [180, 0, 7, 17, 0, 169, 27, 96, 46, 133, 182, 0, 229, 42, 42, 180, 0, 7, 17, 0, 173, 27, 96, 46]
abbrev dktX5_digest_2 : List UInt8 := dkwX5_digest_2 ++ dktX5_digest_3
def dkwX5_digest_1 : List UInt8 := [46, 133, 182, 0, 229, 42, 42, 180, 0, 7, 17, 0, 165, 27, 96, 46, 133, 182, 0, 229, 42, 42]
abbrev dktX5_digest_1 : List UInt8 := dkwX5_digest_1 ++ dktX5_digest_2
def dkwX5_digest_0 : List UInt8 := [42, 20, 0, 239, 181, 0, 225, 3, 60, 27, 7, 162, 0, 69, 42, 42, 180, 0, 7, 17, 0, 161, 27, 96]
abbrev dktX5_digest_0 : List UInt8 := dkwX5_digest_0 ++ dktX5_digest_1
theorem dksX5_digest_0 : cX5_digest.data.toList.drop 0 = dktX5_digest_0 := by decide +kernel
theorem dksX5_digest_1 : cX5_digest.data.toList.drop 24 = dktX5_digest_1 := dk_seg dksX5_digest_0 24 rfl rfl
theorem dksX5_digest_2 : cX5_digest.data.toList.drop 46 = dktX5_digest_2 := dk_seg dksX5_digest_1 22 rfl rfl
theorem dksX5_digest_3 : cX5_digest.data.toList.drop 70 = dktX5_digest_3 := dk_seg dksX5_digest_2 24 rfl rfl
theorem dksX5_digest_4 : cX5_digest.data.toList.drop 94 = dktX5_digest_4 := dk_seg dksX5_digest_3 24 rfl rfl
theorem dksX5_digest_5 : cX5_digest.data.toList.drop 118 = dktX5_digest_5 := dk_seg dksX5_digest_4 24 rfl rfl
theorem dksX5_digest_6 : cX5_digest.data.toList.drop 142 = dktX5_digest_6 := dk_seg dksX5_digest_5 24 rfl rfl
theorem dksX5_digest_7 : cX5_digest.data.toList.drop 165 = dktX5_digest_7 := dk_seg dksX5_digest_6 23 rfl rfl
theorem dksX5_digest_8 : cX5_digest.data.toList.drop 189 = dktX5_digest_8 := dk_seg dksX5_digest_7 24 rfl rfl
theorem dksX5_digest_9 : cX5_digest.data.toList.drop 212 = dktX5_digest_9 := dk_seg dksX5_digest_8 23 rfl rfl
theorem dksX5_digest_10 : cX5_digest.data.toList.drop 236 = dktX5_digest_10 := dk_seg dksX5_digest_9 24 rfl rfl
theorem dksX5_digest_11 : cX5_digest.data.toList.drop 260 = dktX5_digest_11 := dk_seg dksX5_digest_10 24 rfl rfl
theorem dksX5_digest_12 : cX5_digest.data.toList.drop 283 = dktX5_digest_12 := dk_seg dksX5_digest_11 23 rfl rfl
theorem dX5_digest_0 : decode cX5_digest 0 = .ok (.aload_n 0, 1) := dk_42 (dk_at dksX5_digest_0 0 rfl rfl)
theorem dX5_digest_1 : decode cX5_digest 1 = .ok (.ldc2_w 239, 3) := dk_20 0 239 (dk_at dksX5_digest_0 1 rfl rfl)
theorem dX5_digest_4 : decode cX5_digest 4 = .ok (.putfield 225, 3) := dk_181 0 225 (dk_at dksX5_digest_0 4 rfl rfl)
theorem dX5_digest_7 : decode cX5_digest 7 = .ok (.iconst 0, 1) := dk_3 (dk_at dksX5_digest_0 7 rfl rfl)
theorem dX5_digest_8 : decode cX5_digest 8 = .ok (.istore_n 1, 1) := dk_60 (dk_at dksX5_digest_0 8 rfl rfl)
theorem dX5_digest_9 : decode cX5_digest 9 = .ok (.iload_n 1, 1) := dk_27 (dk_at dksX5_digest_0 9 rfl rfl)
theorem dX5_digest_10 : decode cX5_digest 10 = .ok (.iconst 4, 1) := dk_7 (dk_at dksX5_digest_0 10 rfl rfl)
theorem dX5_digest_11 : decode cX5_digest 11 = .ok (.if_icmp .ge 69, 3) := dk_162 0 69 (dk_at dksX5_digest_0 11 rfl rfl)
theorem dX5_digest_14 : decode cX5_digest 14 = .ok (.aload_n 0, 1) := dk_42 (dk_at dksX5_digest_0 14 rfl rfl)
theorem dX5_digest_15 : decode cX5_digest 15 = .ok (.aload_n 0, 1) := dk_42 (dk_at dksX5_digest_0 15 rfl rfl)
theorem dX5_digest_16 : decode cX5_digest 16 = .ok (.getfield 7, 3) := dk_180 0 7 (dk_at dksX5_digest_0 16 rfl rfl)
theorem dX5_digest_19 : decode cX5_digest 19 = .ok (.sipush 161, 3) := dk_17 0 161 (dk_at dksX5_digest_0 19 rfl rfl)
theorem dX5_digest_22 : decode cX5_digest 22 = .ok (.iload_n 1, 1) := dk_27 (dk_at dksX5_digest_0 22 rfl rfl)
theorem dX5_digest_23 : decode cX5_digest 23 = .ok (.iadd, 1) := dk_96 (dk_at dksX5_digest_0 23 rfl rfl)
theorem dX5_digest_24 : decode cX5_digest 24 = .ok (.iaload, 1) := dk_46 (dk_at dksX5_digest_1 0 rfl rfl)
theorem dX5_digest_25 : decode cX5_digest 25 = .ok (.i2l, 1) := dk_133 (dk_at dksX5_digest_1 1 rfl rfl)
theorem dX5_digest_26 : decode cX5_digest 26 = .ok (.invokevirtual 229, 3) := dk_182 0 229 (dk_at dksX5_digest_1 2 rfl rfl)
theorem dX5_digest_29 : decode cX5_digest 29 = .ok (.aload_n 0, 1) := dk_42 (dk_at dksX5_digest_1 5 rfl rfl)
theorem dX5_digest_30 : decode cX5_digest 30 = .ok (.aload_n 0, 1) := dk_42 (dk_at dksX5_digest_1 6 rfl rfl)
theorem dX5_digest_31 : decode cX5_digest 31 = .ok (.getfield 7, 3) := dk_180 0 7 (dk_at dksX5_digest_1 7 rfl rfl)
theorem dX5_digest_34 : decode cX5_digest 34 = .ok (.sipush 165, 3) := dk_17 0 165 (dk_at dksX5_digest_1 10 rfl rfl)
theorem dX5_digest_37 : decode cX5_digest 37 = .ok (.iload_n 1, 1) := dk_27 (dk_at dksX5_digest_1 13 rfl rfl)
theorem dX5_digest_38 : decode cX5_digest 38 = .ok (.iadd, 1) := dk_96 (dk_at dksX5_digest_1 14 rfl rfl)
theorem dX5_digest_39 : decode cX5_digest 39 = .ok (.iaload, 1) := dk_46 (dk_at dksX5_digest_1 15 rfl rfl)
theorem dX5_digest_40 : decode cX5_digest 40 = .ok (.i2l, 1) := dk_133 (dk_at dksX5_digest_1 16 rfl rfl)
theorem dX5_digest_41 : decode cX5_digest 41 = .ok (.invokevirtual 229, 3) := dk_182 0 229 (dk_at dksX5_digest_1 17 rfl rfl)
theorem dX5_digest_44 : decode cX5_digest 44 = .ok (.aload_n 0, 1) := dk_42 (dk_at dksX5_digest_1 20 rfl rfl)
theorem dX5_digest_45 : decode cX5_digest 45 = .ok (.aload_n 0, 1) := dk_42 (dk_at dksX5_digest_1 21 rfl rfl)
theorem dX5_digest_46 : decode cX5_digest 46 = .ok (.getfield 7, 3) := dk_180 0 7 (dk_at dksX5_digest_2 0 rfl rfl)
theorem dX5_digest_49 : decode cX5_digest 49 = .ok (.sipush 169, 3) := dk_17 0 169 (dk_at dksX5_digest_2 3 rfl rfl)
theorem dX5_digest_52 : decode cX5_digest 52 = .ok (.iload_n 1, 1) := dk_27 (dk_at dksX5_digest_2 6 rfl rfl)
theorem dX5_digest_53 : decode cX5_digest 53 = .ok (.iadd, 1) := dk_96 (dk_at dksX5_digest_2 7 rfl rfl)
theorem dX5_digest_54 : decode cX5_digest 54 = .ok (.iaload, 1) := dk_46 (dk_at dksX5_digest_2 8 rfl rfl)
theorem dX5_digest_55 : decode cX5_digest 55 = .ok (.i2l, 1) := dk_133 (dk_at dksX5_digest_2 9 rfl rfl)
theorem dX5_digest_56 : decode cX5_digest 56 = .ok (.invokevirtual 229, 3) := dk_182 0 229 (dk_at dksX5_digest_2 10 rfl rfl)
theorem dX5_digest_59 : decode cX5_digest 59 = .ok (.aload_n 0, 1) := dk_42 (dk_at dksX5_digest_2 13 rfl rfl)
theorem dX5_digest_60 : decode cX5_digest 60 = .ok (.aload_n 0, 1) := dk_42 (dk_at dksX5_digest_2 14 rfl rfl)
theorem dX5_digest_61 : decode cX5_digest 61 = .ok (.getfield 7, 3) := dk_180 0 7 (dk_at dksX5_digest_2 15 rfl rfl)
theorem dX5_digest_64 : decode cX5_digest 64 = .ok (.sipush 173, 3) := dk_17 0 173 (dk_at dksX5_digest_2 18 rfl rfl)
theorem dX5_digest_67 : decode cX5_digest 67 = .ok (.iload_n 1, 1) := dk_27 (dk_at dksX5_digest_2 21 rfl rfl)
theorem dX5_digest_68 : decode cX5_digest 68 = .ok (.iadd, 1) := dk_96 (dk_at dksX5_digest_2 22 rfl rfl)
theorem dX5_digest_69 : decode cX5_digest 69 = .ok (.iaload, 1) := dk_46 (dk_at dksX5_digest_2 23 rfl rfl)
theorem dX5_digest_70 : decode cX5_digest 70 = .ok (.i2l, 1) := dk_133 (dk_at dksX5_digest_3 0 rfl rfl)
theorem dX5_digest_71 : decode cX5_digest 71 = .ok (.invokevirtual 229, 3) := dk_182 0 229 (dk_at dksX5_digest_3 1 rfl rfl)
theorem dX5_digest_74 : decode cX5_digest 74 = .ok (.iinc 1 1, 3) := dk_132 1 1 (dk_at dksX5_digest_3 4 rfl rfl)
theorem dX5_digest_77 : decode cX5_digest 77 = .ok (.goto (-68), 3) := dk_167 255 188 (dk_at dksX5_digest_3 7 rfl rfl)
theorem dX5_digest_80 : decode cX5_digest 80 = .ok (.aload_n 0, 1) := dk_42 (dk_at dksX5_digest_3 10 rfl rfl)
theorem dX5_digest_81 : decode cX5_digest 81 = .ok (.aload_n 0, 1) := dk_42 (dk_at dksX5_digest_3 11 rfl rfl)
theorem dX5_digest_82 : decode cX5_digest 82 = .ok (.getfield 7, 3) := dk_180 0 7 (dk_at dksX5_digest_3 12 rfl rfl)
theorem dX5_digest_85 : decode cX5_digest 85 = .ok (.sipush 160, 3) := dk_17 0 160 (dk_at dksX5_digest_3 15 rfl rfl)
theorem dX5_digest_88 : decode cX5_digest 88 = .ok (.iaload, 1) := dk_46 (dk_at dksX5_digest_3 18 rfl rfl)
theorem dX5_digest_89 : decode cX5_digest 89 = .ok (.i2l, 1) := dk_133 (dk_at dksX5_digest_3 19 rfl rfl)
theorem dX5_digest_90 : decode cX5_digest 90 = .ok (.invokevirtual 229, 3) := dk_182 0 229 (dk_at dksX5_digest_3 20 rfl rfl)
theorem dX5_digest_93 : decode cX5_digest 93 = .ok (.aload_n 0, 1) := dk_42 (dk_at dksX5_digest_3 23 rfl rfl)
theorem dX5_digest_94 : decode cX5_digest 94 = .ok (.aload_n 0, 1) := dk_42 (dk_at dksX5_digest_4 0 rfl rfl)
theorem dX5_digest_95 : decode cX5_digest 95 = .ok (.invokevirtual 115, 3) := dk_182 0 115 (dk_at dksX5_digest_4 1 rfl rfl)
theorem dX5_digest_98 : decode cX5_digest 98 = .ok (.i2l, 1) := dk_133 (dk_at dksX5_digest_4 4 rfl rfl)
theorem dX5_digest_99 : decode cX5_digest 99 = .ok (.invokevirtual 229, 3) := dk_182 0 229 (dk_at dksX5_digest_4 5 rfl rfl)
theorem dX5_digest_102 : decode cX5_digest 102 = .ok (.aload_n 0, 1) := dk_42 (dk_at dksX5_digest_4 8 rfl rfl)
theorem dX5_digest_103 : decode cX5_digest 103 = .ok (.invokevirtual 174, 3) := dk_182 0 174 (dk_at dksX5_digest_4 9 rfl rfl)
theorem dX5_digest_106 : decode cX5_digest 106 = .ok (.istore_n 1, 1) := dk_60 (dk_at dksX5_digest_4 12 rfl rfl)
theorem dX5_digest_107 : decode cX5_digest 107 = .ok (.iconst 0, 1) := dk_3 (dk_at dksX5_digest_4 13 rfl rfl)
theorem dX5_digest_108 : decode cX5_digest 108 = .ok (.istore_n 2, 1) := dk_61 (dk_at dksX5_digest_4 14 rfl rfl)
theorem dX5_digest_109 : decode cX5_digest 109 = .ok (.iload_n 2, 1) := dk_28 (dk_at dksX5_digest_4 15 rfl rfl)
theorem dX5_digest_110 : decode cX5_digest 110 = .ok (.aload_n 0, 1) := dk_42 (dk_at dksX5_digest_4 16 rfl rfl)
theorem dX5_digest_111 : decode cX5_digest 111 = .ok (.getfield 7, 3) := dk_180 0 7 (dk_at dksX5_digest_4 17 rfl rfl)
theorem dX5_digest_114 : decode cX5_digest 114 = .ok (.sipush 160, 3) := dk_17 0 160 (dk_at dksX5_digest_4 20 rfl rfl)
theorem dX5_digest_117 : decode cX5_digest 117 = .ok (.iaload, 1) := dk_46 (dk_at dksX5_digest_4 23 rfl rfl)
theorem dX5_digest_118 : decode cX5_digest 118 = .ok (.if_icmp .ge 14, 3) := dk_162 0 14 (dk_at dksX5_digest_5 0 rfl rfl)
theorem dX5_digest_121 : decode cX5_digest 121 = .ok (.aload_n 0, 1) := dk_42 (dk_at dksX5_digest_5 3 rfl rfl)
theorem dX5_digest_122 : decode cX5_digest 122 = .ok (.iload_n 2, 1) := dk_28 (dk_at dksX5_digest_5 4 rfl rfl)
theorem dX5_digest_123 : decode cX5_digest 123 = .ok (.invokevirtual 241, 3) := dk_182 0 241 (dk_at dksX5_digest_5 5 rfl rfl)
theorem dX5_digest_126 : decode cX5_digest 126 = .ok (.iinc 2 1, 3) := dk_132 2 1 (dk_at dksX5_digest_5 8 rfl rfl)
theorem dX5_digest_129 : decode cX5_digest 129 = .ok (.goto (-20), 3) := dk_167 255 236 (dk_at dksX5_digest_5 11 rfl rfl)
theorem dX5_digest_132 : decode cX5_digest 132 = .ok (.aload_n 0, 1) := dk_42 (dk_at dksX5_digest_5 14 rfl rfl)
theorem dX5_digest_133 : decode cX5_digest 133 = .ok (.aload_n 0, 1) := dk_42 (dk_at dksX5_digest_5 15 rfl rfl)
theorem dX5_digest_134 : decode cX5_digest 134 = .ok (.invokevirtual 67, 3) := dk_182 0 67 (dk_at dksX5_digest_5 16 rfl rfl)
theorem dX5_digest_137 : decode cX5_digest 137 = .ok (.invokevirtual 78, 3) := dk_182 0 78 (dk_at dksX5_digest_5 19 rfl rfl)
theorem dX5_digest_140 : decode cX5_digest 140 = .ok (.istore_n 2, 1) := dk_61 (dk_at dksX5_digest_5 22 rfl rfl)
theorem dX5_digest_141 : decode cX5_digest 141 = .ok (.aload_n 0, 1) := dk_42 (dk_at dksX5_digest_5 23 rfl rfl)
theorem dX5_digest_142 : decode cX5_digest 142 = .ok (.iload_n 2, 1) := dk_28 (dk_at dksX5_digest_6 0 rfl rfl)
theorem dX5_digest_143 : decode cX5_digest 143 = .ok (.i2l, 1) := dk_133 (dk_at dksX5_digest_6 1 rfl rfl)
theorem dX5_digest_144 : decode cX5_digest 144 = .ok (.invokevirtual 229, 3) := dk_182 0 229 (dk_at dksX5_digest_6 2 rfl rfl)
theorem dX5_digest_147 : decode cX5_digest 147 = .ok (.aload_n 0, 1) := dk_42 (dk_at dksX5_digest_6 5 rfl rfl)
theorem dX5_digest_148 : decode cX5_digest 148 = .ok (.iload_n 2, 1) := dk_28 (dk_at dksX5_digest_6 6 rfl rfl)
theorem dX5_digest_149 : decode cX5_digest 149 = .ok (.i2l, 1) := dk_133 (dk_at dksX5_digest_6 7 rfl rfl)
theorem dX5_digest_150 : decode cX5_digest 150 = .ok (.invokevirtual 229, 3) := dk_182 0 229 (dk_at dksX5_digest_6 8 rfl rfl)
theorem dX5_digest_153 : decode cX5_digest 153 = .ok (.aload_n 0, 1) := dk_42 (dk_at dksX5_digest_6 11 rfl rfl)
theorem dX5_digest_154 : decode cX5_digest 154 = .ok (.iload_n 1, 1) := dk_27 (dk_at dksX5_digest_6 12 rfl rfl)
theorem dX5_digest_155 : decode cX5_digest 155 = .ok (.i2l, 1) := dk_133 (dk_at dksX5_digest_6 13 rfl rfl)
theorem dX5_digest_156 : decode cX5_digest 156 = .ok (.invokevirtual 229, 3) := dk_182 0 229 (dk_at dksX5_digest_6 14 rfl rfl)
theorem dX5_digest_159 : decode cX5_digest 159 = .ok (.aload_n 0, 1) := dk_42 (dk_at dksX5_digest_6 17 rfl rfl)
theorem dX5_digest_160 : decode cX5_digest 160 = .ok (.invokevirtual 244, 3) := dk_182 0 244 (dk_at dksX5_digest_6 18 rfl rfl)
theorem dX5_digest_163 : decode cX5_digest 163 = .ok (.aload_n 0, 1) := dk_42 (dk_at dksX5_digest_6 21 rfl rfl)
theorem dX5_digest_164 : decode cX5_digest 164 = .ok (.aload_n 0, 1) := dk_42 (dk_at dksX5_digest_6 22 rfl rfl)
theorem dX5_digest_165 : decode cX5_digest 165 = .ok (.getfield 7, 3) := dk_180 0 7 (dk_at dksX5_digest_7 0 rfl rfl)
theorem dX5_digest_168 : decode cX5_digest 168 = .ok (.sipush 177, 3) := dk_17 0 177 (dk_at dksX5_digest_7 3 rfl rfl)
theorem dX5_digest_171 : decode cX5_digest 171 = .ok (.iaload, 1) := dk_46 (dk_at dksX5_digest_7 6 rfl rfl)
theorem dX5_digest_172 : decode cX5_digest 172 = .ok (.i2l, 1) := dk_133 (dk_at dksX5_digest_7 7 rfl rfl)
theorem dX5_digest_173 : decode cX5_digest 173 = .ok (.invokevirtual 229, 3) := dk_182 0 229 (dk_at dksX5_digest_7 8 rfl rfl)
theorem dX5_digest_176 : decode cX5_digest 176 = .ok (.aload_n 0, 1) := dk_42 (dk_at dksX5_digest_7 11 rfl rfl)
theorem dX5_digest_177 : decode cX5_digest 177 = .ok (.aload_n 0, 1) := dk_42 (dk_at dksX5_digest_7 12 rfl rfl)
theorem dX5_digest_178 : decode cX5_digest 178 = .ok (.getfield 7, 3) := dk_180 0 7 (dk_at dksX5_digest_7 13 rfl rfl)
theorem dX5_digest_181 : decode cX5_digest 181 = .ok (.sipush 178, 3) := dk_17 0 178 (dk_at dksX5_digest_7 16 rfl rfl)
theorem dX5_digest_184 : decode cX5_digest 184 = .ok (.iaload, 1) := dk_46 (dk_at dksX5_digest_7 19 rfl rfl)
theorem dX5_digest_185 : decode cX5_digest 185 = .ok (.i2l, 1) := dk_133 (dk_at dksX5_digest_7 20 rfl rfl)
theorem dX5_digest_186 : decode cX5_digest 186 = .ok (.invokevirtual 229, 3) := dk_182 0 229 (dk_at dksX5_digest_7 21 rfl rfl)
theorem dX5_digest_189 : decode cX5_digest 189 = .ok (.aload_n 0, 1) := dk_42 (dk_at dksX5_digest_8 0 rfl rfl)
theorem dX5_digest_190 : decode cX5_digest 190 = .ok (.aload_n 0, 1) := dk_42 (dk_at dksX5_digest_8 1 rfl rfl)
theorem dX5_digest_191 : decode cX5_digest 191 = .ok (.invokevirtual 220, 3) := dk_182 0 220 (dk_at dksX5_digest_8 2 rfl rfl)
theorem dX5_digest_194 : decode cX5_digest 194 = .ok (.i2l, 1) := dk_133 (dk_at dksX5_digest_8 5 rfl rfl)
theorem dX5_digest_195 : decode cX5_digest 195 = .ok (.invokevirtual 229, 3) := dk_182 0 229 (dk_at dksX5_digest_8 6 rfl rfl)
theorem dX5_digest_198 : decode cX5_digest 198 = .ok (.aload_n 0, 1) := dk_42 (dk_at dksX5_digest_8 9 rfl rfl)
theorem dX5_digest_199 : decode cX5_digest 199 = .ok (.aload_n 0, 1) := dk_42 (dk_at dksX5_digest_8 10 rfl rfl)
theorem dX5_digest_200 : decode cX5_digest 200 = .ok (.getfield 46, 3) := dk_180 0 46 (dk_at dksX5_digest_8 11 rfl rfl)
theorem dX5_digest_203 : decode cX5_digest 203 = .ok (.i2l, 1) := dk_133 (dk_at dksX5_digest_8 14 rfl rfl)
theorem dX5_digest_204 : decode cX5_digest 204 = .ok (.invokevirtual 229, 3) := dk_182 0 229 (dk_at dksX5_digest_8 15 rfl rfl)
theorem dX5_digest_207 : decode cX5_digest 207 = .ok (.aload_n 0, 1) := dk_42 (dk_at dksX5_digest_8 18 rfl rfl)
theorem dX5_digest_208 : decode cX5_digest 208 = .ok (.aload_n 0, 1) := dk_42 (dk_at dksX5_digest_8 19 rfl rfl)
theorem dX5_digest_209 : decode cX5_digest 209 = .ok (.invokevirtual 247, 3) := dk_182 0 247 (dk_at dksX5_digest_8 20 rfl rfl)
theorem dX5_digest_212 : decode cX5_digest 212 = .ok (.invokestatic 251, 3) := dk_184 0 251 (dk_at dksX5_digest_9 0 rfl rfl)
theorem dX5_digest_215 : decode cX5_digest 215 = .ok (.invokevirtual 229, 3) := dk_182 0 229 (dk_at dksX5_digest_9 3 rfl rfl)
theorem dX5_digest_218 : decode cX5_digest 218 = .ok (.aload_n 0, 1) := dk_42 (dk_at dksX5_digest_9 6 rfl rfl)
theorem dX5_digest_219 : decode cX5_digest 219 = .ok (.aload_n 0, 1) := dk_42 (dk_at dksX5_digest_9 7 rfl rfl)
theorem dX5_digest_220 : decode cX5_digest 220 = .ok (.getfield 155, 3) := dk_180 0 155 (dk_at dksX5_digest_9 8 rfl rfl)
theorem dX5_digest_223 : decode cX5_digest 223 = .ok (.ifCond .eq 7, 3) := dk_153 0 7 (dk_at dksX5_digest_9 11 rfl rfl)
theorem dX5_digest_226 : decode cX5_digest 226 = .ok (.lconst 1, 1) := dk_10 (dk_at dksX5_digest_9 14 rfl rfl)
theorem dX5_digest_227 : decode cX5_digest 227 = .ok (.goto 4, 3) := dk_167 0 4 (dk_at dksX5_digest_9 15 rfl rfl)
theorem dX5_digest_230 : decode cX5_digest 230 = .ok (.lconst 0, 1) := dk_9 (dk_at dksX5_digest_9 18 rfl rfl)
theorem dX5_digest_231 : decode cX5_digest 231 = .ok (.invokevirtual 229, 3) := dk_182 0 229 (dk_at dksX5_digest_9 19 rfl rfl)
theorem dX5_digest_234 : decode cX5_digest 234 = .ok (.aload_n 0, 1) := dk_42 (dk_at dksX5_digest_9 22 rfl rfl)
theorem dX5_digest_235 : decode cX5_digest 235 = .ok (.aload_n 0, 1) := dk_42 (dk_at dksX5_digest_9 23 rfl rfl)
theorem dX5_digest_236 : decode cX5_digest 236 = .ok (.getfield 159, 3) := dk_180 0 159 (dk_at dksX5_digest_10 0 rfl rfl)
theorem dX5_digest_239 : decode cX5_digest 239 = .ok (.ifCond .eq 7, 3) := dk_153 0 7 (dk_at dksX5_digest_10 3 rfl rfl)
theorem dX5_digest_242 : decode cX5_digest 242 = .ok (.lconst 1, 1) := dk_10 (dk_at dksX5_digest_10 6 rfl rfl)
theorem dX5_digest_243 : decode cX5_digest 243 = .ok (.goto 4, 3) := dk_167 0 4 (dk_at dksX5_digest_10 7 rfl rfl)
theorem dX5_digest_246 : decode cX5_digest 246 = .ok (.lconst 0, 1) := dk_9 (dk_at dksX5_digest_10 10 rfl rfl)
theorem dX5_digest_247 : decode cX5_digest 247 = .ok (.invokevirtual 229, 3) := dk_182 0 229 (dk_at dksX5_digest_10 11 rfl rfl)
theorem dX5_digest_250 : decode cX5_digest 250 = .ok (.aload_n 0, 1) := dk_42 (dk_at dksX5_digest_10 14 rfl rfl)
theorem dX5_digest_251 : decode cX5_digest 251 = .ok (.aload_n 0, 1) := dk_42 (dk_at dksX5_digest_10 15 rfl rfl)
theorem dX5_digest_252 : decode cX5_digest 252 = .ok (.getfield 118, 3) := dk_180 0 118 (dk_at dksX5_digest_10 16 rfl rfl)
theorem dX5_digest_255 : decode cX5_digest 255 = .ok (.i2l, 1) := dk_133 (dk_at dksX5_digest_10 19 rfl rfl)
theorem dX5_digest_256 : decode cX5_digest 256 = .ok (.invokevirtual 229, 3) := dk_182 0 229 (dk_at dksX5_digest_10 20 rfl rfl)
theorem dX5_digest_259 : decode cX5_digest 259 = .ok (.iconst 0, 1) := dk_3 (dk_at dksX5_digest_10 23 rfl rfl)
theorem dX5_digest_260 : decode cX5_digest 260 = .ok (.istore_n 3, 1) := dk_62 (dk_at dksX5_digest_11 0 rfl rfl)
theorem dX5_digest_261 : decode cX5_digest 261 = .ok (.iload_n 3, 1) := dk_29 (dk_at dksX5_digest_11 1 rfl rfl)
theorem dX5_digest_262 : decode cX5_digest 262 = .ok (.aload_n 0, 1) := dk_42 (dk_at dksX5_digest_11 2 rfl rfl)
theorem dX5_digest_263 : decode cX5_digest 263 = .ok (.getfield 118, 3) := dk_180 0 118 (dk_at dksX5_digest_11 3 rfl rfl)
theorem dX5_digest_266 : decode cX5_digest 266 = .ok (.if_icmp .ge 20, 3) := dk_162 0 20 (dk_at dksX5_digest_11 6 rfl rfl)
theorem dX5_digest_269 : decode cX5_digest 269 = .ok (.aload_n 0, 1) := dk_42 (dk_at dksX5_digest_11 9 rfl rfl)
theorem dX5_digest_270 : decode cX5_digest 270 = .ok (.aload_n 0, 1) := dk_42 (dk_at dksX5_digest_11 10 rfl rfl)
theorem dX5_digest_271 : decode cX5_digest 271 = .ok (.getfield 22, 3) := dk_180 0 22 (dk_at dksX5_digest_11 11 rfl rfl)
theorem dX5_digest_274 : decode cX5_digest 274 = .ok (.iload_n 3, 1) := dk_29 (dk_at dksX5_digest_11 14 rfl rfl)
theorem dX5_digest_275 : decode cX5_digest 275 = .ok (.iaload, 1) := dk_46 (dk_at dksX5_digest_11 15 rfl rfl)
theorem dX5_digest_276 : decode cX5_digest 276 = .ok (.i2l, 1) := dk_133 (dk_at dksX5_digest_11 16 rfl rfl)
theorem dX5_digest_277 : decode cX5_digest 277 = .ok (.invokevirtual 229, 3) := dk_182 0 229 (dk_at dksX5_digest_11 17 rfl rfl)
theorem dX5_digest_280 : decode cX5_digest 280 = .ok (.iinc 3 1, 3) := dk_132 3 1 (dk_at dksX5_digest_11 20 rfl rfl)
theorem dX5_digest_283 : decode cX5_digest 283 = .ok (.goto (-22), 3) := dk_167 255 234 (dk_at dksX5_digest_12 0 rfl rfl)
theorem dX5_digest_286 : decode cX5_digest 286 = .ok (.aload_n 0, 1) := dk_42 (dk_at dksX5_digest_12 3 rfl rfl)
theorem dX5_digest_287 : decode cX5_digest 287 = .ok (.iconst 0, 1) := dk_3 (dk_at dksX5_digest_12 4 rfl rfl)
theorem dX5_digest_288 : decode cX5_digest 288 = .ok (.putfield 38, 3) := dk_181 0 38 (dk_at dksX5_digest_12 5 rfl rfl)
theorem dX5_digest_291 : decode cX5_digest 291 = .ok (.aload_n 0, 1) := dk_42 (dk_at dksX5_digest_12 8 rfl rfl)
theorem dX5_digest_292 : decode cX5_digest 292 = .ok (.getfield 225, 3) := dk_180 0 225 (dk_at dksX5_digest_12 9 rfl rfl)
theorem dX5_digest_295 : decode cX5_digest 295 = .ok (.lreturn, 1) := dk_173 (dk_at dksX5_digest_12 12 rfl rfl)
abbrev cX5_mix : ByteArray := prog_10_method_104_code
def yX5_mix : MethodName := ⟨RX5, "mix", "(J)V"⟩
def dkwX5_mix_0 : List UInt8 := [42, 20, 0, 223, 42, 180, 0, 225, 105, 31, 97, 181, 0, 225, 177]
abbrev dktX5_mix_0 : List UInt8 := dkwX5_mix_0 ++ []
theorem dksX5_mix_0 : cX5_mix.data.toList.drop 0 = dktX5_mix_0 := by decide +kernel
theorem dX5_mix_0 : decode cX5_mix 0 = .ok (.aload_n 0, 1) := dk_42 (dk_at dksX5_mix_0 0 rfl rfl)
theorem dX5_mix_1 : decode cX5_mix 1 = .ok (.ldc2_w 223, 3) := dk_20 0 223 (dk_at dksX5_mix_0 1 rfl rfl)
theorem dX5_mix_4 : decode cX5_mix 4 = .ok (.aload_n 0, 1) := dk_42 (dk_at dksX5_mix_0 4 rfl rfl)
theorem dX5_mix_5 : decode cX5_mix 5 = .ok (.getfield 225, 3) := dk_180 0 225 (dk_at dksX5_mix_0 5 rfl rfl)
theorem dX5_mix_8 : decode cX5_mix 8 = .ok (.lmul, 1) := dk_105 (dk_at dksX5_mix_0 8 rfl rfl)
theorem dX5_mix_9 : decode cX5_mix 9 = .ok (.lload_n 1, 1) := dk_31 (dk_at dksX5_mix_0 9 rfl rfl)
theorem dX5_mix_10 : decode cX5_mix 10 = .ok (.ladd, 1) := dk_97 (dk_at dksX5_mix_0 10 rfl rfl)
theorem dX5_mix_11 : decode cX5_mix 11 = .ok (.putfield 225, 3) := dk_181 0 225 (dk_at dksX5_mix_0 11 rfl rfl)
theorem dX5_mix_14 : decode cX5_mix 14 = .ok (.return_, 1) := dk_177 (dk_at dksX5_mix_0 14 rfl rfl)
abbrev cX5_mixOffer : ByteArray := prog_10_method_105_code
def yX5_mixOffer : MethodName := ⟨RX5, "mixOffer", "(I)V"⟩
def dkwX5_mixOffer_5 : List UInt8 := [27, 182, 0, 85, 133, 182, 0, 229, 177]
abbrev dktX5_mixOffer_5 : List UInt8 := dkwX5_mixOffer_5 ++ []
def dkwX5_mixOffer_4 : List UInt8 := [42, 42, 180, 0, 32, 27, 46, 133, 182, 0, 229, 42, 42, 180, 0, 32, 27, 46, 133, 182, 0, 229, 42, 42]
abbrev dktX5_mixOffer_4 : List UInt8 := dkwX5_mixOffer_4 ++ dktX5_mixOffer_5
def dkwX5_mixOffer_3 : List UInt8 := [167, 0, 4, 9, 182, 0, 229, 42, 42, 27, 182, 0, 171, 153, 0, 7, 10, 167, 0, 4, 9, 182, 0, 229]
abbrev dktX5_mixOffer_3 : List UInt8 := dkwX5_mixOffer_3 ++ dktX5_mixOffer_4
def dkwX5_mixOffer_2 : List UInt8 := [182, 0, 229, 42, 42, 27, 182, 0, 168, 133, 182, 0, 229, 42, 42, 27, 182, 0, 171, 153, 0, 7, 10]
abbrev dktX5_mixOffer_2 : List UInt8 := dkwX5_mixOffer_2 ++ dktX5_mixOffer_3
def dkwX5_mixOffer_1 : List UInt8 := [42, 42, 27, 182, 0, 57, 153, 0, 7, 10, 167, 0, 4, 9, 182, 0, 229, 42, 42, 27, 182, 0, 165, 133]
abbrev dktX5_mixOffer_1 : List UInt8 := dkwX5_mixOffer_1 ++ dktX5_mixOffer_2
def dkwX5_mixOffer_0 : List UInt8 := [3, 61, 28, 7, 162, 0, 20, 42, 42, 27, 28, 182, 0, 53, 133, 182, 0, 229, 132, 2, 1, 167, 255, 237]
abbrev dktX5_mixOffer_0 : List UInt8 := dkwX5_mixOffer_0 ++ dktX5_mixOffer_1
theorem dksX5_mixOffer_0 : cX5_mixOffer.data.toList.drop 0 = dktX5_mixOffer_0 := by decide +kernel
theorem dksX5_mixOffer_1 : cX5_mixOffer.data.toList.drop 24 = dktX5_mixOffer_1 := dk_seg dksX5_mixOffer_0 24 rfl rfl
theorem dksX5_mixOffer_2 : cX5_mixOffer.data.toList.drop 48 = dktX5_mixOffer_2 := dk_seg dksX5_mixOffer_1 24 rfl rfl
theorem dksX5_mixOffer_3 : cX5_mixOffer.data.toList.drop 71 = dktX5_mixOffer_3 := dk_seg dksX5_mixOffer_2 23 rfl rfl
theorem dksX5_mixOffer_4 : cX5_mixOffer.data.toList.drop 95 = dktX5_mixOffer_4 := dk_seg dksX5_mixOffer_3 24 rfl rfl
theorem dksX5_mixOffer_5 : cX5_mixOffer.data.toList.drop 119 = dktX5_mixOffer_5 := dk_seg dksX5_mixOffer_4 24 rfl rfl
theorem dX5_mixOffer_0 : decode cX5_mixOffer 0 = .ok (.iconst 0, 1) := dk_3 (dk_at dksX5_mixOffer_0 0 rfl rfl)
theorem dX5_mixOffer_1 : decode cX5_mixOffer 1 = .ok (.istore_n 2, 1) := dk_61 (dk_at dksX5_mixOffer_0 1 rfl rfl)
theorem dX5_mixOffer_2 : decode cX5_mixOffer 2 = .ok (.iload_n 2, 1) := dk_28 (dk_at dksX5_mixOffer_0 2 rfl rfl)
theorem dX5_mixOffer_3 : decode cX5_mixOffer 3 = .ok (.iconst 4, 1) := dk_7 (dk_at dksX5_mixOffer_0 3 rfl rfl)
theorem dX5_mixOffer_4 : decode cX5_mixOffer 4 = .ok (.if_icmp .ge 20, 3) := dk_162 0 20 (dk_at dksX5_mixOffer_0 4 rfl rfl)
theorem dX5_mixOffer_7 : decode cX5_mixOffer 7 = .ok (.aload_n 0, 1) := dk_42 (dk_at dksX5_mixOffer_0 7 rfl rfl)
theorem dX5_mixOffer_8 : decode cX5_mixOffer 8 = .ok (.aload_n 0, 1) := dk_42 (dk_at dksX5_mixOffer_0 8 rfl rfl)
theorem dX5_mixOffer_9 : decode cX5_mixOffer 9 = .ok (.iload_n 1, 1) := dk_27 (dk_at dksX5_mixOffer_0 9 rfl rfl)
theorem dX5_mixOffer_10 : decode cX5_mixOffer 10 = .ok (.iload_n 2, 1) := dk_28 (dk_at dksX5_mixOffer_0 10 rfl rfl)
theorem dX5_mixOffer_11 : decode cX5_mixOffer 11 = .ok (.invokevirtual 53, 3) := dk_182 0 53 (dk_at dksX5_mixOffer_0 11 rfl rfl)
theorem dX5_mixOffer_14 : decode cX5_mixOffer 14 = .ok (.i2l, 1) := dk_133 (dk_at dksX5_mixOffer_0 14 rfl rfl)
theorem dX5_mixOffer_15 : decode cX5_mixOffer 15 = .ok (.invokevirtual 229, 3) := dk_182 0 229 (dk_at dksX5_mixOffer_0 15 rfl rfl)
theorem dX5_mixOffer_18 : decode cX5_mixOffer 18 = .ok (.iinc 2 1, 3) := dk_132 2 1 (dk_at dksX5_mixOffer_0 18 rfl rfl)
theorem dX5_mixOffer_21 : decode cX5_mixOffer 21 = .ok (.goto (-19), 3) := dk_167 255 237 (dk_at dksX5_mixOffer_0 21 rfl rfl)
theorem dX5_mixOffer_24 : decode cX5_mixOffer 24 = .ok (.aload_n 0, 1) := dk_42 (dk_at dksX5_mixOffer_1 0 rfl rfl)
theorem dX5_mixOffer_25 : decode cX5_mixOffer 25 = .ok (.aload_n 0, 1) := dk_42 (dk_at dksX5_mixOffer_1 1 rfl rfl)
theorem dX5_mixOffer_26 : decode cX5_mixOffer 26 = .ok (.iload_n 1, 1) := dk_27 (dk_at dksX5_mixOffer_1 2 rfl rfl)
theorem dX5_mixOffer_27 : decode cX5_mixOffer 27 = .ok (.invokevirtual 57, 3) := dk_182 0 57 (dk_at dksX5_mixOffer_1 3 rfl rfl)
theorem dX5_mixOffer_30 : decode cX5_mixOffer 30 = .ok (.ifCond .eq 7, 3) := dk_153 0 7 (dk_at dksX5_mixOffer_1 6 rfl rfl)
theorem dX5_mixOffer_33 : decode cX5_mixOffer 33 = .ok (.lconst 1, 1) := dk_10 (dk_at dksX5_mixOffer_1 9 rfl rfl)
theorem dX5_mixOffer_34 : decode cX5_mixOffer 34 = .ok (.goto 4, 3) := dk_167 0 4 (dk_at dksX5_mixOffer_1 10 rfl rfl)
theorem dX5_mixOffer_37 : decode cX5_mixOffer 37 = .ok (.lconst 0, 1) := dk_9 (dk_at dksX5_mixOffer_1 13 rfl rfl)
theorem dX5_mixOffer_38 : decode cX5_mixOffer 38 = .ok (.invokevirtual 229, 3) := dk_182 0 229 (dk_at dksX5_mixOffer_1 14 rfl rfl)
theorem dX5_mixOffer_41 : decode cX5_mixOffer 41 = .ok (.aload_n 0, 1) := dk_42 (dk_at dksX5_mixOffer_1 17 rfl rfl)
theorem dX5_mixOffer_42 : decode cX5_mixOffer 42 = .ok (.aload_n 0, 1) := dk_42 (dk_at dksX5_mixOffer_1 18 rfl rfl)
theorem dX5_mixOffer_43 : decode cX5_mixOffer 43 = .ok (.iload_n 1, 1) := dk_27 (dk_at dksX5_mixOffer_1 19 rfl rfl)
theorem dX5_mixOffer_44 : decode cX5_mixOffer 44 = .ok (.invokevirtual 165, 3) := dk_182 0 165 (dk_at dksX5_mixOffer_1 20 rfl rfl)
theorem dX5_mixOffer_47 : decode cX5_mixOffer 47 = .ok (.i2l, 1) := dk_133 (dk_at dksX5_mixOffer_1 23 rfl rfl)
theorem dX5_mixOffer_48 : decode cX5_mixOffer 48 = .ok (.invokevirtual 229, 3) := dk_182 0 229 (dk_at dksX5_mixOffer_2 0 rfl rfl)
theorem dX5_mixOffer_51 : decode cX5_mixOffer 51 = .ok (.aload_n 0, 1) := dk_42 (dk_at dksX5_mixOffer_2 3 rfl rfl)
theorem dX5_mixOffer_52 : decode cX5_mixOffer 52 = .ok (.aload_n 0, 1) := dk_42 (dk_at dksX5_mixOffer_2 4 rfl rfl)
theorem dX5_mixOffer_53 : decode cX5_mixOffer 53 = .ok (.iload_n 1, 1) := dk_27 (dk_at dksX5_mixOffer_2 5 rfl rfl)
theorem dX5_mixOffer_54 : decode cX5_mixOffer 54 = .ok (.invokevirtual 168, 3) := dk_182 0 168 (dk_at dksX5_mixOffer_2 6 rfl rfl)
theorem dX5_mixOffer_57 : decode cX5_mixOffer 57 = .ok (.i2l, 1) := dk_133 (dk_at dksX5_mixOffer_2 9 rfl rfl)
theorem dX5_mixOffer_58 : decode cX5_mixOffer 58 = .ok (.invokevirtual 229, 3) := dk_182 0 229 (dk_at dksX5_mixOffer_2 10 rfl rfl)
theorem dX5_mixOffer_61 : decode cX5_mixOffer 61 = .ok (.aload_n 0, 1) := dk_42 (dk_at dksX5_mixOffer_2 13 rfl rfl)
theorem dX5_mixOffer_62 : decode cX5_mixOffer 62 = .ok (.aload_n 0, 1) := dk_42 (dk_at dksX5_mixOffer_2 14 rfl rfl)
theorem dX5_mixOffer_63 : decode cX5_mixOffer 63 = .ok (.iload_n 1, 1) := dk_27 (dk_at dksX5_mixOffer_2 15 rfl rfl)
theorem dX5_mixOffer_64 : decode cX5_mixOffer 64 = .ok (.invokevirtual 171, 3) := dk_182 0 171 (dk_at dksX5_mixOffer_2 16 rfl rfl)
theorem dX5_mixOffer_67 : decode cX5_mixOffer 67 = .ok (.ifCond .eq 7, 3) := dk_153 0 7 (dk_at dksX5_mixOffer_2 19 rfl rfl)
theorem dX5_mixOffer_70 : decode cX5_mixOffer 70 = .ok (.lconst 1, 1) := dk_10 (dk_at dksX5_mixOffer_2 22 rfl rfl)
theorem dX5_mixOffer_71 : decode cX5_mixOffer 71 = .ok (.goto 4, 3) := dk_167 0 4 (dk_at dksX5_mixOffer_3 0 rfl rfl)
theorem dX5_mixOffer_74 : decode cX5_mixOffer 74 = .ok (.lconst 0, 1) := dk_9 (dk_at dksX5_mixOffer_3 3 rfl rfl)
theorem dX5_mixOffer_75 : decode cX5_mixOffer 75 = .ok (.invokevirtual 229, 3) := dk_182 0 229 (dk_at dksX5_mixOffer_3 4 rfl rfl)
theorem dX5_mixOffer_78 : decode cX5_mixOffer 78 = .ok (.aload_n 0, 1) := dk_42 (dk_at dksX5_mixOffer_3 7 rfl rfl)
theorem dX5_mixOffer_79 : decode cX5_mixOffer 79 = .ok (.aload_n 0, 1) := dk_42 (dk_at dksX5_mixOffer_3 8 rfl rfl)
theorem dX5_mixOffer_80 : decode cX5_mixOffer 80 = .ok (.iload_n 1, 1) := dk_27 (dk_at dksX5_mixOffer_3 9 rfl rfl)
theorem dX5_mixOffer_81 : decode cX5_mixOffer 81 = .ok (.invokevirtual 171, 3) := dk_182 0 171 (dk_at dksX5_mixOffer_3 10 rfl rfl)
theorem dX5_mixOffer_84 : decode cX5_mixOffer 84 = .ok (.ifCond .eq 7, 3) := dk_153 0 7 (dk_at dksX5_mixOffer_3 13 rfl rfl)
theorem dX5_mixOffer_87 : decode cX5_mixOffer 87 = .ok (.lconst 1, 1) := dk_10 (dk_at dksX5_mixOffer_3 16 rfl rfl)
theorem dX5_mixOffer_88 : decode cX5_mixOffer 88 = .ok (.goto 4, 3) := dk_167 0 4 (dk_at dksX5_mixOffer_3 17 rfl rfl)
theorem dX5_mixOffer_91 : decode cX5_mixOffer 91 = .ok (.lconst 0, 1) := dk_9 (dk_at dksX5_mixOffer_3 20 rfl rfl)
theorem dX5_mixOffer_92 : decode cX5_mixOffer 92 = .ok (.invokevirtual 229, 3) := dk_182 0 229 (dk_at dksX5_mixOffer_3 21 rfl rfl)
theorem dX5_mixOffer_95 : decode cX5_mixOffer 95 = .ok (.aload_n 0, 1) := dk_42 (dk_at dksX5_mixOffer_4 0 rfl rfl)
theorem dX5_mixOffer_96 : decode cX5_mixOffer 96 = .ok (.aload_n 0, 1) := dk_42 (dk_at dksX5_mixOffer_4 1 rfl rfl)
theorem dX5_mixOffer_97 : decode cX5_mixOffer 97 = .ok (.getfield 32, 3) := dk_180 0 32 (dk_at dksX5_mixOffer_4 2 rfl rfl)
theorem dX5_mixOffer_100 : decode cX5_mixOffer 100 = .ok (.iload_n 1, 1) := dk_27 (dk_at dksX5_mixOffer_4 5 rfl rfl)
theorem dX5_mixOffer_101 : decode cX5_mixOffer 101 = .ok (.iaload, 1) := dk_46 (dk_at dksX5_mixOffer_4 6 rfl rfl)
theorem dX5_mixOffer_102 : decode cX5_mixOffer 102 = .ok (.i2l, 1) := dk_133 (dk_at dksX5_mixOffer_4 7 rfl rfl)
theorem dX5_mixOffer_103 : decode cX5_mixOffer 103 = .ok (.invokevirtual 229, 3) := dk_182 0 229 (dk_at dksX5_mixOffer_4 8 rfl rfl)
theorem dX5_mixOffer_106 : decode cX5_mixOffer 106 = .ok (.aload_n 0, 1) := dk_42 (dk_at dksX5_mixOffer_4 11 rfl rfl)
theorem dX5_mixOffer_107 : decode cX5_mixOffer 107 = .ok (.aload_n 0, 1) := dk_42 (dk_at dksX5_mixOffer_4 12 rfl rfl)
theorem dX5_mixOffer_108 : decode cX5_mixOffer 108 = .ok (.getfield 32, 3) := dk_180 0 32 (dk_at dksX5_mixOffer_4 13 rfl rfl)
theorem dX5_mixOffer_111 : decode cX5_mixOffer 111 = .ok (.iload_n 1, 1) := dk_27 (dk_at dksX5_mixOffer_4 16 rfl rfl)
theorem dX5_mixOffer_112 : decode cX5_mixOffer 112 = .ok (.iaload, 1) := dk_46 (dk_at dksX5_mixOffer_4 17 rfl rfl)
theorem dX5_mixOffer_113 : decode cX5_mixOffer 113 = .ok (.i2l, 1) := dk_133 (dk_at dksX5_mixOffer_4 18 rfl rfl)
theorem dX5_mixOffer_114 : decode cX5_mixOffer 114 = .ok (.invokevirtual 229, 3) := dk_182 0 229 (dk_at dksX5_mixOffer_4 19 rfl rfl)
theorem dX5_mixOffer_117 : decode cX5_mixOffer 117 = .ok (.aload_n 0, 1) := dk_42 (dk_at dksX5_mixOffer_4 22 rfl rfl)
theorem dX5_mixOffer_118 : decode cX5_mixOffer 118 = .ok (.aload_n 0, 1) := dk_42 (dk_at dksX5_mixOffer_4 23 rfl rfl)
theorem dX5_mixOffer_119 : decode cX5_mixOffer 119 = .ok (.iload_n 1, 1) := dk_27 (dk_at dksX5_mixOffer_5 0 rfl rfl)
theorem dX5_mixOffer_120 : decode cX5_mixOffer 120 = .ok (.invokevirtual 85, 3) := dk_182 0 85 (dk_at dksX5_mixOffer_5 1 rfl rfl)
theorem dX5_mixOffer_123 : decode cX5_mixOffer 123 = .ok (.i2l, 1) := dk_133 (dk_at dksX5_mixOffer_5 4 rfl rfl)
theorem dX5_mixOffer_124 : decode cX5_mixOffer 124 = .ok (.invokevirtual 229, 3) := dk_182 0 229 (dk_at dksX5_mixOffer_5 5 rfl rfl)
theorem dX5_mixOffer_127 : decode cX5_mixOffer 127 = .ok (.return_, 1) := dk_177 (dk_at dksX5_mixOffer_5 8 rfl rfl)
abbrev cX5_mixSome : ByteArray := prog_10_method_106_code
def yX5_mixSome : MethodName := ⟨RX5, "mixSome", "()V"⟩
def dkwX5_mixSome_8 : List UInt8 := [133, 182, 0, 229, 132, 3, 1, 167, 255, 210, 132, 2, 1, 167, 255, 195, 177]
abbrev dktX5_mixSome_8 : List UInt8 := dkwX5_mixSome_8 ++ []
def dkwX5_mixSome_7 : List UInt8 := [182, 0, 49, 153, 0, 25, 42, 28, 29, 182, 0, 214, 54, 4, 42, 21, 4, 133, 182, 0, 229, 42, 21, 4]
abbrev dktX5_mixSome_7 : List UInt8 := dkwX5_mixSome_7 ++ dktX5_mixSome_8
def dkwX5_mixSome_6 : List UInt8 := [28, 7, 162, 0, 62, 28, 4, 96, 62, 29, 7, 162, 0, 47, 42, 28, 182, 0, 49, 153, 0, 33, 42, 29]
abbrev dktX5_mixSome_6 : List UInt8 := dkwX5_mixSome_6 ++ dktX5_mixSome_7
def dkwX5_mixSome_5 : List UInt8 := [182, 0, 115, 162, 0, 19, 42, 42, 28, 182, 0, 211, 133, 182, 0, 229, 132, 2, 1, 167, 255, 230, 3, 61]
abbrev dktX5_mixSome_5 : List UInt8 := dkwX5_mixSome_5 ++ dktX5_mixSome_6
def dkwX5_mixSome_4 : List UInt8 := [180, 0, 35, 28, 46, 133, 182, 0, 229, 132, 2, 1, 167, 255, 234, 3, 61, 28, 6, 162, 0, 27, 28, 42]
abbrev dktX5_mixSome_4 : List UInt8 := dkwX5_mixSome_4 ++ dktX5_mixSome_5
def dkwX5_mixSome_3 : List UInt8 := [182, 0, 229, 42, 16, 40, 182, 0, 205, 60, 3, 61, 28, 42, 180, 0, 82, 162, 0, 20, 42, 42]
abbrev dktX5_mixSome_3 : List UInt8 := dkwX5_mixSome_3 ++ dktX5_mixSome_4
def dkwX5_mixSome_2 : List UInt8 := [42, 42, 27, 182, 0, 205, 133, 182, 0, 229, 132, 1, 1, 167, 255, 238, 42, 42, 182, 0, 208, 133]
abbrev dktX5_mixSome_2 : List UInt8 := dkwX5_mixSome_2 ++ dktX5_mixSome_3
def dkwX5_mixSome_1 : List UInt8 := [182, 0, 236, 133, 182, 0, 229, 42, 42, 6, 182, 0, 236, 133, 182, 0, 229, 4, 60, 27, 7, 162, 0, 19]
abbrev dktX5_mixSome_1 : List UInt8 := dkwX5_mixSome_1 ++ dktX5_mixSome_2
def dkwX5_mixSome_0 : List UInt8 := [42, 42, 6, 182, 0, 233, 133, 182, 0, 229, 42, 42, 16, 12, 182, 0, 233, 133, 182, 0, 229, 42, 42, 5]
abbrev dktX5_mixSome_0 : List UInt8 := dkwX5_mixSome_0 ++ dktX5_mixSome_1
theorem dksX5_mixSome_0 : cX5_mixSome.data.toList.drop 0 = dktX5_mixSome_0 := by decide +kernel
theorem dksX5_mixSome_1 : cX5_mixSome.data.toList.drop 24 = dktX5_mixSome_1 := dk_seg dksX5_mixSome_0 24 rfl rfl
theorem dksX5_mixSome_2 : cX5_mixSome.data.toList.drop 48 = dktX5_mixSome_2 := dk_seg dksX5_mixSome_1 24 rfl rfl
theorem dksX5_mixSome_3 : cX5_mixSome.data.toList.drop 70 = dktX5_mixSome_3 := dk_seg dksX5_mixSome_2 22 rfl rfl
theorem dksX5_mixSome_4 : cX5_mixSome.data.toList.drop 92 = dktX5_mixSome_4 := dk_seg dksX5_mixSome_3 22 rfl rfl
theorem dksX5_mixSome_5 : cX5_mixSome.data.toList.drop 116 = dktX5_mixSome_5 := dk_seg dksX5_mixSome_4 24 rfl rfl
theorem dksX5_mixSome_6 : cX5_mixSome.data.toList.drop 140 = dktX5_mixSome_6 := dk_seg dksX5_mixSome_5 24 rfl rfl
theorem dksX5_mixSome_7 : cX5_mixSome.data.toList.drop 164 = dktX5_mixSome_7 := dk_seg dksX5_mixSome_6 24 rfl rfl
theorem dksX5_mixSome_8 : cX5_mixSome.data.toList.drop 188 = dktX5_mixSome_8 := dk_seg dksX5_mixSome_7 24 rfl rfl
theorem dX5_mixSome_0 : decode cX5_mixSome 0 = .ok (.aload_n 0, 1) := dk_42 (dk_at dksX5_mixSome_0 0 rfl rfl)
theorem dX5_mixSome_1 : decode cX5_mixSome 1 = .ok (.aload_n 0, 1) := dk_42 (dk_at dksX5_mixSome_0 1 rfl rfl)
theorem dX5_mixSome_2 : decode cX5_mixSome 2 = .ok (.iconst 3, 1) := dk_6 (dk_at dksX5_mixSome_0 2 rfl rfl)
theorem dX5_mixSome_3 : decode cX5_mixSome 3 = .ok (.invokevirtual 233, 3) := dk_182 0 233 (dk_at dksX5_mixSome_0 3 rfl rfl)
theorem dX5_mixSome_6 : decode cX5_mixSome 6 = .ok (.i2l, 1) := dk_133 (dk_at dksX5_mixSome_0 6 rfl rfl)
theorem dX5_mixSome_7 : decode cX5_mixSome 7 = .ok (.invokevirtual 229, 3) := dk_182 0 229 (dk_at dksX5_mixSome_0 7 rfl rfl)
theorem dX5_mixSome_10 : decode cX5_mixSome 10 = .ok (.aload_n 0, 1) := dk_42 (dk_at dksX5_mixSome_0 10 rfl rfl)
theorem dX5_mixSome_11 : decode cX5_mixSome 11 = .ok (.aload_n 0, 1) := dk_42 (dk_at dksX5_mixSome_0 11 rfl rfl)
theorem dX5_mixSome_12 : decode cX5_mixSome 12 = .ok (.bipush 12, 2) := dk_16 12 (dk_at dksX5_mixSome_0 12 rfl rfl)
theorem dX5_mixSome_14 : decode cX5_mixSome 14 = .ok (.invokevirtual 233, 3) := dk_182 0 233 (dk_at dksX5_mixSome_0 14 rfl rfl)
theorem dX5_mixSome_17 : decode cX5_mixSome 17 = .ok (.i2l, 1) := dk_133 (dk_at dksX5_mixSome_0 17 rfl rfl)
theorem dX5_mixSome_18 : decode cX5_mixSome 18 = .ok (.invokevirtual 229, 3) := dk_182 0 229 (dk_at dksX5_mixSome_0 18 rfl rfl)
theorem dX5_mixSome_21 : decode cX5_mixSome 21 = .ok (.aload_n 0, 1) := dk_42 (dk_at dksX5_mixSome_0 21 rfl rfl)
theorem dX5_mixSome_22 : decode cX5_mixSome 22 = .ok (.aload_n 0, 1) := dk_42 (dk_at dksX5_mixSome_0 22 rfl rfl)
theorem dX5_mixSome_23 : decode cX5_mixSome 23 = .ok (.iconst 2, 1) := dk_5 (dk_at dksX5_mixSome_0 23 rfl rfl)
theorem dX5_mixSome_24 : decode cX5_mixSome 24 = .ok (.invokevirtual 236, 3) := dk_182 0 236 (dk_at dksX5_mixSome_1 0 rfl rfl)
theorem dX5_mixSome_27 : decode cX5_mixSome 27 = .ok (.i2l, 1) := dk_133 (dk_at dksX5_mixSome_1 3 rfl rfl)
theorem dX5_mixSome_28 : decode cX5_mixSome 28 = .ok (.invokevirtual 229, 3) := dk_182 0 229 (dk_at dksX5_mixSome_1 4 rfl rfl)
theorem dX5_mixSome_31 : decode cX5_mixSome 31 = .ok (.aload_n 0, 1) := dk_42 (dk_at dksX5_mixSome_1 7 rfl rfl)
theorem dX5_mixSome_32 : decode cX5_mixSome 32 = .ok (.aload_n 0, 1) := dk_42 (dk_at dksX5_mixSome_1 8 rfl rfl)
theorem dX5_mixSome_33 : decode cX5_mixSome 33 = .ok (.iconst 3, 1) := dk_6 (dk_at dksX5_mixSome_1 9 rfl rfl)
theorem dX5_mixSome_34 : decode cX5_mixSome 34 = .ok (.invokevirtual 236, 3) := dk_182 0 236 (dk_at dksX5_mixSome_1 10 rfl rfl)
theorem dX5_mixSome_37 : decode cX5_mixSome 37 = .ok (.i2l, 1) := dk_133 (dk_at dksX5_mixSome_1 13 rfl rfl)
theorem dX5_mixSome_38 : decode cX5_mixSome 38 = .ok (.invokevirtual 229, 3) := dk_182 0 229 (dk_at dksX5_mixSome_1 14 rfl rfl)
theorem dX5_mixSome_41 : decode cX5_mixSome 41 = .ok (.iconst 1, 1) := dk_4 (dk_at dksX5_mixSome_1 17 rfl rfl)
theorem dX5_mixSome_42 : decode cX5_mixSome 42 = .ok (.istore_n 1, 1) := dk_60 (dk_at dksX5_mixSome_1 18 rfl rfl)
theorem dX5_mixSome_43 : decode cX5_mixSome 43 = .ok (.iload_n 1, 1) := dk_27 (dk_at dksX5_mixSome_1 19 rfl rfl)
theorem dX5_mixSome_44 : decode cX5_mixSome 44 = .ok (.iconst 4, 1) := dk_7 (dk_at dksX5_mixSome_1 20 rfl rfl)
theorem dX5_mixSome_45 : decode cX5_mixSome 45 = .ok (.if_icmp .ge 19, 3) := dk_162 0 19 (dk_at dksX5_mixSome_1 21 rfl rfl)
theorem dX5_mixSome_48 : decode cX5_mixSome 48 = .ok (.aload_n 0, 1) := dk_42 (dk_at dksX5_mixSome_2 0 rfl rfl)
theorem dX5_mixSome_49 : decode cX5_mixSome 49 = .ok (.aload_n 0, 1) := dk_42 (dk_at dksX5_mixSome_2 1 rfl rfl)
theorem dX5_mixSome_50 : decode cX5_mixSome 50 = .ok (.iload_n 1, 1) := dk_27 (dk_at dksX5_mixSome_2 2 rfl rfl)
theorem dX5_mixSome_51 : decode cX5_mixSome 51 = .ok (.invokevirtual 205, 3) := dk_182 0 205 (dk_at dksX5_mixSome_2 3 rfl rfl)
theorem dX5_mixSome_54 : decode cX5_mixSome 54 = .ok (.i2l, 1) := dk_133 (dk_at dksX5_mixSome_2 6 rfl rfl)
theorem dX5_mixSome_55 : decode cX5_mixSome 55 = .ok (.invokevirtual 229, 3) := dk_182 0 229 (dk_at dksX5_mixSome_2 7 rfl rfl)
theorem dX5_mixSome_58 : decode cX5_mixSome 58 = .ok (.iinc 1 1, 3) := dk_132 1 1 (dk_at dksX5_mixSome_2 10 rfl rfl)
theorem dX5_mixSome_61 : decode cX5_mixSome 61 = .ok (.goto (-18), 3) := dk_167 255 238 (dk_at dksX5_mixSome_2 13 rfl rfl)
theorem dX5_mixSome_64 : decode cX5_mixSome 64 = .ok (.aload_n 0, 1) := dk_42 (dk_at dksX5_mixSome_2 16 rfl rfl)
theorem dX5_mixSome_65 : decode cX5_mixSome 65 = .ok (.aload_n 0, 1) := dk_42 (dk_at dksX5_mixSome_2 17 rfl rfl)
theorem dX5_mixSome_66 : decode cX5_mixSome 66 = .ok (.invokevirtual 208, 3) := dk_182 0 208 (dk_at dksX5_mixSome_2 18 rfl rfl)
theorem dX5_mixSome_69 : decode cX5_mixSome 69 = .ok (.i2l, 1) := dk_133 (dk_at dksX5_mixSome_2 21 rfl rfl)
theorem dX5_mixSome_70 : decode cX5_mixSome 70 = .ok (.invokevirtual 229, 3) := dk_182 0 229 (dk_at dksX5_mixSome_3 0 rfl rfl)
theorem dX5_mixSome_73 : decode cX5_mixSome 73 = .ok (.aload_n 0, 1) := dk_42 (dk_at dksX5_mixSome_3 3 rfl rfl)
theorem dX5_mixSome_74 : decode cX5_mixSome 74 = .ok (.bipush 40, 2) := dk_16 40 (dk_at dksX5_mixSome_3 4 rfl rfl)
theorem dX5_mixSome_76 : decode cX5_mixSome 76 = .ok (.invokevirtual 205, 3) := dk_182 0 205 (dk_at dksX5_mixSome_3 6 rfl rfl)
theorem dX5_mixSome_79 : decode cX5_mixSome 79 = .ok (.istore_n 1, 1) := dk_60 (dk_at dksX5_mixSome_3 9 rfl rfl)
theorem dX5_mixSome_80 : decode cX5_mixSome 80 = .ok (.iconst 0, 1) := dk_3 (dk_at dksX5_mixSome_3 10 rfl rfl)
theorem dX5_mixSome_81 : decode cX5_mixSome 81 = .ok (.istore_n 2, 1) := dk_61 (dk_at dksX5_mixSome_3 11 rfl rfl)
theorem dX5_mixSome_82 : decode cX5_mixSome 82 = .ok (.iload_n 2, 1) := dk_28 (dk_at dksX5_mixSome_3 12 rfl rfl)
theorem dX5_mixSome_83 : decode cX5_mixSome 83 = .ok (.aload_n 0, 1) := dk_42 (dk_at dksX5_mixSome_3 13 rfl rfl)
theorem dX5_mixSome_84 : decode cX5_mixSome 84 = .ok (.getfield 82, 3) := dk_180 0 82 (dk_at dksX5_mixSome_3 14 rfl rfl)
theorem dX5_mixSome_87 : decode cX5_mixSome 87 = .ok (.if_icmp .ge 20, 3) := dk_162 0 20 (dk_at dksX5_mixSome_3 17 rfl rfl)
theorem dX5_mixSome_90 : decode cX5_mixSome 90 = .ok (.aload_n 0, 1) := dk_42 (dk_at dksX5_mixSome_3 20 rfl rfl)
theorem dX5_mixSome_91 : decode cX5_mixSome 91 = .ok (.aload_n 0, 1) := dk_42 (dk_at dksX5_mixSome_3 21 rfl rfl)
theorem dX5_mixSome_92 : decode cX5_mixSome 92 = .ok (.getfield 35, 3) := dk_180 0 35 (dk_at dksX5_mixSome_4 0 rfl rfl)
theorem dX5_mixSome_95 : decode cX5_mixSome 95 = .ok (.iload_n 2, 1) := dk_28 (dk_at dksX5_mixSome_4 3 rfl rfl)
theorem dX5_mixSome_96 : decode cX5_mixSome 96 = .ok (.iaload, 1) := dk_46 (dk_at dksX5_mixSome_4 4 rfl rfl)
theorem dX5_mixSome_97 : decode cX5_mixSome 97 = .ok (.i2l, 1) := dk_133 (dk_at dksX5_mixSome_4 5 rfl rfl)
theorem dX5_mixSome_98 : decode cX5_mixSome 98 = .ok (.invokevirtual 229, 3) := dk_182 0 229 (dk_at dksX5_mixSome_4 6 rfl rfl)
theorem dX5_mixSome_101 : decode cX5_mixSome 101 = .ok (.iinc 2 1, 3) := dk_132 2 1 (dk_at dksX5_mixSome_4 9 rfl rfl)
theorem dX5_mixSome_104 : decode cX5_mixSome 104 = .ok (.goto (-22), 3) := dk_167 255 234 (dk_at dksX5_mixSome_4 12 rfl rfl)
theorem dX5_mixSome_107 : decode cX5_mixSome 107 = .ok (.iconst 0, 1) := dk_3 (dk_at dksX5_mixSome_4 15 rfl rfl)
theorem dX5_mixSome_108 : decode cX5_mixSome 108 = .ok (.istore_n 2, 1) := dk_61 (dk_at dksX5_mixSome_4 16 rfl rfl)
theorem dX5_mixSome_109 : decode cX5_mixSome 109 = .ok (.iload_n 2, 1) := dk_28 (dk_at dksX5_mixSome_4 17 rfl rfl)
theorem dX5_mixSome_110 : decode cX5_mixSome 110 = .ok (.iconst 3, 1) := dk_6 (dk_at dksX5_mixSome_4 18 rfl rfl)
theorem dX5_mixSome_111 : decode cX5_mixSome 111 = .ok (.if_icmp .ge 27, 3) := dk_162 0 27 (dk_at dksX5_mixSome_4 19 rfl rfl)
theorem dX5_mixSome_114 : decode cX5_mixSome 114 = .ok (.iload_n 2, 1) := dk_28 (dk_at dksX5_mixSome_4 22 rfl rfl)
theorem dX5_mixSome_115 : decode cX5_mixSome 115 = .ok (.aload_n 0, 1) := dk_42 (dk_at dksX5_mixSome_4 23 rfl rfl)
theorem dX5_mixSome_116 : decode cX5_mixSome 116 = .ok (.invokevirtual 115, 3) := dk_182 0 115 (dk_at dksX5_mixSome_5 0 rfl rfl)
theorem dX5_mixSome_119 : decode cX5_mixSome 119 = .ok (.if_icmp .ge 19, 3) := dk_162 0 19 (dk_at dksX5_mixSome_5 3 rfl rfl)
theorem dX5_mixSome_122 : decode cX5_mixSome 122 = .ok (.aload_n 0, 1) := dk_42 (dk_at dksX5_mixSome_5 6 rfl rfl)
theorem dX5_mixSome_123 : decode cX5_mixSome 123 = .ok (.aload_n 0, 1) := dk_42 (dk_at dksX5_mixSome_5 7 rfl rfl)
theorem dX5_mixSome_124 : decode cX5_mixSome 124 = .ok (.iload_n 2, 1) := dk_28 (dk_at dksX5_mixSome_5 8 rfl rfl)
theorem dX5_mixSome_125 : decode cX5_mixSome 125 = .ok (.invokevirtual 211, 3) := dk_182 0 211 (dk_at dksX5_mixSome_5 9 rfl rfl)
theorem dX5_mixSome_128 : decode cX5_mixSome 128 = .ok (.i2l, 1) := dk_133 (dk_at dksX5_mixSome_5 12 rfl rfl)
theorem dX5_mixSome_129 : decode cX5_mixSome 129 = .ok (.invokevirtual 229, 3) := dk_182 0 229 (dk_at dksX5_mixSome_5 13 rfl rfl)
theorem dX5_mixSome_132 : decode cX5_mixSome 132 = .ok (.iinc 2 1, 3) := dk_132 2 1 (dk_at dksX5_mixSome_5 16 rfl rfl)
theorem dX5_mixSome_135 : decode cX5_mixSome 135 = .ok (.goto (-26), 3) := dk_167 255 230 (dk_at dksX5_mixSome_5 19 rfl rfl)
theorem dX5_mixSome_138 : decode cX5_mixSome 138 = .ok (.iconst 0, 1) := dk_3 (dk_at dksX5_mixSome_5 22 rfl rfl)
theorem dX5_mixSome_139 : decode cX5_mixSome 139 = .ok (.istore_n 2, 1) := dk_61 (dk_at dksX5_mixSome_5 23 rfl rfl)
theorem dX5_mixSome_140 : decode cX5_mixSome 140 = .ok (.iload_n 2, 1) := dk_28 (dk_at dksX5_mixSome_6 0 rfl rfl)
theorem dX5_mixSome_141 : decode cX5_mixSome 141 = .ok (.iconst 4, 1) := dk_7 (dk_at dksX5_mixSome_6 1 rfl rfl)
theorem dX5_mixSome_142 : decode cX5_mixSome 142 = .ok (.if_icmp .ge 62, 3) := dk_162 0 62 (dk_at dksX5_mixSome_6 2 rfl rfl)
theorem dX5_mixSome_145 : decode cX5_mixSome 145 = .ok (.iload_n 2, 1) := dk_28 (dk_at dksX5_mixSome_6 5 rfl rfl)
theorem dX5_mixSome_146 : decode cX5_mixSome 146 = .ok (.iconst 1, 1) := dk_4 (dk_at dksX5_mixSome_6 6 rfl rfl)
theorem dX5_mixSome_147 : decode cX5_mixSome 147 = .ok (.iadd, 1) := dk_96 (dk_at dksX5_mixSome_6 7 rfl rfl)
theorem dX5_mixSome_148 : decode cX5_mixSome 148 = .ok (.istore_n 3, 1) := dk_62 (dk_at dksX5_mixSome_6 8 rfl rfl)
theorem dX5_mixSome_149 : decode cX5_mixSome 149 = .ok (.iload_n 3, 1) := dk_29 (dk_at dksX5_mixSome_6 9 rfl rfl)
theorem dX5_mixSome_150 : decode cX5_mixSome 150 = .ok (.iconst 4, 1) := dk_7 (dk_at dksX5_mixSome_6 10 rfl rfl)
theorem dX5_mixSome_151 : decode cX5_mixSome 151 = .ok (.if_icmp .ge 47, 3) := dk_162 0 47 (dk_at dksX5_mixSome_6 11 rfl rfl)
theorem dX5_mixSome_154 : decode cX5_mixSome 154 = .ok (.aload_n 0, 1) := dk_42 (dk_at dksX5_mixSome_6 14 rfl rfl)
theorem dX5_mixSome_155 : decode cX5_mixSome 155 = .ok (.iload_n 2, 1) := dk_28 (dk_at dksX5_mixSome_6 15 rfl rfl)
theorem dX5_mixSome_156 : decode cX5_mixSome 156 = .ok (.invokevirtual 49, 3) := dk_182 0 49 (dk_at dksX5_mixSome_6 16 rfl rfl)
theorem dX5_mixSome_159 : decode cX5_mixSome 159 = .ok (.ifCond .eq 33, 3) := dk_153 0 33 (dk_at dksX5_mixSome_6 19 rfl rfl)
theorem dX5_mixSome_162 : decode cX5_mixSome 162 = .ok (.aload_n 0, 1) := dk_42 (dk_at dksX5_mixSome_6 22 rfl rfl)
theorem dX5_mixSome_163 : decode cX5_mixSome 163 = .ok (.iload_n 3, 1) := dk_29 (dk_at dksX5_mixSome_6 23 rfl rfl)
theorem dX5_mixSome_164 : decode cX5_mixSome 164 = .ok (.invokevirtual 49, 3) := dk_182 0 49 (dk_at dksX5_mixSome_7 0 rfl rfl)
theorem dX5_mixSome_167 : decode cX5_mixSome 167 = .ok (.ifCond .eq 25, 3) := dk_153 0 25 (dk_at dksX5_mixSome_7 3 rfl rfl)
theorem dX5_mixSome_170 : decode cX5_mixSome 170 = .ok (.aload_n 0, 1) := dk_42 (dk_at dksX5_mixSome_7 6 rfl rfl)
theorem dX5_mixSome_171 : decode cX5_mixSome 171 = .ok (.iload_n 2, 1) := dk_28 (dk_at dksX5_mixSome_7 7 rfl rfl)
theorem dX5_mixSome_172 : decode cX5_mixSome 172 = .ok (.iload_n 3, 1) := dk_29 (dk_at dksX5_mixSome_7 8 rfl rfl)
theorem dX5_mixSome_173 : decode cX5_mixSome 173 = .ok (.invokevirtual 214, 3) := dk_182 0 214 (dk_at dksX5_mixSome_7 9 rfl rfl)
theorem dX5_mixSome_176 : decode cX5_mixSome 176 = .ok (.istore 4, 2) := dk_54 4 (dk_at dksX5_mixSome_7 12 rfl rfl)
theorem dX5_mixSome_178 : decode cX5_mixSome 178 = .ok (.aload_n 0, 1) := dk_42 (dk_at dksX5_mixSome_7 14 rfl rfl)
theorem dX5_mixSome_179 : decode cX5_mixSome 179 = .ok (.iload 4, 2) := dk_21 4 (dk_at dksX5_mixSome_7 15 rfl rfl)
theorem dX5_mixSome_181 : decode cX5_mixSome 181 = .ok (.i2l, 1) := dk_133 (dk_at dksX5_mixSome_7 17 rfl rfl)
theorem dX5_mixSome_182 : decode cX5_mixSome 182 = .ok (.invokevirtual 229, 3) := dk_182 0 229 (dk_at dksX5_mixSome_7 18 rfl rfl)
theorem dX5_mixSome_185 : decode cX5_mixSome 185 = .ok (.aload_n 0, 1) := dk_42 (dk_at dksX5_mixSome_7 21 rfl rfl)
theorem dX5_mixSome_186 : decode cX5_mixSome 186 = .ok (.iload 4, 2) := dk_21 4 (dk_at dksX5_mixSome_7 22 rfl rfl)
theorem dX5_mixSome_188 : decode cX5_mixSome 188 = .ok (.i2l, 1) := dk_133 (dk_at dksX5_mixSome_8 0 rfl rfl)
theorem dX5_mixSome_189 : decode cX5_mixSome 189 = .ok (.invokevirtual 229, 3) := dk_182 0 229 (dk_at dksX5_mixSome_8 1 rfl rfl)
theorem dX5_mixSome_192 : decode cX5_mixSome 192 = .ok (.iinc 3 1, 3) := dk_132 3 1 (dk_at dksX5_mixSome_8 4 rfl rfl)
theorem dX5_mixSome_195 : decode cX5_mixSome 195 = .ok (.goto (-46), 3) := dk_167 255 210 (dk_at dksX5_mixSome_8 7 rfl rfl)
theorem dX5_mixSome_198 : decode cX5_mixSome 198 = .ok (.iinc 2 1, 3) := dk_132 2 1 (dk_at dksX5_mixSome_8 10 rfl rfl)
theorem dX5_mixSome_201 : decode cX5_mixSome 201 = .ok (.goto (-61), 3) := dk_167 255 195 (dk_at dksX5_mixSome_8 13 rfl rfl)
theorem dX5_mixSome_204 : decode cX5_mixSome 204 = .ok (.return_, 1) := dk_177 (dk_at dksX5_mixSome_8 16 rfl rfl)
theorem q111 : (Jvm.Cond.initialized "OfferSkyModel") ∈ lw_all := lw_g (lw_at lw_m1 13 rfl) rfl
theorem q398 : (Jvm.Cond.selects "OfferSkyModel" ({ cls := "java/lang/Object", name := "getClass", desc := "()Ljava/lang/Class;" } : Jvm.MethodName) ({ cls := "java/lang/Object", name := "getClass", desc := "()Ljava/lang/Class;" } : Jvm.MethodName)) ∈ lw_all := lw_g (lw_at lw_m2 60 rfl) rfl
theorem q1814 : (Jvm.Cond.instantiable "OfferSkyModel" (17 : Nat)) ∈ lw_all := lw_g (lw_at lw_m8 36 rfl) rfl
theorem q1816 : (Jvm.Cond.instanceMethod ({ cls := "OfferSkyModel", name := "<init>", desc := "()V" } : Jvm.MethodName)) ∈ lw_all := lw_g (lw_at lw_m8 38 rfl) rfl
theorem q1817 : (Jvm.Cond.code ({ cls := "OfferSkyModel", name := "<init>", desc := "()V" } : Jvm.MethodName) prog_10_method_1_code (2 : Nat) (Option.none : Option Jvm.ClassFile.FieldType)) ∈ lw_all := lw_g (lw_at lw_m8 39 rfl) rfl
theorem q1818 : (Jvm.Cond.methodLink "OfferSkyModel" (1 : Nat) ({ cls := "java/lang/Object", name := "<init>", desc := "()V" } : Jvm.MethodName)) ∈ lw_all := lw_g (lw_at lw_m8 40 rfl) rfl
theorem q1819 : (Jvm.Cond.fieldLink "OfferSkyModel" (7 : Nat) "OfferSkyModel" "row" "[I") ∈ lw_all := lw_g (lw_at lw_m8 41 rfl) rfl
theorem q1820 : (Jvm.Cond.fieldLink "OfferSkyModel" (13 : Nat) "OfferSkyModel" "trial" "[I") ∈ lw_all := lw_g (lw_at lw_m8 42 rfl) rfl
theorem q1821 : (Jvm.Cond.fieldLink "OfferSkyModel" (16 : Nat) "OfferSkyModel" "past" "[I") ∈ lw_all := lw_g (lw_at lw_m8 43 rfl) rfl
theorem q1822 : (Jvm.Cond.fieldLink "OfferSkyModel" (19 : Nat) "OfferSkyModel" "slots" "[I") ∈ lw_all := lw_g (lw_at lw_m8 44 rfl) rfl
theorem q1823 : (Jvm.Cond.fieldLink "OfferSkyModel" (22 : Nat) "OfferSkyModel" "buffer" "[I") ∈ lw_all := lw_g (lw_at lw_m8 45 rfl) rfl
theorem q1824 : (Jvm.Cond.fieldLink "OfferSkyModel" (25 : Nat) "OfferSkyModel" "told" "[Z") ∈ lw_all := lw_g (lw_at lw_m8 46 rfl) rfl
theorem q1825 : (Jvm.Cond.fieldLink "OfferSkyModel" (29 : Nat) "OfferSkyModel" "covered" "[Z") ∈ lw_all := lw_g (lw_at lw_m8 47 rfl) rfl
theorem q1826 : (Jvm.Cond.fieldLink "OfferSkyModel" (32 : Nat) "OfferSkyModel" "layer" "[I") ∈ lw_all := lw_g (lw_at lw_m8 48 rfl) rfl
theorem q1827 : (Jvm.Cond.fieldLink "OfferSkyModel" (35 : Nat) "OfferSkyModel" "taken" "[I") ∈ lw_all := lw_g (lw_at lw_m8 49 rfl) rfl
theorem q1828 : (Jvm.Cond.fieldLink "OfferSkyModel" (82 : Nat) "OfferSkyModel" "takenMany" "I") ∈ lw_all := lw_g (lw_at lw_m8 50 rfl) rfl
theorem q1829 : (Jvm.Cond.fieldLink "OfferSkyModel" (155 : Nat) "OfferSkyModel" "hasFirst" "Z") ∈ lw_all := lw_g (lw_at lw_m8 51 rfl) rfl
theorem q1830 : (Jvm.Cond.fieldLink "OfferSkyModel" (159 : Nat) "OfferSkyModel" "hasSecond" "Z") ∈ lw_all := lw_g (lw_at lw_m8 52 rfl) rfl
theorem q1831 : (Jvm.Cond.fieldLink "OfferSkyModel" (46 : Nat) "OfferSkyModel" "states" "I") ∈ lw_all := lw_g (lw_at lw_m8 53 rfl) rfl
theorem q1832 : (Jvm.Cond.fieldLink "OfferSkyModel" (118 : Nat) "OfferSkyModel" "length" "I") ∈ lw_all := lw_g (lw_at lw_m8 54 rfl) rfl
theorem q1833 : (Jvm.Cond.fieldLink "OfferSkyModel" (121 : Nat) "OfferSkyModel" "at" "I") ∈ lw_all := lw_g (lw_at lw_m8 55 rfl) rfl
theorem q1834 : (Jvm.Cond.fieldLink "OfferSkyModel" (38 : Nat) "OfferSkyModel" "thrown" "I") ∈ lw_all := lw_g (lw_at lw_m8 56 rfl) rfl
theorem q1835 : (Jvm.Cond.fieldLink "OfferSkyModel" (225 : Nat) "OfferSkyModel" "hash" "J") ∈ lw_all := lw_g (lw_at lw_m8 57 rfl) rfl
theorem q1836 : (Jvm.Cond.laysFinal "OfferSkyModel" "OfferSkyModel" "row" "[I") ∈ lw_all := lw_g (lw_at lw_m8 58 rfl) rfl
theorem q1837 : (Jvm.Cond.soleField "OfferSkyModel" "row") ∈ lw_all := lw_g (lw_at lw_m8 59 rfl) rfl
theorem q1838 : (Jvm.Cond.laysFinal "OfferSkyModel" "OfferSkyModel" "trial" "[I") ∈ lw_all := lw_g (lw_at lw_m8 60 rfl) rfl
theorem q1839 : (Jvm.Cond.soleField "OfferSkyModel" "trial") ∈ lw_all := lw_g (lw_at lw_m8 61 rfl) rfl
theorem q1840 : (Jvm.Cond.laysFinal "OfferSkyModel" "OfferSkyModel" "past" "[I") ∈ lw_all := lw_g (lw_at lw_m8 62 rfl) rfl
theorem q1841 : (Jvm.Cond.soleField "OfferSkyModel" "past") ∈ lw_all := lw_g (lw_at lw_m8 63 rfl) rfl
theorem q1842 : (Jvm.Cond.laysFinal "OfferSkyModel" "OfferSkyModel" "slots" "[I") ∈ lw_all := lw_g (lw_at lw_m8 64 rfl) rfl
theorem q1843 : (Jvm.Cond.soleField "OfferSkyModel" "slots") ∈ lw_all := lw_g (lw_at lw_m8 65 rfl) rfl
theorem q1844 : (Jvm.Cond.laysFinal "OfferSkyModel" "OfferSkyModel" "buffer" "[I") ∈ lw_all := lw_g (lw_at lw_m8 66 rfl) rfl
theorem q1845 : (Jvm.Cond.soleField "OfferSkyModel" "buffer") ∈ lw_all := lw_g (lw_at lw_m8 67 rfl) rfl
theorem q1846 : (Jvm.Cond.laysFinal "OfferSkyModel" "OfferSkyModel" "told" "[Z") ∈ lw_all := lw_g (lw_at lw_m8 68 rfl) rfl
theorem q1847 : (Jvm.Cond.soleField "OfferSkyModel" "told") ∈ lw_all := lw_g (lw_at lw_m8 69 rfl) rfl
theorem q1848 : (Jvm.Cond.laysFinal "OfferSkyModel" "OfferSkyModel" "covered" "[Z") ∈ lw_all := lw_g (lw_at lw_m8 70 rfl) rfl
theorem q1849 : (Jvm.Cond.soleField "OfferSkyModel" "covered") ∈ lw_all := lw_g (lw_at lw_m8 71 rfl) rfl
theorem q1850 : (Jvm.Cond.laysFinal "OfferSkyModel" "OfferSkyModel" "layer" "[I") ∈ lw_all := lw_g (lw_at lw_m8 72 rfl) rfl
theorem q1851 : (Jvm.Cond.soleField "OfferSkyModel" "layer") ∈ lw_all := lw_g (lw_at lw_m8 73 rfl) rfl
theorem q1852 : (Jvm.Cond.laysFinal "OfferSkyModel" "OfferSkyModel" "taken" "[I") ∈ lw_all := lw_g (lw_at lw_m8 74 rfl) rfl
theorem q1853 : (Jvm.Cond.soleField "OfferSkyModel" "taken") ∈ lw_all := lw_g (lw_at lw_m8 75 rfl) rfl
theorem q1854 : (Jvm.Cond.lays "OfferSkyModel" "OfferSkyModel" "takenMany" "I") ∈ lw_all := lw_g (lw_at lw_m8 76 rfl) rfl
theorem q1855 : (Jvm.Cond.soleField "OfferSkyModel" "takenMany") ∈ lw_all := lw_g (lw_at lw_m8 77 rfl) rfl
theorem q1856 : (Jvm.Cond.lays "OfferSkyModel" "OfferSkyModel" "hasFirst" "Z") ∈ lw_all := lw_g (lw_at lw_m8 78 rfl) rfl
theorem q1857 : (Jvm.Cond.soleField "OfferSkyModel" "hasFirst") ∈ lw_all := lw_g (lw_at lw_m8 79 rfl) rfl
theorem q1858 : (Jvm.Cond.lays "OfferSkyModel" "OfferSkyModel" "hasSecond" "Z") ∈ lw_all := lw_g (lw_at lw_m8 80 rfl) rfl
theorem q1859 : (Jvm.Cond.soleField "OfferSkyModel" "hasSecond") ∈ lw_all := lw_g (lw_at lw_m8 81 rfl) rfl
theorem q1860 : (Jvm.Cond.lays "OfferSkyModel" "OfferSkyModel" "states" "I") ∈ lw_all := lw_g (lw_at lw_m8 82 rfl) rfl
theorem q1861 : (Jvm.Cond.soleField "OfferSkyModel" "states") ∈ lw_all := lw_g (lw_at lw_m8 83 rfl) rfl
theorem q1862 : (Jvm.Cond.lays "OfferSkyModel" "OfferSkyModel" "length" "I") ∈ lw_all := lw_g (lw_at lw_m8 84 rfl) rfl
theorem q1863 : (Jvm.Cond.soleField "OfferSkyModel" "length") ∈ lw_all := lw_g (lw_at lw_m8 85 rfl) rfl
theorem q1864 : (Jvm.Cond.lays "OfferSkyModel" "OfferSkyModel" "at" "I") ∈ lw_all := lw_g (lw_at lw_m8 86 rfl) rfl
theorem q1865 : (Jvm.Cond.soleField "OfferSkyModel" "at") ∈ lw_all := lw_g (lw_at lw_m8 87 rfl) rfl
theorem q1866 : (Jvm.Cond.lays "OfferSkyModel" "OfferSkyModel" "thrown" "I") ∈ lw_all := lw_g (lw_at lw_m8 88 rfl) rfl
theorem q1867 : (Jvm.Cond.soleField "OfferSkyModel" "thrown") ∈ lw_all := lw_g (lw_at lw_m8 89 rfl) rfl
theorem q1868 : (Jvm.Cond.lays "OfferSkyModel" "OfferSkyModel" "hash" "J") ∈ lw_all := lw_g (lw_at lw_m8 90 rfl) rfl
theorem q1869 : (Jvm.Cond.soleField "OfferSkyModel" "hash") ∈ lw_all := lw_g (lw_at lw_m8 91 rfl) rfl
theorem q1870 : (Jvm.Cond.superclass "OfferSkyModel" "java/lang/Object") ∈ lw_all := lw_g (lw_at lw_m8 92 rfl) rfl
theorem q1872 : (Jvm.Cond.instanceMethod ({ cls := "OfferSkyModel", name := "thrown", desc := "()I" } : Jvm.MethodName)) ∈ lw_all := lw_g (lw_at lw_m8 94 rfl) rfl
theorem q1873 : (Jvm.Cond.selects "OfferSkyModel" ({ cls := "OfferSkyModel", name := "thrown", desc := "()I" } : Jvm.MethodName) ({ cls := "OfferSkyModel", name := "thrown", desc := "()I" } : Jvm.MethodName)) ∈ lw_all := lw_g (lw_at lw_m8 95 rfl) rfl
theorem q1874 : (Jvm.Cond.code ({ cls := "OfferSkyModel", name := "thrown", desc := "()I" } : Jvm.MethodName) prog_10_method_2_code (1 : Nat) (Option.some Jvm.ClassFile.FieldType.int)) ∈ lw_all := lw_g (lw_at lw_m8 96 rfl) rfl
theorem q1876 : (Jvm.Cond.instanceMethod ({ cls := "OfferSkyModel", name := "add", desc := "(IIII)I" } : Jvm.MethodName)) ∈ lw_all := lw_g (lw_at lw_m8 98 rfl) rfl
theorem q1877 : (Jvm.Cond.selects "OfferSkyModel" ({ cls := "OfferSkyModel", name := "add", desc := "(IIII)I" } : Jvm.MethodName) ({ cls := "OfferSkyModel", name := "add", desc := "(IIII)I" } : Jvm.MethodName)) ∈ lw_all := lw_g (lw_at lw_m8 99 rfl) rfl
theorem q1878 : (Jvm.Cond.code ({ cls := "OfferSkyModel", name := "add", desc := "(IIII)I" } : Jvm.MethodName) prog_10_method_30_code (5 : Nat) (Option.some Jvm.ClassFile.FieldType.int)) ∈ lw_all := lw_g (lw_at lw_m8 100 rfl) rfl
theorem q1879 : (Jvm.Cond.methodLink "OfferSkyModel" (91 : Nat) ({ cls := "OfferSkyModel", name := "areNoValues", desc := "(IIII)Z" } : Jvm.MethodName)) ∈ lw_all := lw_g (lw_at lw_m8 101 rfl) rfl
theorem q1880 : (Jvm.Cond.static ({ cls := "OfferSkyModel", name := "areNoValues", desc := "(IIII)Z" } : Jvm.MethodName)) ∈ lw_all := lw_g (lw_at lw_m8 102 rfl) rfl
theorem q1881 : (Jvm.Cond.code ({ cls := "OfferSkyModel", name := "areNoValues", desc := "(IIII)Z" } : Jvm.MethodName) prog_10_method_29_code (4 : Nat) (Option.some Jvm.ClassFile.FieldType.boolean)) ∈ lw_all := lw_g (lw_at lw_m8 103 rfl) rfl
theorem q1882 : (Jvm.Cond.methodLink "OfferSkyModel" (88 : Nat) ({ cls := "OfferSkyModel", name := "isNoValue", desc := "(I)Z" } : Jvm.MethodName)) ∈ lw_all := lw_g (lw_at lw_m8 104 rfl) rfl
theorem q1883 : (Jvm.Cond.static ({ cls := "OfferSkyModel", name := "isNoValue", desc := "(I)Z" } : Jvm.MethodName)) ∈ lw_all := lw_g (lw_at lw_m8 105 rfl) rfl
theorem q1884 : (Jvm.Cond.code ({ cls := "OfferSkyModel", name := "isNoValue", desc := "(I)Z" } : Jvm.MethodName) prog_10_method_7_code (1 : Nat) (Option.some Jvm.ClassFile.FieldType.boolean)) ∈ lw_all := lw_g (lw_at lw_m8 106 rfl) rfl
theorem q1885 : (Jvm.Cond.methodLink "OfferSkyModel" (42 : Nat) ({ cls := "OfferSkyModel", name := "in", desc := "(III)Z" } : Jvm.MethodName)) ∈ lw_all := lw_g (lw_at lw_m8 107 rfl) rfl
theorem q1886 : (Jvm.Cond.static ({ cls := "OfferSkyModel", name := "in", desc := "(III)Z" } : Jvm.MethodName)) ∈ lw_all := lw_g (lw_at lw_m8 108 rfl) rfl
theorem q1887 : (Jvm.Cond.code ({ cls := "OfferSkyModel", name := "in", desc := "(III)Z" } : Jvm.MethodName) prog_10_method_4_code (3 : Nat) (Option.some Jvm.ClassFile.FieldType.boolean)) ∈ lw_all := lw_g (lw_at lw_m8 109 rfl) rfl
theorem q1888 : (Jvm.Cond.methodLink "OfferSkyModel" (95 : Nat) ({ cls := "OfferSkyModel", name := "record", desc := "()V" } : Jvm.MethodName)) ∈ lw_all := lw_g (lw_at lw_m8 110 rfl) rfl
theorem q1889 : (Jvm.Cond.privateMethod ({ cls := "OfferSkyModel", name := "record", desc := "()V" } : Jvm.MethodName)) ∈ lw_tbl := lw_at lw_m8 111 rfl
theorem q1890 : (Jvm.Cond.instanceMethod ({ cls := "OfferSkyModel", name := "record", desc := "()V" } : Jvm.MethodName)) ∈ lw_all := lw_g (lw_at lw_m8 112 rfl) rfl
theorem q1891 : (Jvm.Cond.code ({ cls := "OfferSkyModel", name := "record", desc := "()V" } : Jvm.MethodName) prog_10_method_8_code (2 : Nat) (Option.none : Option Jvm.ClassFile.FieldType)) ∈ lw_all := lw_g (lw_at lw_m8 113 rfl) rfl
theorem q1892 : (Jvm.Cond.methodLink "OfferSkyModel" (98 : Nat) ({ cls := "OfferSkyModel", name := "addNow", desc := "(IIII)I" } : Jvm.MethodName)) ∈ lw_all := lw_g (lw_at lw_m8 114 rfl) rfl
theorem q1893 : (Jvm.Cond.privateMethod ({ cls := "OfferSkyModel", name := "addNow", desc := "(IIII)I" } : Jvm.MethodName)) ∈ lw_tbl := lw_at lw_m8 115 rfl
theorem q1894 : (Jvm.Cond.instanceMethod ({ cls := "OfferSkyModel", name := "addNow", desc := "(IIII)I" } : Jvm.MethodName)) ∈ lw_all := lw_g (lw_at lw_m8 116 rfl) rfl
theorem q1895 : (Jvm.Cond.code ({ cls := "OfferSkyModel", name := "addNow", desc := "(IIII)I" } : Jvm.MethodName) prog_10_method_28_code (6 : Nat) (Option.some Jvm.ClassFile.FieldType.int)) ∈ lw_all := lw_g (lw_at lw_m8 117 rfl) rfl
theorem q1897 : (Jvm.Cond.instanceMethod ({ cls := "OfferSkyModel", name := "remove", desc := "(I)I" } : Jvm.MethodName)) ∈ lw_all := lw_g (lw_at lw_m8 119 rfl) rfl
theorem q1898 : (Jvm.Cond.selects "OfferSkyModel" ({ cls := "OfferSkyModel", name := "remove", desc := "(I)I" } : Jvm.MethodName) ({ cls := "OfferSkyModel", name := "remove", desc := "(I)I" } : Jvm.MethodName)) ∈ lw_all := lw_g (lw_at lw_m8 120 rfl) rfl
theorem q1899 : (Jvm.Cond.code ({ cls := "OfferSkyModel", name := "remove", desc := "(I)I" } : Jvm.MethodName) prog_10_method_32_code (2 : Nat) (Option.some Jvm.ClassFile.FieldType.int)) ∈ lw_all := lw_g (lw_at lw_m8 121 rfl) rfl
theorem q1900 : (Jvm.Cond.methodLink "OfferSkyModel" (102 : Nat) ({ cls := "OfferSkyModel", name := "isNone", desc := "(I)Z" } : Jvm.MethodName)) ∈ lw_all := lw_g (lw_at lw_m8 122 rfl) rfl
theorem q1901 : (Jvm.Cond.privateMethod ({ cls := "OfferSkyModel", name := "isNone", desc := "(I)Z" } : Jvm.MethodName)) ∈ lw_tbl := lw_at lw_m8 123 rfl
theorem q1902 : (Jvm.Cond.instanceMethod ({ cls := "OfferSkyModel", name := "isNone", desc := "(I)Z" } : Jvm.MethodName)) ∈ lw_all := lw_g (lw_at lw_m8 124 rfl) rfl
theorem q1903 : (Jvm.Cond.code ({ cls := "OfferSkyModel", name := "isNone", desc := "(I)Z" } : Jvm.MethodName) prog_10_method_5_code (2 : Nat) (Option.some Jvm.ClassFile.FieldType.boolean)) ∈ lw_all := lw_g (lw_at lw_m8 125 rfl) rfl
theorem q1904 : (Jvm.Cond.methodLink "OfferSkyModel" (105 : Nat) ({ cls := "OfferSkyModel", name := "fails", desc := "(I)I" } : Jvm.MethodName)) ∈ lw_all := lw_g (lw_at lw_m8 126 rfl) rfl
theorem q1905 : (Jvm.Cond.privateMethod ({ cls := "OfferSkyModel", name := "fails", desc := "(I)I" } : Jvm.MethodName)) ∈ lw_tbl := lw_at lw_m8 127 rfl
theorem q1906 : (Jvm.Cond.instanceMethod ({ cls := "OfferSkyModel", name := "fails", desc := "(I)I" } : Jvm.MethodName)) ∈ lw_all := lw_g (lw_at lw_m8 128 rfl) rfl
theorem q1907 : (Jvm.Cond.code ({ cls := "OfferSkyModel", name := "fails", desc := "(I)I" } : Jvm.MethodName) prog_10_method_3_code (2 : Nat) (Option.some Jvm.ClassFile.FieldType.int)) ∈ lw_all := lw_g (lw_at lw_m8 129 rfl) rfl
theorem q1908 : (Jvm.Cond.methodLink "OfferSkyModel" (108 : Nat) ({ cls := "OfferSkyModel", name := "removeNow", desc := "(I)V" } : Jvm.MethodName)) ∈ lw_all := lw_g (lw_at lw_m8 130 rfl) rfl
theorem q1909 : (Jvm.Cond.privateMethod ({ cls := "OfferSkyModel", name := "removeNow", desc := "(I)V" } : Jvm.MethodName)) ∈ lw_tbl := lw_at lw_m8 131 rfl
theorem q1910 : (Jvm.Cond.instanceMethod ({ cls := "OfferSkyModel", name := "removeNow", desc := "(I)V" } : Jvm.MethodName)) ∈ lw_all := lw_g (lw_at lw_m8 132 rfl) rfl
theorem q1911 : (Jvm.Cond.code ({ cls := "OfferSkyModel", name := "removeNow", desc := "(I)V" } : Jvm.MethodName) prog_10_method_31_code (3 : Nat) (Option.none : Option Jvm.ClassFile.FieldType)) ∈ lw_all := lw_g (lw_at lw_m8 133 rfl) rfl
theorem q1913 : (Jvm.Cond.instanceMethod ({ cls := "OfferSkyModel", name := "change", desc := "(III)I" } : Jvm.MethodName)) ∈ lw_all := lw_g (lw_at lw_m8 135 rfl) rfl
theorem q1914 : (Jvm.Cond.selects "OfferSkyModel" ({ cls := "OfferSkyModel", name := "change", desc := "(III)I" } : Jvm.MethodName) ({ cls := "OfferSkyModel", name := "change", desc := "(III)I" } : Jvm.MethodName)) ∈ lw_all := lw_g (lw_at lw_m8 136 rfl) rfl
theorem q1915 : (Jvm.Cond.code ({ cls := "OfferSkyModel", name := "change", desc := "(III)I" } : Jvm.MethodName) prog_10_method_33_code (5 : Nat) (Option.some Jvm.ClassFile.FieldType.int)) ∈ lw_all := lw_g (lw_at lw_m8 137 rfl) rfl
theorem q1916 : (Jvm.Cond.methodLink "OfferSkyModel" (112 : Nat) ({ cls := "OfferSkyModel", name := "isNoSide", desc := "(I)Z" } : Jvm.MethodName)) ∈ lw_all := lw_g (lw_at lw_m8 138 rfl) rfl
theorem q1917 : (Jvm.Cond.static ({ cls := "OfferSkyModel", name := "isNoSide", desc := "(I)Z" } : Jvm.MethodName)) ∈ lw_all := lw_g (lw_at lw_m8 139 rfl) rfl
theorem q1918 : (Jvm.Cond.code ({ cls := "OfferSkyModel", name := "isNoSide", desc := "(I)Z" } : Jvm.MethodName) prog_10_method_6_code (1 : Nat) (Option.some Jvm.ClassFile.FieldType.boolean)) ∈ lw_all := lw_g (lw_at lw_m8 140 rfl) rfl
theorem q1919 : (Jvm.Cond.methodLink "OfferSkyModel" (53 : Nat) ({ cls := "OfferSkyModel", name := "value", desc := "(II)I" } : Jvm.MethodName)) ∈ lw_all := lw_g (lw_at lw_m8 141 rfl) rfl
theorem q1920 : (Jvm.Cond.privateMethod ({ cls := "OfferSkyModel", name := "value", desc := "(II)I" } : Jvm.MethodName)) ∈ lw_tbl := lw_at lw_m8 142 rfl
theorem q1921 : (Jvm.Cond.instanceMethod ({ cls := "OfferSkyModel", name := "value", desc := "(II)I" } : Jvm.MethodName)) ∈ lw_all := lw_g (lw_at lw_m8 143 rfl) rfl
theorem q1922 : (Jvm.Cond.code ({ cls := "OfferSkyModel", name := "value", desc := "(II)I" } : Jvm.MethodName) prog_10_method_9_code (3 : Nat) (Option.some Jvm.ClassFile.FieldType.int)) ∈ lw_all := lw_g (lw_at lw_m8 144 rfl) rfl
theorem q1924 : (Jvm.Cond.instanceMethod ({ cls := "OfferSkyModel", name := "prune", desc := "()I" } : Jvm.MethodName)) ∈ lw_all := lw_g (lw_at lw_m8 146 rfl) rfl
theorem q1925 : (Jvm.Cond.selects "OfferSkyModel" ({ cls := "OfferSkyModel", name := "prune", desc := "()I" } : Jvm.MethodName) ({ cls := "OfferSkyModel", name := "prune", desc := "()I" } : Jvm.MethodName)) ∈ lw_all := lw_g (lw_at lw_m8 147 rfl) rfl
theorem q1926 : (Jvm.Cond.code ({ cls := "OfferSkyModel", name := "prune", desc := "()I" } : Jvm.MethodName) prog_10_method_34_code (3 : Nat) (Option.some Jvm.ClassFile.FieldType.int)) ∈ lw_all := lw_g (lw_at lw_m8 148 rfl) rfl
theorem q1927 : (Jvm.Cond.methodLink "OfferSkyModel" (67 : Nat) ({ cls := "OfferSkyModel", name := "mattering", desc := "()I" } : Jvm.MethodName)) ∈ lw_all := lw_g (lw_at lw_m8 149 rfl) rfl
theorem q1928 : (Jvm.Cond.privateMethod ({ cls := "OfferSkyModel", name := "mattering", desc := "()I" } : Jvm.MethodName)) ∈ lw_tbl := lw_at lw_m8 150 rfl
theorem q1929 : (Jvm.Cond.instanceMethod ({ cls := "OfferSkyModel", name := "mattering", desc := "()I" } : Jvm.MethodName)) ∈ lw_all := lw_g (lw_at lw_m8 151 rfl) rfl
theorem q1930 : (Jvm.Cond.code ({ cls := "OfferSkyModel", name := "mattering", desc := "()I" } : Jvm.MethodName) prog_10_method_11_code (3 : Nat) (Option.some Jvm.ClassFile.FieldType.int)) ∈ lw_all := lw_g (lw_at lw_m8 152 rfl) rfl
theorem q1931 : (Jvm.Cond.methodLink "OfferSkyModel" (49 : Nat) ({ cls := "OfferSkyModel", name := "matters", desc := "(I)Z" } : Jvm.MethodName)) ∈ lw_all := lw_g (lw_at lw_m8 153 rfl) rfl
theorem q1932 : (Jvm.Cond.privateMethod ({ cls := "OfferSkyModel", name := "matters", desc := "(I)Z" } : Jvm.MethodName)) ∈ lw_tbl := lw_at lw_m8 154 rfl
theorem q1933 : (Jvm.Cond.instanceMethod ({ cls := "OfferSkyModel", name := "matters", desc := "(I)Z" } : Jvm.MethodName)) ∈ lw_all := lw_g (lw_at lw_m8 155 rfl) rfl
theorem q1934 : (Jvm.Cond.code ({ cls := "OfferSkyModel", name := "matters", desc := "(I)Z" } : Jvm.MethodName) prog_10_method_10_code (2 : Nat) (Option.some Jvm.ClassFile.FieldType.boolean)) ∈ lw_all := lw_g (lw_at lw_m8 156 rfl) rfl
theorem q1935 : (Jvm.Cond.methodLink "OfferSkyModel" (78 : Nat) ({ cls := "OfferSkyModel", name := "tell", desc := "(I)I" } : Jvm.MethodName)) ∈ lw_all := lw_g (lw_at lw_m8 157 rfl) rfl
theorem q1936 : (Jvm.Cond.privateMethod ({ cls := "OfferSkyModel", name := "tell", desc := "(I)I" } : Jvm.MethodName)) ∈ lw_tbl := lw_at lw_m8 158 rfl
theorem q1937 : (Jvm.Cond.instanceMethod ({ cls := "OfferSkyModel", name := "tell", desc := "(I)I" } : Jvm.MethodName)) ∈ lw_all := lw_g (lw_at lw_m8 159 rfl) rfl
theorem q1938 : (Jvm.Cond.code ({ cls := "OfferSkyModel", name := "tell", desc := "(I)I" } : Jvm.MethodName) prog_10_method_18_code (5 : Nat) (Option.some Jvm.ClassFile.FieldType.int)) ∈ lw_all := lw_g (lw_at lw_m8 160 rfl) rfl
theorem q1939 : (Jvm.Cond.methodLink "OfferSkyModel" (57 : Nat) ({ cls := "OfferSkyModel", name := "counts", desc := "(I)Z" } : Jvm.MethodName)) ∈ lw_all := lw_g (lw_at lw_m8 161 rfl) rfl
theorem q1940 : (Jvm.Cond.privateMethod ({ cls := "OfferSkyModel", name := "counts", desc := "(I)Z" } : Jvm.MethodName)) ∈ lw_tbl := lw_at lw_m8 162 rfl
theorem q1941 : (Jvm.Cond.instanceMethod ({ cls := "OfferSkyModel", name := "counts", desc := "(I)Z" } : Jvm.MethodName)) ∈ lw_all := lw_g (lw_at lw_m8 163 rfl) rfl
theorem q1942 : (Jvm.Cond.code ({ cls := "OfferSkyModel", name := "counts", desc := "(I)Z" } : Jvm.MethodName) prog_10_method_13_code (3 : Nat) (Option.some Jvm.ClassFile.FieldType.boolean)) ∈ lw_all := lw_g (lw_at lw_m8 164 rfl) rfl
theorem q1943 : (Jvm.Cond.methodLink "OfferSkyModel" (71 : Nat) ({ cls := "OfferSkyModel", name := "isBeyond", desc := "(III)Z" } : Jvm.MethodName)) ∈ lw_all := lw_g (lw_at lw_m8 165 rfl) rfl
theorem q1944 : (Jvm.Cond.privateMethod ({ cls := "OfferSkyModel", name := "isBeyond", desc := "(III)Z" } : Jvm.MethodName)) ∈ lw_tbl := lw_at lw_m8 166 rfl
theorem q1945 : (Jvm.Cond.instanceMethod ({ cls := "OfferSkyModel", name := "isBeyond", desc := "(III)Z" } : Jvm.MethodName)) ∈ lw_all := lw_g (lw_at lw_m8 167 rfl) rfl
theorem q1946 : (Jvm.Cond.code ({ cls := "OfferSkyModel", name := "isBeyond", desc := "(III)Z" } : Jvm.MethodName) prog_10_method_16_code (4 : Nat) (Option.some Jvm.ClassFile.FieldType.boolean)) ∈ lw_all := lw_g (lw_at lw_m8 168 rfl) rfl
theorem q1947 : (Jvm.Cond.methodLink "OfferSkyModel" (63 : Nat) ({ cls := "OfferSkyModel", name := "better", desc := "(III)I" } : Jvm.MethodName)) ∈ lw_all := lw_g (lw_at lw_m8 169 rfl) rfl
theorem q1948 : (Jvm.Cond.privateMethod ({ cls := "OfferSkyModel", name := "better", desc := "(III)I" } : Jvm.MethodName)) ∈ lw_tbl := lw_at lw_m8 170 rfl
theorem q1949 : (Jvm.Cond.instanceMethod ({ cls := "OfferSkyModel", name := "better", desc := "(III)I" } : Jvm.MethodName)) ∈ lw_all := lw_g (lw_at lw_m8 171 rfl) rfl
theorem q1950 : (Jvm.Cond.code ({ cls := "OfferSkyModel", name := "better", desc := "(III)I" } : Jvm.MethodName) prog_10_method_15_code (6 : Nat) (Option.some Jvm.ClassFile.FieldType.int)) ∈ lw_all := lw_g (lw_at lw_m8 172 rfl) rfl
theorem q1951 : (Jvm.Cond.methodLink "OfferSkyModel" (60 : Nat) ({ cls := "OfferSkyModel", name := "good", desc := "(II)I" } : Jvm.MethodName)) ∈ lw_all := lw_g (lw_at lw_m8 173 rfl) rfl
theorem q1952 : (Jvm.Cond.privateMethod ({ cls := "OfferSkyModel", name := "good", desc := "(II)I" } : Jvm.MethodName)) ∈ lw_tbl := lw_at lw_m8 174 rfl
theorem q1953 : (Jvm.Cond.instanceMethod ({ cls := "OfferSkyModel", name := "good", desc := "(II)I" } : Jvm.MethodName)) ∈ lw_all := lw_g (lw_at lw_m8 175 rfl) rfl
theorem q1954 : (Jvm.Cond.code ({ cls := "OfferSkyModel", name := "good", desc := "(II)I" } : Jvm.MethodName) prog_10_method_12_code (3 : Nat) (Option.some Jvm.ClassFile.FieldType.int)) ∈ lw_all := lw_g (lw_at lw_m8 176 rfl) rfl
theorem q1956 : (Jvm.Cond.instanceMethod ({ cls := "OfferSkyModel", name := "setWish", desc := "(II)I" } : Jvm.MethodName)) ∈ lw_all := lw_g (lw_at lw_m8 178 rfl) rfl
theorem q1957 : (Jvm.Cond.selects "OfferSkyModel" ({ cls := "OfferSkyModel", name := "setWish", desc := "(II)I" } : Jvm.MethodName) ({ cls := "OfferSkyModel", name := "setWish", desc := "(II)I" } : Jvm.MethodName)) ∈ lw_all := lw_g (lw_at lw_m8 179 rfl) rfl
theorem q1958 : (Jvm.Cond.code ({ cls := "OfferSkyModel", name := "setWish", desc := "(II)I" } : Jvm.MethodName) prog_10_method_35_code (4 : Nat) (Option.some Jvm.ClassFile.FieldType.int)) ∈ lw_all := lw_g (lw_at lw_m8 180 rfl) rfl
theorem q1960 : (Jvm.Cond.instanceMethod ({ cls := "OfferSkyModel", name := "setBounds", desc := "(III)I" } : Jvm.MethodName)) ∈ lw_all := lw_g (lw_at lw_m8 182 rfl) rfl
theorem q1961 : (Jvm.Cond.selects "OfferSkyModel" ({ cls := "OfferSkyModel", name := "setBounds", desc := "(III)I" } : Jvm.MethodName) ({ cls := "OfferSkyModel", name := "setBounds", desc := "(III)I" } : Jvm.MethodName)) ∈ lw_all := lw_g (lw_at lw_m8 183 rfl) rfl
theorem q1962 : (Jvm.Cond.code ({ cls := "OfferSkyModel", name := "setBounds", desc := "(III)I" } : Jvm.MethodName) prog_10_method_36_code (4 : Nat) (Option.some Jvm.ClassFile.FieldType.int)) ∈ lw_all := lw_g (lw_at lw_m8 184 rfl) rfl
theorem q1963 : (Jvm.Cond.methodLink "OfferSkyModel" (115 : Nat) ({ cls := "OfferSkyModel", name := "countingOnes", desc := "()I" } : Jvm.MethodName)) ∈ lw_all := lw_g (lw_at lw_m8 185 rfl) rfl
theorem q1964 : (Jvm.Cond.privateMethod ({ cls := "OfferSkyModel", name := "countingOnes", desc := "()I" } : Jvm.MethodName)) ∈ lw_tbl := lw_at lw_m8 186 rfl
theorem q1965 : (Jvm.Cond.instanceMethod ({ cls := "OfferSkyModel", name := "countingOnes", desc := "()I" } : Jvm.MethodName)) ∈ lw_all := lw_g (lw_at lw_m8 187 rfl) rfl
theorem q1966 : (Jvm.Cond.code ({ cls := "OfferSkyModel", name := "countingOnes", desc := "()I" } : Jvm.MethodName) prog_10_method_14_code (3 : Nat) (Option.some Jvm.ClassFile.FieldType.int)) ∈ lw_all := lw_g (lw_at lw_m8 188 rfl) rfl
theorem q1968 : (Jvm.Cond.instanceMethod ({ cls := "OfferSkyModel", name := "setWeight", desc := "(II)I" } : Jvm.MethodName)) ∈ lw_all := lw_g (lw_at lw_m8 190 rfl) rfl
theorem q1969 : (Jvm.Cond.selects "OfferSkyModel" ({ cls := "OfferSkyModel", name := "setWeight", desc := "(II)I" } : Jvm.MethodName) ({ cls := "OfferSkyModel", name := "setWeight", desc := "(II)I" } : Jvm.MethodName)) ∈ lw_all := lw_g (lw_at lw_m8 191 rfl) rfl
theorem q1970 : (Jvm.Cond.code ({ cls := "OfferSkyModel", name := "setWeight", desc := "(II)I" } : Jvm.MethodName) prog_10_method_37_code (4 : Nat) (Option.some Jvm.ClassFile.FieldType.int)) ∈ lw_all := lw_g (lw_at lw_m8 192 rfl) rfl
theorem q1972 : (Jvm.Cond.instanceMethod ({ cls := "OfferSkyModel", name := "append", desc := "(I)I" } : Jvm.MethodName)) ∈ lw_all := lw_g (lw_at lw_m8 194 rfl) rfl
theorem q1973 : (Jvm.Cond.selects "OfferSkyModel" ({ cls := "OfferSkyModel", name := "append", desc := "(I)I" } : Jvm.MethodName) ({ cls := "OfferSkyModel", name := "append", desc := "(I)I" } : Jvm.MethodName)) ∈ lw_all := lw_g (lw_at lw_m8 195 rfl) rfl
theorem q1974 : (Jvm.Cond.code ({ cls := "OfferSkyModel", name := "append", desc := "(I)I" } : Jvm.MethodName) prog_10_method_38_code (2 : Nat) (Option.some Jvm.ClassFile.FieldType.int)) ∈ lw_all := lw_g (lw_at lw_m8 196 rfl) rfl
theorem q1976 : (Jvm.Cond.instanceMethod ({ cls := "OfferSkyModel", name := "clearBuffer", desc := "()I" } : Jvm.MethodName)) ∈ lw_all := lw_g (lw_at lw_m8 198 rfl) rfl
theorem q1977 : (Jvm.Cond.selects "OfferSkyModel" ({ cls := "OfferSkyModel", name := "clearBuffer", desc := "()I" } : Jvm.MethodName) ({ cls := "OfferSkyModel", name := "clearBuffer", desc := "()I" } : Jvm.MethodName)) ∈ lw_all := lw_g (lw_at lw_m8 199 rfl) rfl
theorem q1978 : (Jvm.Cond.code ({ cls := "OfferSkyModel", name := "clearBuffer", desc := "()I" } : Jvm.MethodName) prog_10_method_39_code (2 : Nat) (Option.some Jvm.ClassFile.FieldType.int)) ∈ lw_all := lw_g (lw_at lw_m8 200 rfl) rfl
theorem q1980 : (Jvm.Cond.instanceMethod ({ cls := "OfferSkyModel", name := "firstError", desc := "()I" } : Jvm.MethodName)) ∈ lw_all := lw_g (lw_at lw_m8 202 rfl) rfl
theorem q1981 : (Jvm.Cond.selects "OfferSkyModel" ({ cls := "OfferSkyModel", name := "firstError", desc := "()I" } : Jvm.MethodName) ({ cls := "OfferSkyModel", name := "firstError", desc := "()I" } : Jvm.MethodName)) ∈ lw_all := lw_g (lw_at lw_m8 203 rfl) rfl
theorem q1982 : (Jvm.Cond.code ({ cls := "OfferSkyModel", name := "firstError", desc := "()I" } : Jvm.MethodName) prog_10_method_47_code (2 : Nat) (Option.some Jvm.ClassFile.FieldType.int)) ∈ lw_all := lw_g (lw_at lw_m8 204 rfl) rfl
theorem q1983 : (Jvm.Cond.methodLink "OfferSkyModel" (143 : Nat) ({ cls := "OfferSkyModel", name := "fault", desc := "()I" } : Jvm.MethodName)) ∈ lw_all := lw_g (lw_at lw_m8 205 rfl) rfl
theorem q1984 : (Jvm.Cond.privateMethod ({ cls := "OfferSkyModel", name := "fault", desc := "()I" } : Jvm.MethodName)) ∈ lw_tbl := lw_at lw_m8 206 rfl
theorem q1985 : (Jvm.Cond.instanceMethod ({ cls := "OfferSkyModel", name := "fault", desc := "()I" } : Jvm.MethodName)) ∈ lw_all := lw_g (lw_at lw_m8 207 rfl) rfl
theorem q1986 : (Jvm.Cond.code ({ cls := "OfferSkyModel", name := "fault", desc := "()I" } : Jvm.MethodName) prog_10_method_46_code (2 : Nat) (Option.some Jvm.ClassFile.FieldType.int)) ∈ lw_all := lw_g (lw_at lw_m8 208 rfl) rfl
theorem q1987 : (Jvm.Cond.methodLink "OfferSkyModel" (140 : Nat) ({ cls := "OfferSkyModel", name := "passesPart", desc := "()Z" } : Jvm.MethodName)) ∈ lw_all := lw_g (lw_at lw_m8 209 rfl) rfl
theorem q1988 : (Jvm.Cond.privateMethod ({ cls := "OfferSkyModel", name := "passesPart", desc := "()Z" } : Jvm.MethodName)) ∈ lw_tbl := lw_at lw_m8 210 rfl
theorem q1989 : (Jvm.Cond.instanceMethod ({ cls := "OfferSkyModel", name := "passesPart", desc := "()Z" } : Jvm.MethodName)) ∈ lw_all := lw_g (lw_at lw_m8 211 rfl) rfl
theorem q1990 : (Jvm.Cond.code ({ cls := "OfferSkyModel", name := "passesPart", desc := "()Z" } : Jvm.MethodName) prog_10_method_45_code (1 : Nat) (Option.some Jvm.ClassFile.FieldType.boolean)) ∈ lw_all := lw_g (lw_at lw_m8 212 rfl) rfl
theorem q1991 : (Jvm.Cond.methodLink "OfferSkyModel" (127 : Nat) ({ cls := "OfferSkyModel", name := "passes", desc := "(II)Z" } : Jvm.MethodName)) ∈ lw_all := lw_g (lw_at lw_m8 213 rfl) rfl
theorem q1992 : (Jvm.Cond.privateMethod ({ cls := "OfferSkyModel", name := "passes", desc := "(II)Z" } : Jvm.MethodName)) ∈ lw_tbl := lw_at lw_m8 214 rfl
theorem q1993 : (Jvm.Cond.instanceMethod ({ cls := "OfferSkyModel", name := "passes", desc := "(II)Z" } : Jvm.MethodName)) ∈ lw_all := lw_g (lw_at lw_m8 215 rfl) rfl
theorem q1994 : (Jvm.Cond.code ({ cls := "OfferSkyModel", name := "passes", desc := "(II)Z" } : Jvm.MethodName) prog_10_method_41_code (4 : Nat) (Option.some Jvm.ClassFile.FieldType.boolean)) ∈ lw_all := lw_g (lw_at lw_m8 216 rfl) rfl
theorem q1995 : (Jvm.Cond.methodLink "OfferSkyModel" (124 : Nat) ({ cls := "OfferSkyModel", name := "sees", desc := "(II)Z" } : Jvm.MethodName)) ∈ lw_all := lw_g (lw_at lw_m8 217 rfl) rfl
theorem q1996 : (Jvm.Cond.privateMethod ({ cls := "OfferSkyModel", name := "sees", desc := "(II)Z" } : Jvm.MethodName)) ∈ lw_tbl := lw_at lw_m8 218 rfl
theorem q1997 : (Jvm.Cond.instanceMethod ({ cls := "OfferSkyModel", name := "sees", desc := "(II)Z" } : Jvm.MethodName)) ∈ lw_all := lw_g (lw_at lw_m8 219 rfl) rfl
theorem q1998 : (Jvm.Cond.code ({ cls := "OfferSkyModel", name := "sees", desc := "(II)Z" } : Jvm.MethodName) prog_10_method_40_code (3 : Nat) (Option.some Jvm.ClassFile.FieldType.boolean)) ∈ lw_all := lw_g (lw_at lw_m8 220 rfl) rfl
theorem q1999 : (Jvm.Cond.methodLink "OfferSkyModel" (130 : Nat) ({ cls := "OfferSkyModel", name := "passesNumber", desc := "(I)Z" } : Jvm.MethodName)) ∈ lw_all := lw_g (lw_at lw_m8 221 rfl) rfl
theorem q2000 : (Jvm.Cond.privateMethod ({ cls := "OfferSkyModel", name := "passesNumber", desc := "(I)Z" } : Jvm.MethodName)) ∈ lw_tbl := lw_at lw_m8 222 rfl
theorem q2001 : (Jvm.Cond.instanceMethod ({ cls := "OfferSkyModel", name := "passesNumber", desc := "(I)Z" } : Jvm.MethodName)) ∈ lw_all := lw_g (lw_at lw_m8 223 rfl) rfl
theorem q2002 : (Jvm.Cond.code ({ cls := "OfferSkyModel", name := "passesNumber", desc := "(I)Z" } : Jvm.MethodName) prog_10_method_42_code (2 : Nat) (Option.some Jvm.ClassFile.FieldType.boolean)) ∈ lw_all := lw_g (lw_at lw_m8 224 rfl) rfl
theorem q2003 : (Jvm.Cond.methodLink "OfferSkyModel" (136 : Nat) ({ cls := "OfferSkyModel", name := "passesBounds", desc := "()Z" } : Jvm.MethodName)) ∈ lw_all := lw_g (lw_at lw_m8 225 rfl) rfl
theorem q2004 : (Jvm.Cond.privateMethod ({ cls := "OfferSkyModel", name := "passesBounds", desc := "()Z" } : Jvm.MethodName)) ∈ lw_tbl := lw_at lw_m8 226 rfl
theorem q2005 : (Jvm.Cond.instanceMethod ({ cls := "OfferSkyModel", name := "passesBounds", desc := "()Z" } : Jvm.MethodName)) ∈ lw_all := lw_g (lw_at lw_m8 227 rfl) rfl
theorem q2006 : (Jvm.Cond.code ({ cls := "OfferSkyModel", name := "passesBounds", desc := "()Z" } : Jvm.MethodName) prog_10_method_44_code (4 : Nat) (Option.some Jvm.ClassFile.FieldType.boolean)) ∈ lw_all := lw_g (lw_at lw_m8 228 rfl) rfl
theorem q2007 : (Jvm.Cond.methodLink "OfferSkyModel" (133 : Nat) ({ cls := "OfferSkyModel", name := "passesFrom", desc := "(I)Z" } : Jvm.MethodName)) ∈ lw_all := lw_g (lw_at lw_m8 229 rfl) rfl
theorem q2008 : (Jvm.Cond.privateMethod ({ cls := "OfferSkyModel", name := "passesFrom", desc := "(I)Z" } : Jvm.MethodName)) ∈ lw_tbl := lw_at lw_m8 230 rfl
theorem q2009 : (Jvm.Cond.instanceMethod ({ cls := "OfferSkyModel", name := "passesFrom", desc := "(I)Z" } : Jvm.MethodName)) ∈ lw_all := lw_g (lw_at lw_m8 231 rfl) rfl
theorem q2010 : (Jvm.Cond.code ({ cls := "OfferSkyModel", name := "passesFrom", desc := "(I)Z" } : Jvm.MethodName) prog_10_method_43_code (5 : Nat) (Option.some Jvm.ClassFile.FieldType.boolean)) ∈ lw_all := lw_g (lw_at lw_m8 232 rfl) rfl
theorem q2012 : (Jvm.Cond.instanceMethod ({ cls := "OfferSkyModel", name := "follow", desc := "()I" } : Jvm.MethodName)) ∈ lw_all := lw_g (lw_at lw_m8 234 rfl) rfl
theorem q2013 : (Jvm.Cond.selects "OfferSkyModel" ({ cls := "OfferSkyModel", name := "follow", desc := "()I" } : Jvm.MethodName) ({ cls := "OfferSkyModel", name := "follow", desc := "()I" } : Jvm.MethodName)) ∈ lw_all := lw_g (lw_at lw_m8 235 rfl) rfl
theorem q2014 : (Jvm.Cond.code ({ cls := "OfferSkyModel", name := "follow", desc := "()I" } : Jvm.MethodName) prog_10_method_51_code (4 : Nat) (Option.some Jvm.ClassFile.FieldType.int)) ∈ lw_all := lw_g (lw_at lw_m8 236 rfl) rfl
theorem q2015 : (Jvm.Cond.methodLink "OfferSkyModel" (152 : Nat) ({ cls := "OfferSkyModel", name := "follows", desc := "()Z" } : Jvm.MethodName)) ∈ lw_all := lw_g (lw_at lw_m8 237 rfl) rfl
theorem q2016 : (Jvm.Cond.privateMethod ({ cls := "OfferSkyModel", name := "follows", desc := "()Z" } : Jvm.MethodName)) ∈ lw_tbl := lw_at lw_m8 238 rfl
theorem q2017 : (Jvm.Cond.instanceMethod ({ cls := "OfferSkyModel", name := "follows", desc := "()Z" } : Jvm.MethodName)) ∈ lw_all := lw_g (lw_at lw_m8 239 rfl) rfl
theorem q2018 : (Jvm.Cond.code ({ cls := "OfferSkyModel", name := "follows", desc := "()Z" } : Jvm.MethodName) prog_10_method_50_code (7 : Nat) (Option.some Jvm.ClassFile.FieldType.boolean)) ∈ lw_all := lw_g (lw_at lw_m9 0 rfl) rfl
theorem q2019 : (Jvm.Cond.methodLink "OfferSkyModel" (149 : Nat) ({ cls := "OfferSkyModel", name := "next", desc := "()I" } : Jvm.MethodName)) ∈ lw_all := lw_g (lw_at lw_m9 1 rfl) rfl
theorem q2020 : (Jvm.Cond.privateMethod ({ cls := "OfferSkyModel", name := "next", desc := "()I" } : Jvm.MethodName)) ∈ lw_tbl := lw_at lw_m9 2 rfl
theorem q2021 : (Jvm.Cond.instanceMethod ({ cls := "OfferSkyModel", name := "next", desc := "()I" } : Jvm.MethodName)) ∈ lw_all := lw_g (lw_at lw_m9 3 rfl) rfl
theorem q2022 : (Jvm.Cond.code ({ cls := "OfferSkyModel", name := "next", desc := "()I" } : Jvm.MethodName) prog_10_method_49_code (1 : Nat) (Option.some Jvm.ClassFile.FieldType.int)) ∈ lw_all := lw_g (lw_at lw_m9 4 rfl) rfl
theorem q2023 : (Jvm.Cond.methodLink "OfferSkyModel" (146 : Nat) ({ cls := "OfferSkyModel", name := "number", desc := "()I" } : Jvm.MethodName)) ∈ lw_all := lw_g (lw_at lw_m9 5 rfl) rfl
theorem q2024 : (Jvm.Cond.privateMethod ({ cls := "OfferSkyModel", name := "number", desc := "()I" } : Jvm.MethodName)) ∈ lw_tbl := lw_at lw_m9 6 rfl
theorem q2025 : (Jvm.Cond.instanceMethod ({ cls := "OfferSkyModel", name := "number", desc := "()I" } : Jvm.MethodName)) ∈ lw_all := lw_g (lw_at lw_m9 7 rfl) rfl
theorem q2026 : (Jvm.Cond.code ({ cls := "OfferSkyModel", name := "number", desc := "()I" } : Jvm.MethodName) prog_10_method_48_code (2 : Nat) (Option.some Jvm.ClassFile.FieldType.int)) ∈ lw_all := lw_g (lw_at lw_m9 8 rfl) rfl
theorem q2028 : (Jvm.Cond.instanceMethod ({ cls := "OfferSkyModel", name := "keep", desc := "(I)V" } : Jvm.MethodName)) ∈ lw_all := lw_g (lw_at lw_m9 10 rfl) rfl
theorem q2029 : (Jvm.Cond.selects "OfferSkyModel" ({ cls := "OfferSkyModel", name := "keep", desc := "(I)V" } : Jvm.MethodName) ({ cls := "OfferSkyModel", name := "keep", desc := "(I)V" } : Jvm.MethodName)) ∈ lw_all := lw_g (lw_at lw_m9 11 rfl) rfl
theorem q2030 : (Jvm.Cond.code ({ cls := "OfferSkyModel", name := "keep", desc := "(I)V" } : Jvm.MethodName) prog_10_method_52_code (3 : Nat) (Option.none : Option Jvm.ClassFile.FieldType)) ∈ lw_all := lw_g (lw_at lw_m9 12 rfl) rfl
theorem q2032 : (Jvm.Cond.instanceMethod ({ cls := "OfferSkyModel", name := "goBack", desc := "(I)V" } : Jvm.MethodName)) ∈ lw_all := lw_g (lw_at lw_m9 14 rfl) rfl
theorem q2033 : (Jvm.Cond.selects "OfferSkyModel" ({ cls := "OfferSkyModel", name := "goBack", desc := "(I)V" } : Jvm.MethodName) ({ cls := "OfferSkyModel", name := "goBack", desc := "(I)V" } : Jvm.MethodName)) ∈ lw_all := lw_g (lw_at lw_m9 15 rfl) rfl
theorem q2034 : (Jvm.Cond.code ({ cls := "OfferSkyModel", name := "goBack", desc := "(I)V" } : Jvm.MethodName) prog_10_method_53_code (3 : Nat) (Option.none : Option Jvm.ClassFile.FieldType)) ∈ lw_all := lw_g (lw_at lw_m9 16 rfl) rfl
theorem q2036 : (Jvm.Cond.instanceMethod ({ cls := "OfferSkyModel", name := "undo", desc := "()V" } : Jvm.MethodName)) ∈ lw_all := lw_g (lw_at lw_m9 18 rfl) rfl
theorem q2037 : (Jvm.Cond.selects "OfferSkyModel" ({ cls := "OfferSkyModel", name := "undo", desc := "()V" } : Jvm.MethodName) ({ cls := "OfferSkyModel", name := "undo", desc := "()V" } : Jvm.MethodName)) ∈ lw_all := lw_g (lw_at lw_m9 19 rfl) rfl
theorem q2038 : (Jvm.Cond.code ({ cls := "OfferSkyModel", name := "undo", desc := "()V" } : Jvm.MethodName) prog_10_method_54_code (2 : Nat) (Option.none : Option Jvm.ClassFile.FieldType)) ∈ lw_all := lw_g (lw_at lw_m9 20 rfl) rfl
theorem q2040 : (Jvm.Cond.instanceMethod ({ cls := "OfferSkyModel", name := "savedStates", desc := "()I" } : Jvm.MethodName)) ∈ lw_all := lw_g (lw_at lw_m9 22 rfl) rfl
theorem q2041 : (Jvm.Cond.selects "OfferSkyModel" ({ cls := "OfferSkyModel", name := "savedStates", desc := "()I" } : Jvm.MethodName) ({ cls := "OfferSkyModel", name := "savedStates", desc := "()I" } : Jvm.MethodName)) ∈ lw_all := lw_g (lw_at lw_m9 23 rfl) rfl
theorem q2042 : (Jvm.Cond.code ({ cls := "OfferSkyModel", name := "savedStates", desc := "()I" } : Jvm.MethodName) prog_10_method_55_code (1 : Nat) (Option.some Jvm.ClassFile.FieldType.int)) ∈ lw_all := lw_g (lw_at lw_m9 24 rfl) rfl
theorem q2044 : (Jvm.Cond.instanceMethod ({ cls := "OfferSkyModel", name := "offers", desc := "()I" } : Jvm.MethodName)) ∈ lw_all := lw_g (lw_at lw_m9 26 rfl) rfl
theorem q2045 : (Jvm.Cond.selects "OfferSkyModel" ({ cls := "OfferSkyModel", name := "offers", desc := "()I" } : Jvm.MethodName) ({ cls := "OfferSkyModel", name := "offers", desc := "()I" } : Jvm.MethodName)) ∈ lw_all := lw_g (lw_at lw_m9 27 rfl) rfl
theorem q2046 : (Jvm.Cond.code ({ cls := "OfferSkyModel", name := "offers", desc := "()I" } : Jvm.MethodName) prog_10_method_56_code (1 : Nat) (Option.some Jvm.ClassFile.FieldType.int)) ∈ lw_all := lw_g (lw_at lw_m9 28 rfl) rfl
theorem q2048 : (Jvm.Cond.instanceMethod ({ cls := "OfferSkyModel", name := "valueOf", desc := "(II)I" } : Jvm.MethodName)) ∈ lw_all := lw_g (lw_at lw_m9 30 rfl) rfl
theorem q2049 : (Jvm.Cond.selects "OfferSkyModel" ({ cls := "OfferSkyModel", name := "valueOf", desc := "(II)I" } : Jvm.MethodName) ({ cls := "OfferSkyModel", name := "valueOf", desc := "(II)I" } : Jvm.MethodName)) ∈ lw_all := lw_g (lw_at lw_m9 31 rfl) rfl
theorem q2050 : (Jvm.Cond.code ({ cls := "OfferSkyModel", name := "valueOf", desc := "(II)I" } : Jvm.MethodName) prog_10_method_57_code (3 : Nat) (Option.some Jvm.ClassFile.FieldType.int)) ∈ lw_all := lw_g (lw_at lw_m9 32 rfl) rfl
theorem q2052 : (Jvm.Cond.instanceMethod ({ cls := "OfferSkyModel", name := "wishOf", desc := "(I)I" } : Jvm.MethodName)) ∈ lw_all := lw_g (lw_at lw_m9 34 rfl) rfl
theorem q2053 : (Jvm.Cond.selects "OfferSkyModel" ({ cls := "OfferSkyModel", name := "wishOf", desc := "(I)I" } : Jvm.MethodName) ({ cls := "OfferSkyModel", name := "wishOf", desc := "(I)I" } : Jvm.MethodName)) ∈ lw_all := lw_g (lw_at lw_m9 35 rfl) rfl
theorem q2054 : (Jvm.Cond.code ({ cls := "OfferSkyModel", name := "wishOf", desc := "(I)I" } : Jvm.MethodName) prog_10_method_59_code (2 : Nat) (Option.some Jvm.ClassFile.FieldType.int)) ∈ lw_all := lw_g (lw_at lw_m9 36 rfl) rfl
theorem q2055 : (Jvm.Cond.methodLink "OfferSkyModel" (162 : Nat) ({ cls := "OfferSkyModel", name := "ofSide", desc := "(II)I" } : Jvm.MethodName)) ∈ lw_all := lw_g (lw_at lw_m9 37 rfl) rfl
theorem q2056 : (Jvm.Cond.privateMethod ({ cls := "OfferSkyModel", name := "ofSide", desc := "(II)I" } : Jvm.MethodName)) ∈ lw_tbl := lw_at lw_m9 38 rfl
theorem q2057 : (Jvm.Cond.instanceMethod ({ cls := "OfferSkyModel", name := "ofSide", desc := "(II)I" } : Jvm.MethodName)) ∈ lw_all := lw_g (lw_at lw_m9 39 rfl) rfl
theorem q2058 : (Jvm.Cond.code ({ cls := "OfferSkyModel", name := "ofSide", desc := "(II)I" } : Jvm.MethodName) prog_10_method_58_code (3 : Nat) (Option.some Jvm.ClassFile.FieldType.int)) ∈ lw_all := lw_g (lw_at lw_m9 40 rfl) rfl
theorem q2060 : (Jvm.Cond.instanceMethod ({ cls := "OfferSkyModel", name := "leastOf", desc := "(I)I" } : Jvm.MethodName)) ∈ lw_all := lw_g (lw_at lw_m9 42 rfl) rfl
theorem q2061 : (Jvm.Cond.selects "OfferSkyModel" ({ cls := "OfferSkyModel", name := "leastOf", desc := "(I)I" } : Jvm.MethodName) ({ cls := "OfferSkyModel", name := "leastOf", desc := "(I)I" } : Jvm.MethodName)) ∈ lw_all := lw_g (lw_at lw_m9 43 rfl) rfl
theorem q2062 : (Jvm.Cond.code ({ cls := "OfferSkyModel", name := "leastOf", desc := "(I)I" } : Jvm.MethodName) prog_10_method_60_code (2 : Nat) (Option.some Jvm.ClassFile.FieldType.int)) ∈ lw_all := lw_g (lw_at lw_m9 44 rfl) rfl
theorem q2064 : (Jvm.Cond.instanceMethod ({ cls := "OfferSkyModel", name := "mostOf", desc := "(I)I" } : Jvm.MethodName)) ∈ lw_all := lw_g (lw_at lw_m9 46 rfl) rfl
theorem q2065 : (Jvm.Cond.selects "OfferSkyModel" ({ cls := "OfferSkyModel", name := "mostOf", desc := "(I)I" } : Jvm.MethodName) ({ cls := "OfferSkyModel", name := "mostOf", desc := "(I)I" } : Jvm.MethodName)) ∈ lw_all := lw_g (lw_at lw_m9 47 rfl) rfl
theorem q2066 : (Jvm.Cond.code ({ cls := "OfferSkyModel", name := "mostOf", desc := "(I)I" } : Jvm.MethodName) prog_10_method_61_code (2 : Nat) (Option.some Jvm.ClassFile.FieldType.int)) ∈ lw_all := lw_g (lw_at lw_m9 48 rfl) rfl
theorem q2068 : (Jvm.Cond.instanceMethod ({ cls := "OfferSkyModel", name := "weightOf", desc := "(I)I" } : Jvm.MethodName)) ∈ lw_all := lw_g (lw_at lw_m9 50 rfl) rfl
theorem q2069 : (Jvm.Cond.selects "OfferSkyModel" ({ cls := "OfferSkyModel", name := "weightOf", desc := "(I)I" } : Jvm.MethodName) ({ cls := "OfferSkyModel", name := "weightOf", desc := "(I)I" } : Jvm.MethodName)) ∈ lw_all := lw_g (lw_at lw_m9 51 rfl) rfl
theorem q2070 : (Jvm.Cond.code ({ cls := "OfferSkyModel", name := "weightOf", desc := "(I)I" } : Jvm.MethodName) prog_10_method_62_code (2 : Nat) (Option.some Jvm.ClassFile.FieldType.int)) ∈ lw_all := lw_g (lw_at lw_m9 52 rfl) rfl
theorem q2072 : (Jvm.Cond.instanceMethod ({ cls := "OfferSkyModel", name := "isCounted", desc := "(I)Z" } : Jvm.MethodName)) ∈ lw_all := lw_g (lw_at lw_m9 54 rfl) rfl
theorem q2073 : (Jvm.Cond.selects "OfferSkyModel" ({ cls := "OfferSkyModel", name := "isCounted", desc := "(I)Z" } : Jvm.MethodName) ({ cls := "OfferSkyModel", name := "isCounted", desc := "(I)Z" } : Jvm.MethodName)) ∈ lw_all := lw_g (lw_at lw_m9 55 rfl) rfl
theorem q2074 : (Jvm.Cond.code ({ cls := "OfferSkyModel", name := "isCounted", desc := "(I)Z" } : Jvm.MethodName) prog_10_method_63_code (2 : Nat) (Option.some Jvm.ClassFile.FieldType.boolean)) ∈ lw_all := lw_g (lw_at lw_m9 56 rfl) rfl
theorem q2076 : (Jvm.Cond.instanceMethod ({ cls := "OfferSkyModel", name := "counting", desc := "()I" } : Jvm.MethodName)) ∈ lw_all := lw_g (lw_at lw_m9 58 rfl) rfl
theorem q2077 : (Jvm.Cond.selects "OfferSkyModel" ({ cls := "OfferSkyModel", name := "counting", desc := "()I" } : Jvm.MethodName) ({ cls := "OfferSkyModel", name := "counting", desc := "()I" } : Jvm.MethodName)) ∈ lw_all := lw_g (lw_at lw_m9 59 rfl) rfl
theorem q2078 : (Jvm.Cond.code ({ cls := "OfferSkyModel", name := "counting", desc := "()I" } : Jvm.MethodName) prog_10_method_64_code (1 : Nat) (Option.some Jvm.ClassFile.FieldType.int)) ∈ lw_all := lw_g (lw_at lw_m9 60 rfl) rfl
theorem q2080 : (Jvm.Cond.instanceMethod ({ cls := "OfferSkyModel", name := "beats", desc := "(II)Z" } : Jvm.MethodName)) ∈ lw_all := lw_g (lw_at lw_m9 62 rfl) rfl
theorem q2081 : (Jvm.Cond.selects "OfferSkyModel" ({ cls := "OfferSkyModel", name := "beats", desc := "(II)Z" } : Jvm.MethodName) ({ cls := "OfferSkyModel", name := "beats", desc := "(II)Z" } : Jvm.MethodName)) ∈ lw_all := lw_g (lw_at lw_m9 63 rfl) rfl
theorem q2082 : (Jvm.Cond.code ({ cls := "OfferSkyModel", name := "beats", desc := "(II)Z" } : Jvm.MethodName) prog_10_method_65_code (3 : Nat) (Option.some Jvm.ClassFile.FieldType.boolean)) ∈ lw_all := lw_g (lw_at lw_m9 64 rfl) rfl
theorem q2083 : (Jvm.Cond.methodLink "OfferSkyModel" (74 : Nat) ({ cls := "OfferSkyModel", name := "beat", desc := "(II)Z" } : Jvm.MethodName)) ∈ lw_all := lw_g (lw_at lw_m9 65 rfl) rfl
theorem q2084 : (Jvm.Cond.privateMethod ({ cls := "OfferSkyModel", name := "beat", desc := "(II)Z" } : Jvm.MethodName)) ∈ lw_tbl := lw_at lw_m9 66 rfl
theorem q2085 : (Jvm.Cond.instanceMethod ({ cls := "OfferSkyModel", name := "beat", desc := "(II)Z" } : Jvm.MethodName)) ∈ lw_all := lw_g (lw_at lw_m9 67 rfl) rfl
theorem q2086 : (Jvm.Cond.code ({ cls := "OfferSkyModel", name := "beat", desc := "(II)Z" } : Jvm.MethodName) prog_10_method_17_code (3 : Nat) (Option.some Jvm.ClassFile.FieldType.boolean)) ∈ lw_all := lw_g (lw_at lw_m9 68 rfl) rfl
theorem q2088 : (Jvm.Cond.instanceMethod ({ cls := "OfferSkyModel", name := "betterOn", desc := "(II)I" } : Jvm.MethodName)) ∈ lw_all := lw_g (lw_at lw_m9 70 rfl) rfl
theorem q2089 : (Jvm.Cond.selects "OfferSkyModel" ({ cls := "OfferSkyModel", name := "betterOn", desc := "(II)I" } : Jvm.MethodName) ({ cls := "OfferSkyModel", name := "betterOn", desc := "(II)I" } : Jvm.MethodName)) ∈ lw_all := lw_g (lw_at lw_m9 71 rfl) rfl
theorem q2090 : (Jvm.Cond.code ({ cls := "OfferSkyModel", name := "betterOn", desc := "(II)I" } : Jvm.MethodName) prog_10_method_66_code (3 : Nat) (Option.some Jvm.ClassFile.FieldType.int)) ∈ lw_all := lw_g (lw_at lw_m9 72 rfl) rfl
theorem q2092 : (Jvm.Cond.instanceMethod ({ cls := "OfferSkyModel", name := "beatersOf", desc := "(I)I" } : Jvm.MethodName)) ∈ lw_all := lw_g (lw_at lw_m9 74 rfl) rfl
theorem q2093 : (Jvm.Cond.selects "OfferSkyModel" ({ cls := "OfferSkyModel", name := "beatersOf", desc := "(I)I" } : Jvm.MethodName) ({ cls := "OfferSkyModel", name := "beatersOf", desc := "(I)I" } : Jvm.MethodName)) ∈ lw_all := lw_g (lw_at lw_m9 75 rfl) rfl
theorem q2094 : (Jvm.Cond.code ({ cls := "OfferSkyModel", name := "beatersOf", desc := "(I)I" } : Jvm.MethodName) prog_10_method_67_code (2 : Nat) (Option.some Jvm.ClassFile.FieldType.int)) ∈ lw_all := lw_g (lw_at lw_m9 76 rfl) rfl
theorem q2095 : (Jvm.Cond.methodLink "OfferSkyModel" (165 : Nat) ({ cls := "OfferSkyModel", name := "beaters", desc := "(I)I" } : Jvm.MethodName)) ∈ lw_all := lw_g (lw_at lw_m9 77 rfl) rfl
theorem q2096 : (Jvm.Cond.privateMethod ({ cls := "OfferSkyModel", name := "beaters", desc := "(I)I" } : Jvm.MethodName)) ∈ lw_tbl := lw_at lw_m9 78 rfl
theorem q2097 : (Jvm.Cond.instanceMethod ({ cls := "OfferSkyModel", name := "beaters", desc := "(I)I" } : Jvm.MethodName)) ∈ lw_all := lw_g (lw_at lw_m9 79 rfl) rfl
theorem q2098 : (Jvm.Cond.code ({ cls := "OfferSkyModel", name := "beaters", desc := "(I)I" } : Jvm.MethodName) prog_10_method_20_code (4 : Nat) (Option.some Jvm.ClassFile.FieldType.int)) ∈ lw_all := lw_g (lw_at lw_m9 80 rfl) rfl
theorem q2100 : (Jvm.Cond.instanceMethod ({ cls := "OfferSkyModel", name := "beatenBy", desc := "(I)I" } : Jvm.MethodName)) ∈ lw_all := lw_g (lw_at lw_m9 82 rfl) rfl
theorem q2101 : (Jvm.Cond.selects "OfferSkyModel" ({ cls := "OfferSkyModel", name := "beatenBy", desc := "(I)I" } : Jvm.MethodName) ({ cls := "OfferSkyModel", name := "beatenBy", desc := "(I)I" } : Jvm.MethodName)) ∈ lw_all := lw_g (lw_at lw_m9 83 rfl) rfl
theorem q2102 : (Jvm.Cond.code ({ cls := "OfferSkyModel", name := "beatenBy", desc := "(I)I" } : Jvm.MethodName) prog_10_method_68_code (2 : Nat) (Option.some Jvm.ClassFile.FieldType.int)) ∈ lw_all := lw_g (lw_at lw_m9 84 rfl) rfl
theorem q2103 : (Jvm.Cond.methodLink "OfferSkyModel" (168 : Nat) ({ cls := "OfferSkyModel", name := "beaten", desc := "(I)I" } : Jvm.MethodName)) ∈ lw_all := lw_g (lw_at lw_m9 85 rfl) rfl
theorem q2104 : (Jvm.Cond.privateMethod ({ cls := "OfferSkyModel", name := "beaten", desc := "(I)I" } : Jvm.MethodName)) ∈ lw_tbl := lw_at lw_m9 86 rfl
theorem q2105 : (Jvm.Cond.instanceMethod ({ cls := "OfferSkyModel", name := "beaten", desc := "(I)I" } : Jvm.MethodName)) ∈ lw_all := lw_g (lw_at lw_m9 87 rfl) rfl
theorem q2106 : (Jvm.Cond.code ({ cls := "OfferSkyModel", name := "beaten", desc := "(I)I" } : Jvm.MethodName) prog_10_method_21_code (4 : Nat) (Option.some Jvm.ClassFile.FieldType.int)) ∈ lw_all := lw_g (lw_at lw_m9 88 rfl) rfl
theorem q2108 : (Jvm.Cond.instanceMethod ({ cls := "OfferSkyModel", name := "isToldByPairs", desc := "(I)Z" } : Jvm.MethodName)) ∈ lw_all := lw_g (lw_at lw_m9 90 rfl) rfl
theorem q2109 : (Jvm.Cond.selects "OfferSkyModel" ({ cls := "OfferSkyModel", name := "isToldByPairs", desc := "(I)Z" } : Jvm.MethodName) ({ cls := "OfferSkyModel", name := "isToldByPairs", desc := "(I)Z" } : Jvm.MethodName)) ∈ lw_all := lw_g (lw_at lw_m9 91 rfl) rfl
theorem q2110 : (Jvm.Cond.code ({ cls := "OfferSkyModel", name := "isToldByPairs", desc := "(I)Z" } : Jvm.MethodName) prog_10_method_69_code (2 : Nat) (Option.some Jvm.ClassFile.FieldType.boolean)) ∈ lw_all := lw_g (lw_at lw_m9 92 rfl) rfl
theorem q2111 : (Jvm.Cond.methodLink "OfferSkyModel" (171 : Nat) ({ cls := "OfferSkyModel", name := "isTold", desc := "(I)Z" } : Jvm.MethodName)) ∈ lw_all := lw_g (lw_at lw_m9 93 rfl) rfl
theorem q2112 : (Jvm.Cond.privateMethod ({ cls := "OfferSkyModel", name := "isTold", desc := "(I)Z" } : Jvm.MethodName)) ∈ lw_tbl := lw_at lw_m9 94 rfl
theorem q2113 : (Jvm.Cond.instanceMethod ({ cls := "OfferSkyModel", name := "isTold", desc := "(I)Z" } : Jvm.MethodName)) ∈ lw_all := lw_g (lw_at lw_m9 95 rfl) rfl
theorem q2114 : (Jvm.Cond.code ({ cls := "OfferSkyModel", name := "isTold", desc := "(I)Z" } : Jvm.MethodName) prog_10_method_19_code (4 : Nat) (Option.some Jvm.ClassFile.FieldType.boolean)) ∈ lw_all := lw_g (lw_at lw_m9 96 rfl) rfl
theorem q2116 : (Jvm.Cond.instanceMethod ({ cls := "OfferSkyModel", name := "isToldByWindow", desc := "(I)Z" } : Jvm.MethodName)) ∈ lw_all := lw_g (lw_at lw_m9 98 rfl) rfl
theorem q2117 : (Jvm.Cond.selects "OfferSkyModel" ({ cls := "OfferSkyModel", name := "isToldByWindow", desc := "(I)Z" } : Jvm.MethodName) ({ cls := "OfferSkyModel", name := "isToldByWindow", desc := "(I)Z" } : Jvm.MethodName)) ∈ lw_all := lw_g (lw_at lw_m9 99 rfl) rfl
theorem q2118 : (Jvm.Cond.code ({ cls := "OfferSkyModel", name := "isToldByWindow", desc := "(I)Z" } : Jvm.MethodName) prog_10_method_70_code (2 : Nat) (Option.some Jvm.ClassFile.FieldType.boolean)) ∈ lw_all := lw_g (lw_at lw_m9 100 rfl) rfl
theorem q2120 : (Jvm.Cond.instanceMethod ({ cls := "OfferSkyModel", name := "toldByPairs", desc := "()I" } : Jvm.MethodName)) ∈ lw_all := lw_g (lw_at lw_m9 102 rfl) rfl
theorem q2121 : (Jvm.Cond.selects "OfferSkyModel" ({ cls := "OfferSkyModel", name := "toldByPairs", desc := "()I" } : Jvm.MethodName) ({ cls := "OfferSkyModel", name := "toldByPairs", desc := "()I" } : Jvm.MethodName)) ∈ lw_all := lw_g (lw_at lw_m9 103 rfl) rfl
theorem q2122 : (Jvm.Cond.code ({ cls := "OfferSkyModel", name := "toldByPairs", desc := "()I" } : Jvm.MethodName) prog_10_method_71_code (1 : Nat) (Option.some Jvm.ClassFile.FieldType.int)) ∈ lw_all := lw_g (lw_at lw_m9 104 rfl) rfl
theorem q2124 : (Jvm.Cond.instanceMethod ({ cls := "OfferSkyModel", name := "toldBySums", desc := "()I" } : Jvm.MethodName)) ∈ lw_all := lw_g (lw_at lw_m9 106 rfl) rfl
theorem q2125 : (Jvm.Cond.selects "OfferSkyModel" ({ cls := "OfferSkyModel", name := "toldBySums", desc := "()I" } : Jvm.MethodName) ({ cls := "OfferSkyModel", name := "toldBySums", desc := "()I" } : Jvm.MethodName)) ∈ lw_all := lw_g (lw_at lw_m9 107 rfl) rfl
theorem q2126 : (Jvm.Cond.code ({ cls := "OfferSkyModel", name := "toldBySums", desc := "()I" } : Jvm.MethodName) prog_10_method_72_code (1 : Nat) (Option.some Jvm.ClassFile.FieldType.int)) ∈ lw_all := lw_g (lw_at lw_m9 108 rfl) rfl
theorem q2128 : (Jvm.Cond.instanceMethod ({ cls := "OfferSkyModel", name := "toldAt", desc := "(I)I" } : Jvm.MethodName)) ∈ lw_all := lw_g (lw_at lw_m9 110 rfl) rfl
theorem q2129 : (Jvm.Cond.selects "OfferSkyModel" ({ cls := "OfferSkyModel", name := "toldAt", desc := "(I)I" } : Jvm.MethodName) ({ cls := "OfferSkyModel", name := "toldAt", desc := "(I)I" } : Jvm.MethodName)) ∈ lw_all := lw_g (lw_at lw_m9 111 rfl) rfl
theorem q2130 : (Jvm.Cond.code ({ cls := "OfferSkyModel", name := "toldAt", desc := "(I)I" } : Jvm.MethodName) prog_10_method_73_code (4 : Nat) (Option.some Jvm.ClassFile.FieldType.int)) ∈ lw_all := lw_g (lw_at lw_m9 112 rfl) rfl
theorem q2132 : (Jvm.Cond.instanceMethod ({ cls := "OfferSkyModel", name := "layerByPeeling", desc := "(I)I" } : Jvm.MethodName)) ∈ lw_all := lw_g (lw_at lw_m9 114 rfl) rfl
theorem q2133 : (Jvm.Cond.selects "OfferSkyModel" ({ cls := "OfferSkyModel", name := "layerByPeeling", desc := "(I)I" } : Jvm.MethodName) ({ cls := "OfferSkyModel", name := "layerByPeeling", desc := "(I)I" } : Jvm.MethodName)) ∈ lw_all := lw_g (lw_at lw_m9 115 rfl) rfl
theorem q2134 : (Jvm.Cond.code ({ cls := "OfferSkyModel", name := "layerByPeeling", desc := "(I)I" } : Jvm.MethodName) prog_10_method_74_code (2 : Nat) (Option.some Jvm.ClassFile.FieldType.int)) ∈ lw_all := lw_g (lw_at lw_m9 116 rfl) rfl
theorem q2135 : (Jvm.Cond.methodLink "OfferSkyModel" (174 : Nat) ({ cls := "OfferSkyModel", name := "peel", desc := "()I" } : Jvm.MethodName)) ∈ lw_all := lw_g (lw_at lw_m9 117 rfl) rfl
theorem q2136 : (Jvm.Cond.privateMethod ({ cls := "OfferSkyModel", name := "peel", desc := "()I" } : Jvm.MethodName)) ∈ lw_tbl := lw_at lw_m9 118 rfl
theorem q2137 : (Jvm.Cond.instanceMethod ({ cls := "OfferSkyModel", name := "peel", desc := "()I" } : Jvm.MethodName)) ∈ lw_all := lw_g (lw_at lw_m9 119 rfl) rfl
theorem q2138 : (Jvm.Cond.code ({ cls := "OfferSkyModel", name := "peel", desc := "()I" } : Jvm.MethodName) prog_10_method_22_code (6 : Nat) (Option.some Jvm.ClassFile.FieldType.int)) ∈ lw_all := lw_g (lw_at lw_m9 120 rfl) rfl
theorem q2140 : (Jvm.Cond.instanceMethod ({ cls := "OfferSkyModel", name := "layerByRows", desc := "(I)I" } : Jvm.MethodName)) ∈ lw_all := lw_g (lw_at lw_m9 122 rfl) rfl
theorem q2141 : (Jvm.Cond.selects "OfferSkyModel" ({ cls := "OfferSkyModel", name := "layerByRows", desc := "(I)I" } : Jvm.MethodName) ({ cls := "OfferSkyModel", name := "layerByRows", desc := "(I)I" } : Jvm.MethodName)) ∈ lw_all := lw_g (lw_at lw_m9 123 rfl) rfl
theorem q2142 : (Jvm.Cond.code ({ cls := "OfferSkyModel", name := "layerByRows", desc := "(I)I" } : Jvm.MethodName) prog_10_method_75_code (2 : Nat) (Option.some Jvm.ClassFile.FieldType.int)) ∈ lw_all := lw_g (lw_at lw_m9 124 rfl) rfl
theorem q2143 : (Jvm.Cond.methodLink "OfferSkyModel" (177 : Nat) ({ cls := "OfferSkyModel", name := "layerByPeeling", desc := "(I)I" } : Jvm.MethodName)) ∈ lw_all := lw_g (lw_at lw_m9 125 rfl) rfl
theorem q2145 : (Jvm.Cond.instanceMethod ({ cls := "OfferSkyModel", name := "layers", desc := "()I" } : Jvm.MethodName)) ∈ lw_all := lw_g (lw_at lw_m9 127 rfl) rfl
theorem q2146 : (Jvm.Cond.selects "OfferSkyModel" ({ cls := "OfferSkyModel", name := "layers", desc := "()I" } : Jvm.MethodName) ({ cls := "OfferSkyModel", name := "layers", desc := "()I" } : Jvm.MethodName)) ∈ lw_all := lw_g (lw_at lw_m9 128 rfl) rfl
theorem q2147 : (Jvm.Cond.code ({ cls := "OfferSkyModel", name := "layers", desc := "()I" } : Jvm.MethodName) prog_10_method_76_code (1 : Nat) (Option.some Jvm.ClassFile.FieldType.int)) ∈ lw_all := lw_g (lw_at lw_m9 129 rfl) rfl
theorem q2149 : (Jvm.Cond.instanceMethod ({ cls := "OfferSkyModel", name := "inLayer", desc := "(I)I" } : Jvm.MethodName)) ∈ lw_all := lw_g (lw_at lw_m9 131 rfl) rfl
theorem q2150 : (Jvm.Cond.selects "OfferSkyModel" ({ cls := "OfferSkyModel", name := "inLayer", desc := "(I)I" } : Jvm.MethodName) ({ cls := "OfferSkyModel", name := "inLayer", desc := "(I)I" } : Jvm.MethodName)) ∈ lw_all := lw_g (lw_at lw_m9 132 rfl) rfl
theorem q2151 : (Jvm.Cond.code ({ cls := "OfferSkyModel", name := "inLayer", desc := "(I)I" } : Jvm.MethodName) prog_10_method_77_code (4 : Nat) (Option.some Jvm.ClassFile.FieldType.int)) ∈ lw_all := lw_g (lw_at lw_m9 133 rfl) rfl
theorem q2153 : (Jvm.Cond.instanceMethod ({ cls := "OfferSkyModel", name := "toldOn", desc := "(I)I" } : Jvm.MethodName)) ∈ lw_all := lw_g (lw_at lw_m9 135 rfl) rfl
theorem q2154 : (Jvm.Cond.selects "OfferSkyModel" ({ cls := "OfferSkyModel", name := "toldOn", desc := "(I)I" } : Jvm.MethodName) ({ cls := "OfferSkyModel", name := "toldOn", desc := "(I)I" } : Jvm.MethodName)) ∈ lw_all := lw_g (lw_at lw_m9 136 rfl) rfl
theorem q2155 : (Jvm.Cond.code ({ cls := "OfferSkyModel", name := "toldOn", desc := "(I)I" } : Jvm.MethodName) prog_10_method_78_code (2 : Nat) (Option.some Jvm.ClassFile.FieldType.int)) ∈ lw_all := lw_g (lw_at lw_m9 137 rfl) rfl
theorem q2157 : (Jvm.Cond.instanceMethod ({ cls := "OfferSkyModel", name := "setsFor", desc := "(I)I" } : Jvm.MethodName)) ∈ lw_all := lw_g (lw_at lw_m9 139 rfl) rfl
theorem q2158 : (Jvm.Cond.selects "OfferSkyModel" ({ cls := "OfferSkyModel", name := "setsFor", desc := "(I)I" } : Jvm.MethodName) ({ cls := "OfferSkyModel", name := "setsFor", desc := "(I)I" } : Jvm.MethodName)) ∈ lw_all := lw_g (lw_at lw_m9 140 rfl) rfl
theorem q2159 : (Jvm.Cond.code ({ cls := "OfferSkyModel", name := "setsFor", desc := "(I)I" } : Jvm.MethodName) prog_10_method_79_code (6 : Nat) (Option.some Jvm.ClassFile.FieldType.int)) ∈ lw_all := lw_g (lw_at lw_m9 141 rfl) rfl
theorem q2161 : (Jvm.Cond.instanceMethod ({ cls := "OfferSkyModel", name := "toldWeakly", desc := "(I)I" } : Jvm.MethodName)) ∈ lw_all := lw_g (lw_at lw_m9 143 rfl) rfl
theorem q2162 : (Jvm.Cond.selects "OfferSkyModel" ({ cls := "OfferSkyModel", name := "toldWeakly", desc := "(I)I" } : Jvm.MethodName) ({ cls := "OfferSkyModel", name := "toldWeakly", desc := "(I)I" } : Jvm.MethodName)) ∈ lw_all := lw_g (lw_at lw_m9 144 rfl) rfl
theorem q2163 : (Jvm.Cond.code ({ cls := "OfferSkyModel", name := "toldWeakly", desc := "(I)I" } : Jvm.MethodName) prog_10_method_81_code (4 : Nat) (Option.some Jvm.ClassFile.FieldType.int)) ∈ lw_all := lw_g (lw_at lw_m9 145 rfl) rfl
theorem q2164 : (Jvm.Cond.methodLink "OfferSkyModel" (180 : Nat) ({ cls := "OfferSkyModel", name := "isWeaklyBeaten", desc := "(II)Z" } : Jvm.MethodName)) ∈ lw_all := lw_g (lw_at lw_m9 146 rfl) rfl
theorem q2165 : (Jvm.Cond.privateMethod ({ cls := "OfferSkyModel", name := "isWeaklyBeaten", desc := "(II)Z" } : Jvm.MethodName)) ∈ lw_tbl := lw_at lw_m9 147 rfl
theorem q2166 : (Jvm.Cond.instanceMethod ({ cls := "OfferSkyModel", name := "isWeaklyBeaten", desc := "(II)Z" } : Jvm.MethodName)) ∈ lw_all := lw_g (lw_at lw_m9 148 rfl) rfl
theorem q2167 : (Jvm.Cond.code ({ cls := "OfferSkyModel", name := "isWeaklyBeaten", desc := "(II)Z" } : Jvm.MethodName) prog_10_method_80_code (5 : Nat) (Option.some Jvm.ClassFile.FieldType.boolean)) ∈ lw_all := lw_g (lw_at lw_m9 149 rfl) rfl
theorem q2169 : (Jvm.Cond.instanceMethod ({ cls := "OfferSkyModel", name := "wouldBeTold", desc := "(IIII)Z" } : Jvm.MethodName)) ∈ lw_all := lw_g (lw_at lw_m9 151 rfl) rfl
theorem q2170 : (Jvm.Cond.selects "OfferSkyModel" ({ cls := "OfferSkyModel", name := "wouldBeTold", desc := "(IIII)Z" } : Jvm.MethodName) ({ cls := "OfferSkyModel", name := "wouldBeTold", desc := "(IIII)Z" } : Jvm.MethodName)) ∈ lw_all := lw_g (lw_at lw_m9 152 rfl) rfl
theorem q2171 : (Jvm.Cond.code ({ cls := "OfferSkyModel", name := "wouldBeTold", desc := "(IIII)Z" } : Jvm.MethodName) prog_10_method_87_code (5 : Nat) (Option.some Jvm.ClassFile.FieldType.boolean)) ∈ lw_all := lw_g (lw_at lw_m9 153 rfl) rfl
theorem q2172 : (Jvm.Cond.methodLink "OfferSkyModel" (196 : Nat) ({ cls := "OfferSkyModel", name := "isUnbeaten", desc := "(IIII)Z" } : Jvm.MethodName)) ∈ lw_all := lw_g (lw_at lw_m9 154 rfl) rfl
theorem q2173 : (Jvm.Cond.privateMethod ({ cls := "OfferSkyModel", name := "isUnbeaten", desc := "(IIII)Z" } : Jvm.MethodName)) ∈ lw_tbl := lw_at lw_m9 155 rfl
theorem q2174 : (Jvm.Cond.instanceMethod ({ cls := "OfferSkyModel", name := "isUnbeaten", desc := "(IIII)Z" } : Jvm.MethodName)) ∈ lw_all := lw_g (lw_at lw_m9 156 rfl) rfl
theorem q2175 : (Jvm.Cond.code ({ cls := "OfferSkyModel", name := "isUnbeaten", desc := "(IIII)Z" } : Jvm.MethodName) prog_10_method_86_code (7 : Nat) (Option.some Jvm.ClassFile.FieldType.boolean)) ∈ lw_all := lw_g (lw_at lw_m9 157 rfl) rfl
theorem q2176 : (Jvm.Cond.methodLink "OfferSkyModel" (190 : Nat) ({ cls := "OfferSkyModel", name := "isWithin", desc := "(IIII)Z" } : Jvm.MethodName)) ∈ lw_all := lw_g (lw_at lw_m9 158 rfl) rfl
theorem q2177 : (Jvm.Cond.privateMethod ({ cls := "OfferSkyModel", name := "isWithin", desc := "(IIII)Z" } : Jvm.MethodName)) ∈ lw_tbl := lw_at lw_m9 159 rfl
theorem q2178 : (Jvm.Cond.instanceMethod ({ cls := "OfferSkyModel", name := "isWithin", desc := "(IIII)Z" } : Jvm.MethodName)) ∈ lw_all := lw_g (lw_at lw_m9 160 rfl) rfl
theorem q2179 : (Jvm.Cond.code ({ cls := "OfferSkyModel", name := "isWithin", desc := "(IIII)Z" } : Jvm.MethodName) prog_10_method_85_code (6 : Nat) (Option.some Jvm.ClassFile.FieldType.boolean)) ∈ lw_all := lw_g (lw_at lw_m9 161 rfl) rfl
theorem q2180 : (Jvm.Cond.methodLink "OfferSkyModel" (183 : Nat) ({ cls := "OfferSkyModel", name := "among", desc := "(IIIII)I" } : Jvm.MethodName)) ∈ lw_all := lw_g (lw_at lw_m9 162 rfl) rfl
theorem q2181 : (Jvm.Cond.static ({ cls := "OfferSkyModel", name := "among", desc := "(IIIII)I" } : Jvm.MethodName)) ∈ lw_all := lw_g (lw_at lw_m9 163 rfl) rfl
theorem q2182 : (Jvm.Cond.code ({ cls := "OfferSkyModel", name := "among", desc := "(IIIII)I" } : Jvm.MethodName) prog_10_method_83_code (5 : Nat) (Option.some Jvm.ClassFile.FieldType.int)) ∈ lw_all := lw_g (lw_at lw_m9 164 rfl) rfl
theorem q2183 : (Jvm.Cond.methodLink "OfferSkyModel" (193 : Nat) ({ cls := "OfferSkyModel", name := "against", desc := "(IIIII)I" } : Jvm.MethodName)) ∈ lw_all := lw_g (lw_at lw_m9 165 rfl) rfl
theorem q2184 : (Jvm.Cond.privateMethod ({ cls := "OfferSkyModel", name := "against", desc := "(IIIII)I" } : Jvm.MethodName)) ∈ lw_tbl := lw_at lw_m9 166 rfl
theorem q2185 : (Jvm.Cond.instanceMethod ({ cls := "OfferSkyModel", name := "against", desc := "(IIIII)I" } : Jvm.MethodName)) ∈ lw_all := lw_g (lw_at lw_m9 167 rfl) rfl
theorem q2186 : (Jvm.Cond.code ({ cls := "OfferSkyModel", name := "against", desc := "(IIIII)I" } : Jvm.MethodName) prog_10_method_84_code (10 : Nat) (Option.some Jvm.ClassFile.FieldType.int)) ∈ lw_all := lw_g (lw_at lw_m9 168 rfl) rfl
theorem q2187 : (Jvm.Cond.methodLink "OfferSkyModel" (187 : Nat) ({ cls := "OfferSkyModel", name := "goodOf", desc := "(II)I" } : Jvm.MethodName)) ∈ lw_all := lw_g (lw_at lw_m9 169 rfl) rfl
theorem q2188 : (Jvm.Cond.privateMethod ({ cls := "OfferSkyModel", name := "goodOf", desc := "(II)I" } : Jvm.MethodName)) ∈ lw_tbl := lw_at lw_m9 170 rfl
theorem q2189 : (Jvm.Cond.instanceMethod ({ cls := "OfferSkyModel", name := "goodOf", desc := "(II)I" } : Jvm.MethodName)) ∈ lw_all := lw_g (lw_at lw_m9 171 rfl) rfl
theorem q2190 : (Jvm.Cond.code ({ cls := "OfferSkyModel", name := "goodOf", desc := "(II)I" } : Jvm.MethodName) prog_10_method_82_code (3 : Nat) (Option.some Jvm.ClassFile.FieldType.int)) ∈ lw_all := lw_g (lw_at lw_m9 172 rfl) rfl
theorem q2192 : (Jvm.Cond.instanceMethod ({ cls := "OfferSkyModel", name := "wouldBeat", desc := "(IIII)I" } : Jvm.MethodName)) ∈ lw_all := lw_g (lw_at lw_m9 174 rfl) rfl
theorem q2193 : (Jvm.Cond.selects "OfferSkyModel" ({ cls := "OfferSkyModel", name := "wouldBeat", desc := "(IIII)I" } : Jvm.MethodName) ({ cls := "OfferSkyModel", name := "wouldBeat", desc := "(IIII)I" } : Jvm.MethodName)) ∈ lw_all := lw_g (lw_at lw_m9 175 rfl) rfl
theorem q2194 : (Jvm.Cond.code ({ cls := "OfferSkyModel", name := "wouldBeat", desc := "(IIII)I" } : Jvm.MethodName) prog_10_method_88_code (7 : Nat) (Option.some Jvm.ClassFile.FieldType.int)) ∈ lw_all := lw_g (lw_at lw_m9 176 rfl) rfl
theorem q2196 : (Jvm.Cond.instanceMethod ({ cls := "OfferSkyModel", name := "raiseByTrying", desc := "(II)I" } : Jvm.MethodName)) ∈ lw_all := lw_g (lw_at lw_m9 178 rfl) rfl
theorem q2197 : (Jvm.Cond.selects "OfferSkyModel" ({ cls := "OfferSkyModel", name := "raiseByTrying", desc := "(II)I" } : Jvm.MethodName) ({ cls := "OfferSkyModel", name := "raiseByTrying", desc := "(II)I" } : Jvm.MethodName)) ∈ lw_all := lw_g (lw_at lw_m9 179 rfl) rfl
theorem q2198 : (Jvm.Cond.code ({ cls := "OfferSkyModel", name := "raiseByTrying", desc := "(II)I" } : Jvm.MethodName) prog_10_method_90_code (4 : Nat) (Option.some Jvm.ClassFile.FieldType.int)) ∈ lw_all := lw_g (lw_at lw_m9 180 rfl) rfl
theorem q2199 : (Jvm.Cond.methodLink "OfferSkyModel" (199 : Nat) ({ cls := "OfferSkyModel", name := "raise", desc := "(II)I" } : Jvm.MethodName)) ∈ lw_all := lw_g (lw_at lw_m9 181 rfl) rfl
theorem q2200 : (Jvm.Cond.privateMethod ({ cls := "OfferSkyModel", name := "raise", desc := "(II)I" } : Jvm.MethodName)) ∈ lw_tbl := lw_at lw_m9 182 rfl
theorem q2201 : (Jvm.Cond.instanceMethod ({ cls := "OfferSkyModel", name := "raise", desc := "(II)I" } : Jvm.MethodName)) ∈ lw_all := lw_g (lw_at lw_m9 183 rfl) rfl
theorem q2202 : (Jvm.Cond.code ({ cls := "OfferSkyModel", name := "raise", desc := "(II)I" } : Jvm.MethodName) prog_10_method_89_code (7 : Nat) (Option.some Jvm.ClassFile.FieldType.int)) ∈ lw_all := lw_g (lw_at lw_m9 184 rfl) rfl
theorem q2204 : (Jvm.Cond.instanceMethod ({ cls := "OfferSkyModel", name := "raiseByBeaters", desc := "(II)I" } : Jvm.MethodName)) ∈ lw_all := lw_g (lw_at lw_m9 186 rfl) rfl
theorem q2205 : (Jvm.Cond.selects "OfferSkyModel" ({ cls := "OfferSkyModel", name := "raiseByBeaters", desc := "(II)I" } : Jvm.MethodName) ({ cls := "OfferSkyModel", name := "raiseByBeaters", desc := "(II)I" } : Jvm.MethodName)) ∈ lw_all := lw_g (lw_at lw_m9 187 rfl) rfl
theorem q2206 : (Jvm.Cond.code ({ cls := "OfferSkyModel", name := "raiseByBeaters", desc := "(II)I" } : Jvm.MethodName) prog_10_method_91_code (3 : Nat) (Option.some Jvm.ClassFile.FieldType.int)) ∈ lw_all := lw_g (lw_at lw_m9 188 rfl) rfl
theorem q2207 : (Jvm.Cond.methodLink "OfferSkyModel" (202 : Nat) ({ cls := "OfferSkyModel", name := "raiseByTrying", desc := "(II)I" } : Jvm.MethodName)) ∈ lw_all := lw_g (lw_at lw_m9 189 rfl) rfl
theorem q2209 : (Jvm.Cond.instanceMethod ({ cls := "OfferSkyModel", name := "coveredGreedily", desc := "(I)I" } : Jvm.MethodName)) ∈ lw_all := lw_g (lw_at lw_m9 191 rfl) rfl
theorem q2210 : (Jvm.Cond.selects "OfferSkyModel" ({ cls := "OfferSkyModel", name := "coveredGreedily", desc := "(I)I" } : Jvm.MethodName) ({ cls := "OfferSkyModel", name := "coveredGreedily", desc := "(I)I" } : Jvm.MethodName)) ∈ lw_all := lw_g (lw_at lw_m9 192 rfl) rfl
theorem q2211 : (Jvm.Cond.code ({ cls := "OfferSkyModel", name := "coveredGreedily", desc := "(I)I" } : Jvm.MethodName) prog_10_method_92_code (2 : Nat) (Option.some Jvm.ClassFile.FieldType.int)) ∈ lw_all := lw_g (lw_at lw_m9 193 rfl) rfl
theorem q2212 : (Jvm.Cond.methodLink "OfferSkyModel" (205 : Nat) ({ cls := "OfferSkyModel", name := "cover", desc := "(I)I" } : Jvm.MethodName)) ∈ lw_all := lw_g (lw_at lw_m9 194 rfl) rfl
theorem q2213 : (Jvm.Cond.privateMethod ({ cls := "OfferSkyModel", name := "cover", desc := "(I)I" } : Jvm.MethodName)) ∈ lw_tbl := lw_at lw_m9 195 rfl
theorem q2214 : (Jvm.Cond.instanceMethod ({ cls := "OfferSkyModel", name := "cover", desc := "(I)I" } : Jvm.MethodName)) ∈ lw_all := lw_g (lw_at lw_m9 196 rfl) rfl
theorem q2215 : (Jvm.Cond.code ({ cls := "OfferSkyModel", name := "cover", desc := "(I)I" } : Jvm.MethodName) prog_10_method_23_code (9 : Nat) (Option.some Jvm.ClassFile.FieldType.int)) ∈ lw_all := lw_g (lw_at lw_m9 197 rfl) rfl
theorem q2217 : (Jvm.Cond.instanceMethod ({ cls := "OfferSkyModel", name := "coveredByTwo", desc := "()I" } : Jvm.MethodName)) ∈ lw_all := lw_g (lw_at lw_m9 199 rfl) rfl
theorem q2218 : (Jvm.Cond.selects "OfferSkyModel" ({ cls := "OfferSkyModel", name := "coveredByTwo", desc := "()I" } : Jvm.MethodName) ({ cls := "OfferSkyModel", name := "coveredByTwo", desc := "()I" } : Jvm.MethodName)) ∈ lw_all := lw_g (lw_at lw_m9 200 rfl) rfl
theorem q2219 : (Jvm.Cond.code ({ cls := "OfferSkyModel", name := "coveredByTwo", desc := "()I" } : Jvm.MethodName) prog_10_method_93_code (1 : Nat) (Option.some Jvm.ClassFile.FieldType.int)) ∈ lw_all := lw_g (lw_at lw_m9 201 rfl) rfl
theorem q2220 : (Jvm.Cond.methodLink "OfferSkyModel" (208 : Nat) ({ cls := "OfferSkyModel", name := "byTwo", desc := "()I" } : Jvm.MethodName)) ∈ lw_all := lw_g (lw_at lw_m9 202 rfl) rfl
theorem q2221 : (Jvm.Cond.privateMethod ({ cls := "OfferSkyModel", name := "byTwo", desc := "()I" } : Jvm.MethodName)) ∈ lw_tbl := lw_at lw_m9 203 rfl
theorem q2222 : (Jvm.Cond.instanceMethod ({ cls := "OfferSkyModel", name := "byTwo", desc := "()I" } : Jvm.MethodName)) ∈ lw_all := lw_g (lw_at lw_m9 204 rfl) rfl
theorem q2223 : (Jvm.Cond.code ({ cls := "OfferSkyModel", name := "byTwo", desc := "()I" } : Jvm.MethodName) prog_10_method_24_code (7 : Nat) (Option.some Jvm.ClassFile.FieldType.int)) ∈ lw_all := lw_g (lw_at lw_m9 205 rfl) rfl
theorem q2225 : (Jvm.Cond.instanceMethod ({ cls := "OfferSkyModel", name := "takenAt", desc := "(I)I" } : Jvm.MethodName)) ∈ lw_all := lw_g (lw_at lw_m9 207 rfl) rfl
theorem q2226 : (Jvm.Cond.selects "OfferSkyModel" ({ cls := "OfferSkyModel", name := "takenAt", desc := "(I)I" } : Jvm.MethodName) ({ cls := "OfferSkyModel", name := "takenAt", desc := "(I)I" } : Jvm.MethodName)) ∈ lw_all := lw_g (lw_at lw_m9 208 rfl) rfl
theorem q2227 : (Jvm.Cond.code ({ cls := "OfferSkyModel", name := "takenAt", desc := "(I)I" } : Jvm.MethodName) prog_10_method_94_code (3 : Nat) (Option.some Jvm.ClassFile.FieldType.int)) ∈ lw_all := lw_g (lw_at lw_m9 209 rfl) rfl
theorem q2229 : (Jvm.Cond.instanceMethod ({ cls := "OfferSkyModel", name := "scoreOf", desc := "(I)I" } : Jvm.MethodName)) ∈ lw_all := lw_g (lw_at lw_m9 211 rfl) rfl
theorem q2230 : (Jvm.Cond.selects "OfferSkyModel" ({ cls := "OfferSkyModel", name := "scoreOf", desc := "(I)I" } : Jvm.MethodName) ({ cls := "OfferSkyModel", name := "scoreOf", desc := "(I)I" } : Jvm.MethodName)) ∈ lw_all := lw_g (lw_at lw_m9 212 rfl) rfl
theorem q2231 : (Jvm.Cond.code ({ cls := "OfferSkyModel", name := "scoreOf", desc := "(I)I" } : Jvm.MethodName) prog_10_method_95_code (2 : Nat) (Option.some Jvm.ClassFile.FieldType.int)) ∈ lw_all := lw_g (lw_at lw_m9 213 rfl) rfl
theorem q2232 : (Jvm.Cond.methodLink "OfferSkyModel" (85 : Nat) ({ cls := "OfferSkyModel", name := "score", desc := "(I)I" } : Jvm.MethodName)) ∈ lw_all := lw_g (lw_at lw_m9 214 rfl) rfl
theorem q2233 : (Jvm.Cond.privateMethod ({ cls := "OfferSkyModel", name := "score", desc := "(I)I" } : Jvm.MethodName)) ∈ lw_tbl := lw_at lw_m9 215 rfl
theorem q2234 : (Jvm.Cond.instanceMethod ({ cls := "OfferSkyModel", name := "score", desc := "(I)I" } : Jvm.MethodName)) ∈ lw_all := lw_g (lw_at lw_m9 216 rfl) rfl
theorem q2235 : (Jvm.Cond.code ({ cls := "OfferSkyModel", name := "score", desc := "(I)I" } : Jvm.MethodName) prog_10_method_25_code (4 : Nat) (Option.some Jvm.ClassFile.FieldType.int)) ∈ lw_all := lw_g (lw_at lw_m9 217 rfl) rfl
theorem q2237 : (Jvm.Cond.instanceMethod ({ cls := "OfferSkyModel", name := "byScore", desc := "(I)I" } : Jvm.MethodName)) ∈ lw_all := lw_g (lw_at lw_m9 219 rfl) rfl
theorem q2238 : (Jvm.Cond.selects "OfferSkyModel" ({ cls := "OfferSkyModel", name := "byScore", desc := "(I)I" } : Jvm.MethodName) ({ cls := "OfferSkyModel", name := "byScore", desc := "(I)I" } : Jvm.MethodName)) ∈ lw_all := lw_g (lw_at lw_m9 220 rfl) rfl
theorem q2239 : (Jvm.Cond.code ({ cls := "OfferSkyModel", name := "byScore", desc := "(I)I" } : Jvm.MethodName) prog_10_method_96_code (3 : Nat) (Option.some Jvm.ClassFile.FieldType.int)) ∈ lw_all := lw_g (lw_at lw_m9 221 rfl) rfl
theorem q2240 : (Jvm.Cond.methodLink "OfferSkyModel" (211 : Nat) ({ cls := "OfferSkyModel", name := "scored", desc := "(I)I" } : Jvm.MethodName)) ∈ lw_all := lw_g (lw_at lw_m9 222 rfl) rfl
theorem q2241 : (Jvm.Cond.privateMethod ({ cls := "OfferSkyModel", name := "scored", desc := "(I)I" } : Jvm.MethodName)) ∈ lw_tbl := lw_at lw_m9 223 rfl
theorem q2242 : (Jvm.Cond.instanceMethod ({ cls := "OfferSkyModel", name := "scored", desc := "(I)I" } : Jvm.MethodName)) ∈ lw_all := lw_g (lw_at lw_m9 224 rfl) rfl
theorem q2243 : (Jvm.Cond.code ({ cls := "OfferSkyModel", name := "scored", desc := "(I)I" } : Jvm.MethodName) prog_10_method_26_code (5 : Nat) (Option.some Jvm.ClassFile.FieldType.int)) ∈ lw_all := lw_g (lw_at lw_m9 225 rfl) rfl
theorem q2245 : (Jvm.Cond.instanceMethod ({ cls := "OfferSkyModel", name := "reachByPairs", desc := "(II)I" } : Jvm.MethodName)) ∈ lw_all := lw_g (lw_at lw_m9 227 rfl) rfl
theorem q2246 : (Jvm.Cond.selects "OfferSkyModel" ({ cls := "OfferSkyModel", name := "reachByPairs", desc := "(II)I" } : Jvm.MethodName) ({ cls := "OfferSkyModel", name := "reachByPairs", desc := "(II)I" } : Jvm.MethodName)) ∈ lw_all := lw_g (lw_at lw_m9 228 rfl) rfl
theorem q2247 : (Jvm.Cond.code ({ cls := "OfferSkyModel", name := "reachByPairs", desc := "(II)I" } : Jvm.MethodName) prog_10_method_97_code (3 : Nat) (Option.some Jvm.ClassFile.FieldType.int)) ∈ lw_all := lw_g (lw_at lw_m9 229 rfl) rfl
theorem q2248 : (Jvm.Cond.methodLink "OfferSkyModel" (214 : Nat) ({ cls := "OfferSkyModel", name := "reached", desc := "(II)I" } : Jvm.MethodName)) ∈ lw_all := lw_g (lw_at lw_m9 230 rfl) rfl
theorem q2249 : (Jvm.Cond.privateMethod ({ cls := "OfferSkyModel", name := "reached", desc := "(II)I" } : Jvm.MethodName)) ∈ lw_tbl := lw_at lw_m9 231 rfl
theorem q2250 : (Jvm.Cond.instanceMethod ({ cls := "OfferSkyModel", name := "reached", desc := "(II)I" } : Jvm.MethodName)) ∈ lw_all := lw_g (lw_at lw_m9 232 rfl) rfl
theorem q2251 : (Jvm.Cond.code ({ cls := "OfferSkyModel", name := "reached", desc := "(II)I" } : Jvm.MethodName) prog_10_method_27_code (7 : Nat) (Option.some Jvm.ClassFile.FieldType.int)) ∈ lw_all := lw_g (lw_at lw_m9 233 rfl) rfl
theorem q2253 : (Jvm.Cond.instanceMethod ({ cls := "OfferSkyModel", name := "reachBySteps", desc := "(II)I" } : Jvm.MethodName)) ∈ lw_all := lw_g (lw_at lw_m9 235 rfl) rfl
theorem q2254 : (Jvm.Cond.selects "OfferSkyModel" ({ cls := "OfferSkyModel", name := "reachBySteps", desc := "(II)I" } : Jvm.MethodName) ({ cls := "OfferSkyModel", name := "reachBySteps", desc := "(II)I" } : Jvm.MethodName)) ∈ lw_all := lw_g (lw_at lw_m9 236 rfl) rfl
theorem q2255 : (Jvm.Cond.code ({ cls := "OfferSkyModel", name := "reachBySteps", desc := "(II)I" } : Jvm.MethodName) prog_10_method_98_code (3 : Nat) (Option.some Jvm.ClassFile.FieldType.int)) ∈ lw_all := lw_g (lw_at lw_m9 237 rfl) rfl
theorem q2256 : (Jvm.Cond.methodLink "OfferSkyModel" (217 : Nat) ({ cls := "OfferSkyModel", name := "reachByPairs", desc := "(II)I" } : Jvm.MethodName)) ∈ lw_all := lw_g (lw_at lw_m9 238 rfl) rfl
theorem q2258 : (Jvm.Cond.instanceMethod ({ cls := "OfferSkyModel", name := "added", desc := "()I" } : Jvm.MethodName)) ∈ lw_all := lw_g (lw_at lw_m10 0 rfl) rfl
theorem q2259 : (Jvm.Cond.selects "OfferSkyModel" ({ cls := "OfferSkyModel", name := "added", desc := "()I" } : Jvm.MethodName) ({ cls := "OfferSkyModel", name := "added", desc := "()I" } : Jvm.MethodName)) ∈ lw_all := lw_g (lw_at lw_m10 1 rfl) rfl
theorem q2260 : (Jvm.Cond.code ({ cls := "OfferSkyModel", name := "added", desc := "()I" } : Jvm.MethodName) prog_10_method_99_code (1 : Nat) (Option.some Jvm.ClassFile.FieldType.int)) ∈ lw_all := lw_g (lw_at lw_m10 2 rfl) rfl
theorem q2262 : (Jvm.Cond.instanceMethod ({ cls := "OfferSkyModel", name := "removed", desc := "()I" } : Jvm.MethodName)) ∈ lw_all := lw_g (lw_at lw_m10 4 rfl) rfl
theorem q2263 : (Jvm.Cond.selects "OfferSkyModel" ({ cls := "OfferSkyModel", name := "removed", desc := "()I" } : Jvm.MethodName) ({ cls := "OfferSkyModel", name := "removed", desc := "()I" } : Jvm.MethodName)) ∈ lw_all := lw_g (lw_at lw_m10 5 rfl) rfl
theorem q2264 : (Jvm.Cond.code ({ cls := "OfferSkyModel", name := "removed", desc := "()I" } : Jvm.MethodName) prog_10_method_100_code (1 : Nat) (Option.some Jvm.ClassFile.FieldType.int)) ∈ lw_all := lw_g (lw_at lw_m10 6 rfl) rfl
theorem q2266 : (Jvm.Cond.instanceMethod ({ cls := "OfferSkyModel", name := "beatings", desc := "()I" } : Jvm.MethodName)) ∈ lw_all := lw_g (lw_at lw_m10 8 rfl) rfl
theorem q2267 : (Jvm.Cond.selects "OfferSkyModel" ({ cls := "OfferSkyModel", name := "beatings", desc := "()I" } : Jvm.MethodName) ({ cls := "OfferSkyModel", name := "beatings", desc := "()I" } : Jvm.MethodName)) ∈ lw_all := lw_g (lw_at lw_m10 9 rfl) rfl
theorem q2268 : (Jvm.Cond.code ({ cls := "OfferSkyModel", name := "beatings", desc := "()I" } : Jvm.MethodName) prog_10_method_102_code (1 : Nat) (Option.some Jvm.ClassFile.FieldType.int)) ∈ lw_all := lw_g (lw_at lw_m10 10 rfl) rfl
theorem q2269 : (Jvm.Cond.methodLink "OfferSkyModel" (220 : Nat) ({ cls := "OfferSkyModel", name := "allBeatings", desc := "()I" } : Jvm.MethodName)) ∈ lw_all := lw_g (lw_at lw_m10 11 rfl) rfl
theorem q2270 : (Jvm.Cond.privateMethod ({ cls := "OfferSkyModel", name := "allBeatings", desc := "()I" } : Jvm.MethodName)) ∈ lw_tbl := lw_at lw_m10 12 rfl
theorem q2271 : (Jvm.Cond.instanceMethod ({ cls := "OfferSkyModel", name := "allBeatings", desc := "()I" } : Jvm.MethodName)) ∈ lw_all := lw_g (lw_at lw_m10 13 rfl) rfl
theorem q2272 : (Jvm.Cond.code ({ cls := "OfferSkyModel", name := "allBeatings", desc := "()I" } : Jvm.MethodName) prog_10_method_101_code (3 : Nat) (Option.some Jvm.ClassFile.FieldType.int)) ∈ lw_all := lw_g (lw_at lw_m10 14 rfl) rfl
theorem q2274 : (Jvm.Cond.instanceMethod ({ cls := "OfferSkyModel", name := "toldShare", desc := "()D" } : Jvm.MethodName)) ∈ lw_all := lw_g (lw_at lw_m10 16 rfl) rfl
theorem q2275 : (Jvm.Cond.selects "OfferSkyModel" ({ cls := "OfferSkyModel", name := "toldShare", desc := "()D" } : Jvm.MethodName) ({ cls := "OfferSkyModel", name := "toldShare", desc := "()D" } : Jvm.MethodName)) ∈ lw_all := lw_g (lw_at lw_m10 17 rfl) rfl
theorem q2276 : (Jvm.Cond.code ({ cls := "OfferSkyModel", name := "toldShare", desc := "()D" } : Jvm.MethodName) prog_10_method_103_code (2 : Nat) (Option.some Jvm.ClassFile.FieldType.double)) ∈ lw_all := lw_g (lw_at lw_m10 18 rfl) rfl
theorem q2278 : (Jvm.Cond.instanceMethod ({ cls := "OfferSkyModel", name := "digest", desc := "()J" } : Jvm.MethodName)) ∈ lw_all := lw_g (lw_at lw_m10 20 rfl) rfl
theorem q2279 : (Jvm.Cond.selects "OfferSkyModel" ({ cls := "OfferSkyModel", name := "digest", desc := "()J" } : Jvm.MethodName) ({ cls := "OfferSkyModel", name := "digest", desc := "()J" } : Jvm.MethodName)) ∈ lw_all := lw_g (lw_at lw_m10 21 rfl) rfl
theorem q2280 : (Jvm.Cond.code ({ cls := "OfferSkyModel", name := "digest", desc := "()J" } : Jvm.MethodName) prog_10_method_107_code (4 : Nat) (Option.some Jvm.ClassFile.FieldType.long)) ∈ lw_all := lw_g (lw_at lw_m10 22 rfl) rfl
theorem q2281 : (Jvm.Cond.constantLong "OfferSkyModel" (239 : Nat) (4513 : Int64)) ∈ lw_all := lw_g (lw_at lw_m10 23 rfl) rfl
theorem q2282 : (Jvm.Cond.methodLink "OfferSkyModel" (229 : Nat) ({ cls := "OfferSkyModel", name := "mix", desc := "(J)V" } : Jvm.MethodName)) ∈ lw_all := lw_g (lw_at lw_m10 24 rfl) rfl
theorem q2283 : (Jvm.Cond.privateMethod ({ cls := "OfferSkyModel", name := "mix", desc := "(J)V" } : Jvm.MethodName)) ∈ lw_tbl := lw_at lw_m10 25 rfl
theorem q2284 : (Jvm.Cond.instanceMethod ({ cls := "OfferSkyModel", name := "mix", desc := "(J)V" } : Jvm.MethodName)) ∈ lw_all := lw_g (lw_at lw_m10 26 rfl) rfl
theorem q2285 : (Jvm.Cond.code ({ cls := "OfferSkyModel", name := "mix", desc := "(J)V" } : Jvm.MethodName) prog_10_method_104_code (3 : Nat) (Option.none : Option Jvm.ClassFile.FieldType)) ∈ lw_all := lw_g (lw_at lw_m10 27 rfl) rfl
theorem q2286 : (Jvm.Cond.constantLong "OfferSkyModel" (223 : Nat) (31 : Int64)) ∈ lw_all := lw_g (lw_at lw_m10 28 rfl) rfl
theorem q2287 : (Jvm.Cond.methodLink "OfferSkyModel" (241 : Nat) ({ cls := "OfferSkyModel", name := "mixOffer", desc := "(I)V" } : Jvm.MethodName)) ∈ lw_all := lw_g (lw_at lw_m10 29 rfl) rfl
theorem q2288 : (Jvm.Cond.privateMethod ({ cls := "OfferSkyModel", name := "mixOffer", desc := "(I)V" } : Jvm.MethodName)) ∈ lw_tbl := lw_at lw_m10 30 rfl
theorem q2289 : (Jvm.Cond.instanceMethod ({ cls := "OfferSkyModel", name := "mixOffer", desc := "(I)V" } : Jvm.MethodName)) ∈ lw_all := lw_g (lw_at lw_m10 31 rfl) rfl
theorem q2290 : (Jvm.Cond.code ({ cls := "OfferSkyModel", name := "mixOffer", desc := "(I)V" } : Jvm.MethodName) prog_10_method_105_code (3 : Nat) (Option.none : Option Jvm.ClassFile.FieldType)) ∈ lw_all := lw_g (lw_at lw_m10 32 rfl) rfl
theorem q2291 : (Jvm.Cond.methodLink "OfferSkyModel" (244 : Nat) ({ cls := "OfferSkyModel", name := "mixSome", desc := "()V" } : Jvm.MethodName)) ∈ lw_all := lw_g (lw_at lw_m10 33 rfl) rfl
theorem q2292 : (Jvm.Cond.privateMethod ({ cls := "OfferSkyModel", name := "mixSome", desc := "()V" } : Jvm.MethodName)) ∈ lw_tbl := lw_at lw_m10 34 rfl
theorem q2293 : (Jvm.Cond.instanceMethod ({ cls := "OfferSkyModel", name := "mixSome", desc := "()V" } : Jvm.MethodName)) ∈ lw_all := lw_g (lw_at lw_m10 35 rfl) rfl
theorem q2294 : (Jvm.Cond.code ({ cls := "OfferSkyModel", name := "mixSome", desc := "()V" } : Jvm.MethodName) prog_10_method_106_code (5 : Nat) (Option.none : Option Jvm.ClassFile.FieldType)) ∈ lw_all := lw_g (lw_at lw_m10 36 rfl) rfl
theorem q2295 : (Jvm.Cond.methodLink "OfferSkyModel" (233 : Nat) ({ cls := "OfferSkyModel", name := "toldOn", desc := "(I)I" } : Jvm.MethodName)) ∈ lw_all := lw_g (lw_at lw_m10 37 rfl) rfl
theorem q2296 : (Jvm.Cond.methodLink "OfferSkyModel" (236 : Nat) ({ cls := "OfferSkyModel", name := "toldWeakly", desc := "(I)I" } : Jvm.MethodName)) ∈ lw_all := lw_g (lw_at lw_m10 38 rfl) rfl
theorem q2297 : (Jvm.Cond.methodLink "OfferSkyModel" (247 : Nat) ({ cls := "OfferSkyModel", name := "toldShare", desc := "()D" } : Jvm.MethodName)) ∈ lw_all := lw_g (lw_at lw_m10 39 rfl) rfl
theorem q2298 : (Jvm.Cond.methodLink "OfferSkyModel" (251 : Nat) ({ cls := "java/lang/Double", name := "doubleToLongBits", desc := "(D)J" } : Jvm.MethodName)) ∈ lw_all := lw_g (lw_at lw_m10 40 rfl) rfl
theorem q2323 : (Jvm.Cond.castable "OfferSkyModel" "java/lang/Object") ∈ lw_tbl := lw_at lw_m10 65 rfl
theorem in_X5 : ∀ w ∈ wsX50, w ∈ lw_all := lw_in wsX50 [1836, 1838, 1840, 1842, 1844, 1846, 1848, 1850, 1852, 1854, 1856, 1858, 1860, 1862, 1864, 1866, 1868] (by decide +kernel) (by decide +kernel)
