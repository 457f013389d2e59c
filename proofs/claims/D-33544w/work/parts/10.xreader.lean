/-! OfferSky$Reader -/
set_option maxRecDepth 100000
def RX7 : String := "OfferSky$Reader"
def TX7 : u_T := fun k => match k with
  | 0 => ("OfferSky$Reader", "at", "I", false)
  | 1 => ("OfferSky$Reader", "word", "C", false)
  | 2 => ("OfferSky$Reader", "side", "I", false)
  | 3 => ("OfferSky$Reader", "told", "[I", true)
  | _ => ("OfferSky$Reader", "this$0", "LOfferSky;", true)
def tyX7 : Nat → FieldType := fun k => match k with
  | 0 => .int
  | 1 => .char
  | 2 => .int
  | 3 => .array .int
  | _ => .object "OfferSky"
abbrev wsX70 : List Cond := u_ws RX7 TX7 5
theorem nmX7 : ∀ a, a < 5 → ∀ b, b < 5 → a ≠ b → (TX7 a).2.1 ≠ (TX7 b).2.1 := by decide +kernel
theorem tyX7_ok : ∀ k, k < 5 → parseFieldDescriptor (TX7 k).2.2.1 = some (tyX7 k) := by decide +kernel
abbrev cX7_init : ByteArray := prog_6_method_1_code
def yX7_init : MethodName := ⟨RX7, "<init>", "(LOfferSky;)V"⟩
def dkwX7_init_0 : List UInt8 := [42, 43, 181, 0, 3, 42, 183, 0, 9, 42, 7, 188, 10, 181, 0, 15, 177]
abbrev dktX7_init_0 : List UInt8 := dkwX7_init_0 ++ []
theorem dksX7_init_0 : cX7_init.data.toList.drop 0 = dktX7_init_0 := by decide +kernel
theorem dX7_init_0 : decode cX7_init 0 = .ok (.aload_n 0, 1) := dk_42 (dk_at dksX7_init_0 0 rfl rfl)
theorem dX7_init_1 : decode cX7_init 1 = .ok (.aload_n 1, 1) := dk_43 (dk_at dksX7_init_0 1 rfl rfl)
theorem dX7_init_2 : decode cX7_init 2 = .ok (.putfield 3, 3) := dk_181 0 3 (dk_at dksX7_init_0 2 rfl rfl)
theorem dX7_init_5 : decode cX7_init 5 = .ok (.aload_n 0, 1) := dk_42 (dk_at dksX7_init_0 5 rfl rfl)
theorem dX7_init_6 : decode cX7_init 6 = .ok (.invokespecial 9, 3) := dk_183 0 9 (dk_at dksX7_init_0 6 rfl rfl)
theorem dX7_init_9 : decode cX7_init 9 = .ok (.aload_n 0, 1) := dk_42 (dk_at dksX7_init_0 9 rfl rfl)
theorem dX7_init_10 : decode cX7_init 10 = .ok (.iconst 4, 1) := dk_7 (dk_at dksX7_init_0 10 rfl rfl)
theorem dX7_init_11 : decode cX7_init 11 = .ok (.newarray .int, 2) := dk_188_10 (dk_at dksX7_init_0 11 rfl rfl)
theorem dX7_init_13 : decode cX7_init 13 = .ok (.putfield 15, 3) := dk_181 0 15 (dk_at dksX7_init_0 13 rfl rfl)
theorem dX7_init_16 : decode cX7_init 16 = .ok (.return_, 1) := dk_177 (dk_at dksX7_init_0 16 rfl rfl)
abbrev cX7_isWhole : ByteArray := prog_6_method_12_code
def yX7_isWhole : MethodName := ⟨RX7, "isWhole", "()Z"⟩
def dkwX7_isWhole_2 : List UInt8 := [4, 167, 0, 4, 3, 172]
abbrev dktX7_isWhole_2 : List UInt8 := dkwX7_isWhole_2 ++ []
def dkwX7_isWhole_1 : List UInt8 := [167, 255, 238, 27, 153, 0, 24, 42, 180, 0, 19, 42, 180, 0, 3, 180, 0, 23, 182, 0, 27, 160, 0, 7]
abbrev dktX7_isWhole_1 : List UInt8 := dkwX7_isWhole_1 ++ dktX7_isWhole_2
def dkwX7_isWhole_0 : List UInt8 := [42, 182, 0, 89, 60, 27, 153, 0, 20, 42, 16, 59, 182, 0, 58, 153, 0, 11, 42, 182, 0, 89, 60]
abbrev dktX7_isWhole_0 : List UInt8 := dkwX7_isWhole_0 ++ dktX7_isWhole_1
theorem dksX7_isWhole_0 : cX7_isWhole.data.toList.drop 0 = dktX7_isWhole_0 := by decide +kernel
theorem dksX7_isWhole_1 : cX7_isWhole.data.toList.drop 23 = dktX7_isWhole_1 := dk_seg dksX7_isWhole_0 23 rfl rfl
theorem dksX7_isWhole_2 : cX7_isWhole.data.toList.drop 47 = dktX7_isWhole_2 := dk_seg dksX7_isWhole_1 24 rfl rfl
theorem dX7_isWhole_0 : decode cX7_isWhole 0 = .ok (.aload_n 0, 1) := dk_42 (dk_at dksX7_isWhole_0 0 rfl rfl)
theorem dX7_isWhole_1 : decode cX7_isWhole 1 = .ok (.invokevirtual 89, 3) := dk_182 0 89 (dk_at dksX7_isWhole_0 1 rfl rfl)
theorem dX7_isWhole_4 : decode cX7_isWhole 4 = .ok (.istore_n 1, 1) := dk_60 (dk_at dksX7_isWhole_0 4 rfl rfl)
theorem dX7_isWhole_5 : decode cX7_isWhole 5 = .ok (.iload_n 1, 1) := dk_27 (dk_at dksX7_isWhole_0 5 rfl rfl)
theorem dX7_isWhole_6 : decode cX7_isWhole 6 = .ok (.ifCond .eq 20, 3) := dk_153 0 20 (dk_at dksX7_isWhole_0 6 rfl rfl)
theorem dX7_isWhole_9 : decode cX7_isWhole 9 = .ok (.aload_n 0, 1) := dk_42 (dk_at dksX7_isWhole_0 9 rfl rfl)
theorem dX7_isWhole_10 : decode cX7_isWhole 10 = .ok (.bipush 59, 2) := dk_16 59 (dk_at dksX7_isWhole_0 10 rfl rfl)
theorem dX7_isWhole_12 : decode cX7_isWhole 12 = .ok (.invokevirtual 58, 3) := dk_182 0 58 (dk_at dksX7_isWhole_0 12 rfl rfl)
theorem dX7_isWhole_15 : decode cX7_isWhole 15 = .ok (.ifCond .eq 11, 3) := dk_153 0 11 (dk_at dksX7_isWhole_0 15 rfl rfl)
theorem dX7_isWhole_18 : decode cX7_isWhole 18 = .ok (.aload_n 0, 1) := dk_42 (dk_at dksX7_isWhole_0 18 rfl rfl)
theorem dX7_isWhole_19 : decode cX7_isWhole 19 = .ok (.invokevirtual 89, 3) := dk_182 0 89 (dk_at dksX7_isWhole_0 19 rfl rfl)
theorem dX7_isWhole_22 : decode cX7_isWhole 22 = .ok (.istore_n 1, 1) := dk_60 (dk_at dksX7_isWhole_0 22 rfl rfl)
theorem dX7_isWhole_23 : decode cX7_isWhole 23 = .ok (.goto (-18), 3) := dk_167 255 238 (dk_at dksX7_isWhole_1 0 rfl rfl)
theorem dX7_isWhole_26 : decode cX7_isWhole 26 = .ok (.iload_n 1, 1) := dk_27 (dk_at dksX7_isWhole_1 3 rfl rfl)
theorem dX7_isWhole_27 : decode cX7_isWhole 27 = .ok (.ifCond .eq 24, 3) := dk_153 0 24 (dk_at dksX7_isWhole_1 4 rfl rfl)
theorem dX7_isWhole_30 : decode cX7_isWhole 30 = .ok (.aload_n 0, 1) := dk_42 (dk_at dksX7_isWhole_1 7 rfl rfl)
theorem dX7_isWhole_31 : decode cX7_isWhole 31 = .ok (.getfield 19, 3) := dk_180 0 19 (dk_at dksX7_isWhole_1 8 rfl rfl)
theorem dX7_isWhole_34 : decode cX7_isWhole 34 = .ok (.aload_n 0, 1) := dk_42 (dk_at dksX7_isWhole_1 11 rfl rfl)
theorem dX7_isWhole_35 : decode cX7_isWhole 35 = .ok (.getfield 3, 3) := dk_180 0 3 (dk_at dksX7_isWhole_1 12 rfl rfl)
theorem dX7_isWhole_38 : decode cX7_isWhole 38 = .ok (.getfield 23, 3) := dk_180 0 23 (dk_at dksX7_isWhole_1 15 rfl rfl)
theorem dX7_isWhole_41 : decode cX7_isWhole 41 = .ok (.invokevirtual 27, 3) := dk_182 0 27 (dk_at dksX7_isWhole_1 18 rfl rfl)
theorem dX7_isWhole_44 : decode cX7_isWhole 44 = .ok (.if_icmp .ne 7, 3) := dk_160 0 7 (dk_at dksX7_isWhole_1 21 rfl rfl)
theorem dX7_isWhole_47 : decode cX7_isWhole 47 = .ok (.iconst 1, 1) := dk_4 (dk_at dksX7_isWhole_2 0 rfl rfl)
theorem dX7_isWhole_48 : decode cX7_isWhole 48 = .ok (.goto 4, 3) := dk_167 0 4 (dk_at dksX7_isWhole_2 1 rfl rfl)
theorem dX7_isWhole_51 : decode cX7_isWhole 51 = .ok (.iconst 0, 1) := dk_3 (dk_at dksX7_isWhole_2 4 rfl rfl)
theorem dX7_isWhole_52 : decode cX7_isWhole 52 = .ok (.ireturn, 1) := dk_172 (dk_at dksX7_isWhole_2 5 rfl rfl)
abbrev cX7_readPart : ByteArray := prog_6_method_11_code
def yX7_readPart : MethodName := ⟨RX7, "readPart", "()Z"⟩
def dkwX7_readPart_5 : List UInt8 := [42, 182, 0, 86, 153, 0, 7, 4, 167, 0, 4, 3, 172]
abbrev dktX7_readPart_5 : List UInt8 := dkwX7_readPart_5 ++ []
def dkwX7_readPart_4 : List UInt8 := [42, 182, 0, 76, 172, 42, 182, 0, 80, 172, 42, 182, 0, 83, 172, 42, 180, 0, 72, 16, 98, 160, 0, 14]
abbrev dktX7_readPart_4 : List UInt8 := dkwX7_readPart_4 ++ dktX7_readPart_5
def dkwX7_readPart_3 : List UInt8 := [171, 0, 0, 0, 0, 0, 50, 0, 0, 0, 3, 0, 0, 0, 97, 0, 0, 0, 35, 0, 0, 0, 114, 0, 0, 0, 40, 0, 0, 0, 119, 0, 0, 0, 45]
abbrev dktX7_readPart_3 : List UInt8 := dkwX7_readPart_3 ++ dktX7_readPart_4
def dkwX7_readPart_2 : List UInt8 := [160, 0, 7, 4, 167, 0, 4, 3, 184, 0, 41, 96, 181, 0, 19, 42, 180, 0, 72]
abbrev dktX7_readPart_2 : List UInt8 := dkwX7_readPart_2 ++ dktX7_readPart_3
def dkwX7_readPart_1 : List UInt8 := [180, 0, 72, 16, 114, 159, 0, 21, 42, 180, 0, 72, 16, 119, 159, 0, 12, 42, 180, 0, 72, 16, 98]
abbrev dktX7_readPart_1 : List UInt8 := dkwX7_readPart_1 ++ dktX7_readPart_2
def dkwX7_readPart_0 : List UInt8 := [42, 42, 182, 0, 37, 181, 0, 72, 42, 89, 180, 0, 19, 42, 180, 0, 72, 16, 97, 159, 0, 30, 42]
abbrev dktX7_readPart_0 : List UInt8 := dkwX7_readPart_0 ++ dktX7_readPart_1
theorem dksX7_readPart_0 : cX7_readPart.data.toList.drop 0 = dktX7_readPart_0 := by decide +kernel
theorem dksX7_readPart_1 : cX7_readPart.data.toList.drop 23 = dktX7_readPart_1 := dk_seg dksX7_readPart_0 23 rfl rfl
theorem dksX7_readPart_2 : cX7_readPart.data.toList.drop 46 = dktX7_readPart_2 := dk_seg dksX7_readPart_1 23 rfl rfl
theorem dksX7_readPart_3 : cX7_readPart.data.toList.drop 65 = dktX7_readPart_3 := dk_seg dksX7_readPart_2 19 rfl rfl
theorem dksX7_readPart_4 : cX7_readPart.data.toList.drop 100 = dktX7_readPart_4 := dk_seg dksX7_readPart_3 35 rfl rfl
theorem dksX7_readPart_5 : cX7_readPart.data.toList.drop 124 = dktX7_readPart_5 := dk_seg dksX7_readPart_4 24 rfl rfl
theorem dX7_readPart_0 : decode cX7_readPart 0 = .ok (.aload_n 0, 1) := dk_42 (dk_at dksX7_readPart_0 0 rfl rfl)
theorem dX7_readPart_1 : decode cX7_readPart 1 = .ok (.aload_n 0, 1) := dk_42 (dk_at dksX7_readPart_0 1 rfl rfl)
theorem dX7_readPart_2 : decode cX7_readPart 2 = .ok (.invokevirtual 37, 3) := dk_182 0 37 (dk_at dksX7_readPart_0 2 rfl rfl)
theorem dX7_readPart_5 : decode cX7_readPart 5 = .ok (.putfield 72, 3) := dk_181 0 72 (dk_at dksX7_readPart_0 5 rfl rfl)
theorem dX7_readPart_8 : decode cX7_readPart 8 = .ok (.aload_n 0, 1) := dk_42 (dk_at dksX7_readPart_0 8 rfl rfl)
theorem dX7_readPart_9 : decode cX7_readPart 9 = .ok (.dup, 1) := dk_89 (dk_at dksX7_readPart_0 9 rfl rfl)
theorem dX7_readPart_10 : decode cX7_readPart 10 = .ok (.getfield 19, 3) := dk_180 0 19 (dk_at dksX7_readPart_0 10 rfl rfl)
theorem dX7_readPart_13 : decode cX7_readPart 13 = .ok (.aload_n 0, 1) := dk_42 (dk_at dksX7_readPart_0 13 rfl rfl)
theorem dX7_readPart_14 : decode cX7_readPart 14 = .ok (.getfield 72, 3) := dk_180 0 72 (dk_at dksX7_readPart_0 14 rfl rfl)
theorem dX7_readPart_17 : decode cX7_readPart 17 = .ok (.bipush 97, 2) := dk_16 97 (dk_at dksX7_readPart_0 17 rfl rfl)
theorem dX7_readPart_19 : decode cX7_readPart 19 = .ok (.if_icmp .eq 30, 3) := dk_159 0 30 (dk_at dksX7_readPart_0 19 rfl rfl)
theorem dX7_readPart_22 : decode cX7_readPart 22 = .ok (.aload_n 0, 1) := dk_42 (dk_at dksX7_readPart_0 22 rfl rfl)
theorem dX7_readPart_23 : decode cX7_readPart 23 = .ok (.getfield 72, 3) := dk_180 0 72 (dk_at dksX7_readPart_1 0 rfl rfl)
theorem dX7_readPart_26 : decode cX7_readPart 26 = .ok (.bipush 114, 2) := dk_16 114 (dk_at dksX7_readPart_1 3 rfl rfl)
theorem dX7_readPart_28 : decode cX7_readPart 28 = .ok (.if_icmp .eq 21, 3) := dk_159 0 21 (dk_at dksX7_readPart_1 5 rfl rfl)
theorem dX7_readPart_31 : decode cX7_readPart 31 = .ok (.aload_n 0, 1) := dk_42 (dk_at dksX7_readPart_1 8 rfl rfl)
theorem dX7_readPart_32 : decode cX7_readPart 32 = .ok (.getfield 72, 3) := dk_180 0 72 (dk_at dksX7_readPart_1 9 rfl rfl)
theorem dX7_readPart_35 : decode cX7_readPart 35 = .ok (.bipush 119, 2) := dk_16 119 (dk_at dksX7_readPart_1 12 rfl rfl)
theorem dX7_readPart_37 : decode cX7_readPart 37 = .ok (.if_icmp .eq 12, 3) := dk_159 0 12 (dk_at dksX7_readPart_1 14 rfl rfl)
theorem dX7_readPart_40 : decode cX7_readPart 40 = .ok (.aload_n 0, 1) := dk_42 (dk_at dksX7_readPart_1 17 rfl rfl)
theorem dX7_readPart_41 : decode cX7_readPart 41 = .ok (.getfield 72, 3) := dk_180 0 72 (dk_at dksX7_readPart_1 18 rfl rfl)
theorem dX7_readPart_44 : decode cX7_readPart 44 = .ok (.bipush 98, 2) := dk_16 98 (dk_at dksX7_readPart_1 21 rfl rfl)
theorem dX7_readPart_46 : decode cX7_readPart 46 = .ok (.if_icmp .ne 7, 3) := dk_160 0 7 (dk_at dksX7_readPart_2 0 rfl rfl)
theorem dX7_readPart_49 : decode cX7_readPart 49 = .ok (.iconst 1, 1) := dk_4 (dk_at dksX7_readPart_2 3 rfl rfl)
theorem dX7_readPart_50 : decode cX7_readPart 50 = .ok (.goto 4, 3) := dk_167 0 4 (dk_at dksX7_readPart_2 4 rfl rfl)
theorem dX7_readPart_53 : decode cX7_readPart 53 = .ok (.iconst 0, 1) := dk_3 (dk_at dksX7_readPart_2 7 rfl rfl)
theorem dX7_readPart_54 : decode cX7_readPart 54 = .ok (.invokestatic 41, 3) := dk_184 0 41 (dk_at dksX7_readPart_2 8 rfl rfl)
theorem dX7_readPart_57 : decode cX7_readPart 57 = .ok (.iadd, 1) := dk_96 (dk_at dksX7_readPart_2 11 rfl rfl)
theorem dX7_readPart_58 : decode cX7_readPart 58 = .ok (.putfield 19, 3) := dk_181 0 19 (dk_at dksX7_readPart_2 12 rfl rfl)
theorem dX7_readPart_61 : decode cX7_readPart 61 = .ok (.aload_n 0, 1) := dk_42 (dk_at dksX7_readPart_2 15 rfl rfl)
theorem dX7_readPart_62 : decode cX7_readPart 62 = .ok (.getfield 72, 3) := dk_180 0 72 (dk_at dksX7_readPart_2 16 rfl rfl)
theorem dX7_readPart_65 : decode cX7_readPart 65 = .ok (.lookupswitch 50 #[(97, 35), (114, 40), (119, 45)], 35) := by decide +kernel
theorem dX7_readPart_100 : decode cX7_readPart 100 = .ok (.aload_n 0, 1) := dk_42 (dk_at dksX7_readPart_4 0 rfl rfl)
theorem dX7_readPart_101 : decode cX7_readPart 101 = .ok (.invokevirtual 76, 3) := dk_182 0 76 (dk_at dksX7_readPart_4 1 rfl rfl)
theorem dX7_readPart_104 : decode cX7_readPart 104 = .ok (.ireturn, 1) := dk_172 (dk_at dksX7_readPart_4 4 rfl rfl)
theorem dX7_readPart_105 : decode cX7_readPart 105 = .ok (.aload_n 0, 1) := dk_42 (dk_at dksX7_readPart_4 5 rfl rfl)
theorem dX7_readPart_106 : decode cX7_readPart 106 = .ok (.invokevirtual 80, 3) := dk_182 0 80 (dk_at dksX7_readPart_4 6 rfl rfl)
theorem dX7_readPart_109 : decode cX7_readPart 109 = .ok (.ireturn, 1) := dk_172 (dk_at dksX7_readPart_4 9 rfl rfl)
theorem dX7_readPart_110 : decode cX7_readPart 110 = .ok (.aload_n 0, 1) := dk_42 (dk_at dksX7_readPart_4 10 rfl rfl)
theorem dX7_readPart_111 : decode cX7_readPart 111 = .ok (.invokevirtual 83, 3) := dk_182 0 83 (dk_at dksX7_readPart_4 11 rfl rfl)
theorem dX7_readPart_114 : decode cX7_readPart 114 = .ok (.ireturn, 1) := dk_172 (dk_at dksX7_readPart_4 14 rfl rfl)
theorem dX7_readPart_115 : decode cX7_readPart 115 = .ok (.aload_n 0, 1) := dk_42 (dk_at dksX7_readPart_4 15 rfl rfl)
theorem dX7_readPart_116 : decode cX7_readPart 116 = .ok (.getfield 72, 3) := dk_180 0 72 (dk_at dksX7_readPart_4 16 rfl rfl)
theorem dX7_readPart_119 : decode cX7_readPart 119 = .ok (.bipush 98, 2) := dk_16 98 (dk_at dksX7_readPart_4 19 rfl rfl)
theorem dX7_readPart_121 : decode cX7_readPart 121 = .ok (.if_icmp .ne 14, 3) := dk_160 0 14 (dk_at dksX7_readPart_4 21 rfl rfl)
theorem dX7_readPart_124 : decode cX7_readPart 124 = .ok (.aload_n 0, 1) := dk_42 (dk_at dksX7_readPart_5 0 rfl rfl)
theorem dX7_readPart_125 : decode cX7_readPart 125 = .ok (.invokevirtual 86, 3) := dk_182 0 86 (dk_at dksX7_readPart_5 1 rfl rfl)
theorem dX7_readPart_128 : decode cX7_readPart 128 = .ok (.ifCond .eq 7, 3) := dk_153 0 7 (dk_at dksX7_readPart_5 4 rfl rfl)
theorem dX7_readPart_131 : decode cX7_readPart 131 = .ok (.iconst 1, 1) := dk_4 (dk_at dksX7_readPart_5 7 rfl rfl)
theorem dX7_readPart_132 : decode cX7_readPart 132 = .ok (.goto 4, 3) := dk_167 0 4 (dk_at dksX7_readPart_5 8 rfl rfl)
theorem dX7_readPart_135 : decode cX7_readPart 135 = .ok (.iconst 0, 1) := dk_3 (dk_at dksX7_readPart_5 11 rfl rfl)
theorem dX7_readPart_136 : decode cX7_readPart 136 = .ok (.ireturn, 1) := dk_172 (dk_at dksX7_readPart_5 12 rfl rfl)
abbrev cX7_sign : ByteArray := prog_6_method_2_code
def yX7_sign : MethodName := ⟨RX7, "sign", "()C"⟩
def dkwX7_sign_1 : List UInt8 := [42, 180, 0, 19, 182, 0, 33, 167, 0, 5, 16, 32, 172]
abbrev dktX7_sign_1 : List UInt8 := dkwX7_sign_1 ++ []
def dkwX7_sign_0 : List UInt8 := [42, 180, 0, 19, 42, 180, 0, 3, 180, 0, 23, 182, 0, 27, 162, 0, 20, 42, 180, 0, 3, 180, 0, 23]
abbrev dktX7_sign_0 : List UInt8 := dkwX7_sign_0 ++ dktX7_sign_1
theorem dksX7_sign_0 : cX7_sign.data.toList.drop 0 = dktX7_sign_0 := by decide +kernel
theorem dksX7_sign_1 : cX7_sign.data.toList.drop 24 = dktX7_sign_1 := dk_seg dksX7_sign_0 24 rfl rfl
theorem dX7_sign_0 : decode cX7_sign 0 = .ok (.aload_n 0, 1) := dk_42 (dk_at dksX7_sign_0 0 rfl rfl)
theorem dX7_sign_1 : decode cX7_sign 1 = .ok (.getfield 19, 3) := dk_180 0 19 (dk_at dksX7_sign_0 1 rfl rfl)
theorem dX7_sign_4 : decode cX7_sign 4 = .ok (.aload_n 0, 1) := dk_42 (dk_at dksX7_sign_0 4 rfl rfl)
theorem dX7_sign_5 : decode cX7_sign 5 = .ok (.getfield 3, 3) := dk_180 0 3 (dk_at dksX7_sign_0 5 rfl rfl)
theorem dX7_sign_8 : decode cX7_sign 8 = .ok (.getfield 23, 3) := dk_180 0 23 (dk_at dksX7_sign_0 8 rfl rfl)
theorem dX7_sign_11 : decode cX7_sign 11 = .ok (.invokevirtual 27, 3) := dk_182 0 27 (dk_at dksX7_sign_0 11 rfl rfl)
theorem dX7_sign_14 : decode cX7_sign 14 = .ok (.if_icmp .ge 20, 3) := dk_162 0 20 (dk_at dksX7_sign_0 14 rfl rfl)
theorem dX7_sign_17 : decode cX7_sign 17 = .ok (.aload_n 0, 1) := dk_42 (dk_at dksX7_sign_0 17 rfl rfl)
theorem dX7_sign_18 : decode cX7_sign 18 = .ok (.getfield 3, 3) := dk_180 0 3 (dk_at dksX7_sign_0 18 rfl rfl)
theorem dX7_sign_21 : decode cX7_sign 21 = .ok (.getfield 23, 3) := dk_180 0 23 (dk_at dksX7_sign_0 21 rfl rfl)
theorem dX7_sign_24 : decode cX7_sign 24 = .ok (.aload_n 0, 1) := dk_42 (dk_at dksX7_sign_1 0 rfl rfl)
theorem dX7_sign_25 : decode cX7_sign 25 = .ok (.getfield 19, 3) := dk_180 0 19 (dk_at dksX7_sign_1 1 rfl rfl)
theorem dX7_sign_28 : decode cX7_sign 28 = .ok (.invokevirtual 33, 3) := dk_182 0 33 (dk_at dksX7_sign_1 4 rfl rfl)
theorem dX7_sign_31 : decode cX7_sign 31 = .ok (.goto 5, 3) := dk_167 0 5 (dk_at dksX7_sign_1 7 rfl rfl)
theorem dX7_sign_34 : decode cX7_sign 34 = .ok (.bipush 32, 2) := dk_16 32 (dk_at dksX7_sign_1 10 rfl rfl)
theorem dX7_sign_36 : decode cX7_sign 36 = .ok (.ireturn, 1) := dk_172 (dk_at dksX7_sign_1 12 rfl rfl)
abbrev cX7_readValues : ByteArray := prog_6_method_7_code
def yX7_readValues : MethodName := ⟨RX7, "readValues", "()Z"⟩
def dkwX7_readValues_3 : List UInt8 := [132, 2, 1, 167, 255, 188, 27, 172]
abbrev dktX7_readValues_3 : List UInt8 := dkwX7_readValues_3 ++ []
def dkwX7_readValues_2 : List UInt8 := [182, 0, 62, 167, 0, 4, 2, 79, 42, 180, 0, 15, 28, 46, 2, 159, 0, 7, 4, 167, 0, 4, 3, 60]
abbrev dktX7_readValues_2 : List UInt8 := dkwX7_readValues_2 ++ dktX7_readValues_3
def dkwX7_readValues_1 : List UInt8 := [153, 0, 7, 4, 167, 0, 4, 3, 60, 42, 180, 0, 15, 28, 27, 153, 0, 13, 42, 3, 16, 99]
abbrev dktX7_readValues_1 : List UInt8 := dkwX7_readValues_1 ++ dktX7_readValues_2
def dkwX7_readValues_0 : List UInt8 := [4, 60, 3, 61, 28, 7, 162, 0, 69, 27, 153, 0, 65, 28, 153, 0, 12, 42, 16, 44, 182, 0, 58]
abbrev dktX7_readValues_0 : List UInt8 := dkwX7_readValues_0 ++ dktX7_readValues_1
theorem dksX7_readValues_0 : cX7_readValues.data.toList.drop 0 = dktX7_readValues_0 := by decide +kernel
theorem dksX7_readValues_1 : cX7_readValues.data.toList.drop 23 = dktX7_readValues_1 := dk_seg dksX7_readValues_0 23 rfl rfl
theorem dksX7_readValues_2 : cX7_readValues.data.toList.drop 45 = dktX7_readValues_2 := dk_seg dksX7_readValues_1 22 rfl rfl
theorem dksX7_readValues_3 : cX7_readValues.data.toList.drop 69 = dktX7_readValues_3 := dk_seg dksX7_readValues_2 24 rfl rfl
theorem dX7_readValues_0 : decode cX7_readValues 0 = .ok (.iconst 1, 1) := dk_4 (dk_at dksX7_readValues_0 0 rfl rfl)
theorem dX7_readValues_1 : decode cX7_readValues 1 = .ok (.istore_n 1, 1) := dk_60 (dk_at dksX7_readValues_0 1 rfl rfl)
theorem dX7_readValues_2 : decode cX7_readValues 2 = .ok (.iconst 0, 1) := dk_3 (dk_at dksX7_readValues_0 2 rfl rfl)
theorem dX7_readValues_3 : decode cX7_readValues 3 = .ok (.istore_n 2, 1) := dk_61 (dk_at dksX7_readValues_0 3 rfl rfl)
theorem dX7_readValues_4 : decode cX7_readValues 4 = .ok (.iload_n 2, 1) := dk_28 (dk_at dksX7_readValues_0 4 rfl rfl)
theorem dX7_readValues_5 : decode cX7_readValues 5 = .ok (.iconst 4, 1) := dk_7 (dk_at dksX7_readValues_0 5 rfl rfl)
theorem dX7_readValues_6 : decode cX7_readValues 6 = .ok (.if_icmp .ge 69, 3) := dk_162 0 69 (dk_at dksX7_readValues_0 6 rfl rfl)
theorem dX7_readValues_9 : decode cX7_readValues 9 = .ok (.iload_n 1, 1) := dk_27 (dk_at dksX7_readValues_0 9 rfl rfl)
theorem dX7_readValues_10 : decode cX7_readValues 10 = .ok (.ifCond .eq 65, 3) := dk_153 0 65 (dk_at dksX7_readValues_0 10 rfl rfl)
theorem dX7_readValues_13 : decode cX7_readValues 13 = .ok (.iload_n 2, 1) := dk_28 (dk_at dksX7_readValues_0 13 rfl rfl)
theorem dX7_readValues_14 : decode cX7_readValues 14 = .ok (.ifCond .eq 12, 3) := dk_153 0 12 (dk_at dksX7_readValues_0 14 rfl rfl)
theorem dX7_readValues_17 : decode cX7_readValues 17 = .ok (.aload_n 0, 1) := dk_42 (dk_at dksX7_readValues_0 17 rfl rfl)
theorem dX7_readValues_18 : decode cX7_readValues 18 = .ok (.bipush 44, 2) := dk_16 44 (dk_at dksX7_readValues_0 18 rfl rfl)
theorem dX7_readValues_20 : decode cX7_readValues 20 = .ok (.invokevirtual 58, 3) := dk_182 0 58 (dk_at dksX7_readValues_0 20 rfl rfl)
theorem dX7_readValues_23 : decode cX7_readValues 23 = .ok (.ifCond .eq 7, 3) := dk_153 0 7 (dk_at dksX7_readValues_1 0 rfl rfl)
theorem dX7_readValues_26 : decode cX7_readValues 26 = .ok (.iconst 1, 1) := dk_4 (dk_at dksX7_readValues_1 3 rfl rfl)
theorem dX7_readValues_27 : decode cX7_readValues 27 = .ok (.goto 4, 3) := dk_167 0 4 (dk_at dksX7_readValues_1 4 rfl rfl)
theorem dX7_readValues_30 : decode cX7_readValues 30 = .ok (.iconst 0, 1) := dk_3 (dk_at dksX7_readValues_1 7 rfl rfl)
theorem dX7_readValues_31 : decode cX7_readValues 31 = .ok (.istore_n 1, 1) := dk_60 (dk_at dksX7_readValues_1 8 rfl rfl)
theorem dX7_readValues_32 : decode cX7_readValues 32 = .ok (.aload_n 0, 1) := dk_42 (dk_at dksX7_readValues_1 9 rfl rfl)
theorem dX7_readValues_33 : decode cX7_readValues 33 = .ok (.getfield 15, 3) := dk_180 0 15 (dk_at dksX7_readValues_1 10 rfl rfl)
theorem dX7_readValues_36 : decode cX7_readValues 36 = .ok (.iload_n 2, 1) := dk_28 (dk_at dksX7_readValues_1 13 rfl rfl)
theorem dX7_readValues_37 : decode cX7_readValues 37 = .ok (.iload_n 1, 1) := dk_27 (dk_at dksX7_readValues_1 14 rfl rfl)
theorem dX7_readValues_38 : decode cX7_readValues 38 = .ok (.ifCond .eq 13, 3) := dk_153 0 13 (dk_at dksX7_readValues_1 15 rfl rfl)
theorem dX7_readValues_41 : decode cX7_readValues 41 = .ok (.aload_n 0, 1) := dk_42 (dk_at dksX7_readValues_1 18 rfl rfl)
theorem dX7_readValues_42 : decode cX7_readValues 42 = .ok (.iconst 0, 1) := dk_3 (dk_at dksX7_readValues_1 19 rfl rfl)
theorem dX7_readValues_43 : decode cX7_readValues 43 = .ok (.bipush 99, 2) := dk_16 99 (dk_at dksX7_readValues_1 20 rfl rfl)
theorem dX7_readValues_45 : decode cX7_readValues 45 = .ok (.invokevirtual 62, 3) := dk_182 0 62 (dk_at dksX7_readValues_2 0 rfl rfl)
theorem dX7_readValues_48 : decode cX7_readValues 48 = .ok (.goto 4, 3) := dk_167 0 4 (dk_at dksX7_readValues_2 3 rfl rfl)
theorem dX7_readValues_51 : decode cX7_readValues 51 = .ok (.iconst (-1), 1) := dk_2 (dk_at dksX7_readValues_2 6 rfl rfl)
theorem dX7_readValues_52 : decode cX7_readValues 52 = .ok (.iastore, 1) := dk_79 (dk_at dksX7_readValues_2 7 rfl rfl)
theorem dX7_readValues_53 : decode cX7_readValues 53 = .ok (.aload_n 0, 1) := dk_42 (dk_at dksX7_readValues_2 8 rfl rfl)
theorem dX7_readValues_54 : decode cX7_readValues 54 = .ok (.getfield 15, 3) := dk_180 0 15 (dk_at dksX7_readValues_2 9 rfl rfl)
theorem dX7_readValues_57 : decode cX7_readValues 57 = .ok (.iload_n 2, 1) := dk_28 (dk_at dksX7_readValues_2 12 rfl rfl)
theorem dX7_readValues_58 : decode cX7_readValues 58 = .ok (.iaload, 1) := dk_46 (dk_at dksX7_readValues_2 13 rfl rfl)
theorem dX7_readValues_59 : decode cX7_readValues 59 = .ok (.iconst (-1), 1) := dk_2 (dk_at dksX7_readValues_2 14 rfl rfl)
theorem dX7_readValues_60 : decode cX7_readValues 60 = .ok (.if_icmp .eq 7, 3) := dk_159 0 7 (dk_at dksX7_readValues_2 15 rfl rfl)
theorem dX7_readValues_63 : decode cX7_readValues 63 = .ok (.iconst 1, 1) := dk_4 (dk_at dksX7_readValues_2 18 rfl rfl)
theorem dX7_readValues_64 : decode cX7_readValues 64 = .ok (.goto 4, 3) := dk_167 0 4 (dk_at dksX7_readValues_2 19 rfl rfl)
theorem dX7_readValues_67 : decode cX7_readValues 67 = .ok (.iconst 0, 1) := dk_3 (dk_at dksX7_readValues_2 22 rfl rfl)
theorem dX7_readValues_68 : decode cX7_readValues 68 = .ok (.istore_n 1, 1) := dk_60 (dk_at dksX7_readValues_2 23 rfl rfl)
theorem dX7_readValues_69 : decode cX7_readValues 69 = .ok (.iinc 2 1, 3) := dk_132 2 1 (dk_at dksX7_readValues_3 0 rfl rfl)
theorem dX7_readValues_72 : decode cX7_readValues 72 = .ok (.goto (-68), 3) := dk_167 255 188 (dk_at dksX7_readValues_3 3 rfl rfl)
theorem dX7_readValues_75 : decode cX7_readValues 75 = .ok (.iload_n 1, 1) := dk_27 (dk_at dksX7_readValues_3 6 rfl rfl)
theorem dX7_readValues_76 : decode cX7_readValues 76 = .ok (.ireturn, 1) := dk_172 (dk_at dksX7_readValues_3 7 rfl rfl)
abbrev cX7_isNext : ByteArray := prog_6_method_3_code
def yX7_isNext : MethodName := ⟨RX7, "isNext", "(C)Z"⟩
def dkwX7_isNext_1 : List UInt8 := [181, 0, 19, 28, 172]
abbrev dktX7_isNext_1 : List UInt8 := dkwX7_isNext_1 ++ []
def dkwX7_isNext_0 : List UInt8 := [42, 182, 0, 37, 27, 160, 0, 7, 4, 167, 0, 4, 3, 61, 42, 89, 180, 0, 19, 28, 184, 0, 41, 96]
abbrev dktX7_isNext_0 : List UInt8 := dkwX7_isNext_0 ++ dktX7_isNext_1
theorem dksX7_isNext_0 : cX7_isNext.data.toList.drop 0 = dktX7_isNext_0 := by decide +kernel
theorem dksX7_isNext_1 : cX7_isNext.data.toList.drop 24 = dktX7_isNext_1 := dk_seg dksX7_isNext_0 24 rfl rfl
theorem dX7_isNext_0 : decode cX7_isNext 0 = .ok (.aload_n 0, 1) := dk_42 (dk_at dksX7_isNext_0 0 rfl rfl)
theorem dX7_isNext_1 : decode cX7_isNext 1 = .ok (.invokevirtual 37, 3) := dk_182 0 37 (dk_at dksX7_isNext_0 1 rfl rfl)
theorem dX7_isNext_4 : decode cX7_isNext 4 = .ok (.iload_n 1, 1) := dk_27 (dk_at dksX7_isNext_0 4 rfl rfl)
theorem dX7_isNext_5 : decode cX7_isNext 5 = .ok (.if_icmp .ne 7, 3) := dk_160 0 7 (dk_at dksX7_isNext_0 5 rfl rfl)
theorem dX7_isNext_8 : decode cX7_isNext 8 = .ok (.iconst 1, 1) := dk_4 (dk_at dksX7_isNext_0 8 rfl rfl)
theorem dX7_isNext_9 : decode cX7_isNext 9 = .ok (.goto 4, 3) := dk_167 0 4 (dk_at dksX7_isNext_0 9 rfl rfl)
theorem dX7_isNext_12 : decode cX7_isNext 12 = .ok (.iconst 0, 1) := dk_3 (dk_at dksX7_isNext_0 12 rfl rfl)
theorem dX7_isNext_13 : decode cX7_isNext 13 = .ok (.istore_n 2, 1) := dk_61 (dk_at dksX7_isNext_0 13 rfl rfl)
theorem dX7_isNext_14 : decode cX7_isNext 14 = .ok (.aload_n 0, 1) := dk_42 (dk_at dksX7_isNext_0 14 rfl rfl)
theorem dX7_isNext_15 : decode cX7_isNext 15 = .ok (.dup, 1) := dk_89 (dk_at dksX7_isNext_0 15 rfl rfl)
theorem dX7_isNext_16 : decode cX7_isNext 16 = .ok (.getfield 19, 3) := dk_180 0 19 (dk_at dksX7_isNext_0 16 rfl rfl)
theorem dX7_isNext_19 : decode cX7_isNext 19 = .ok (.iload_n 2, 1) := dk_28 (dk_at dksX7_isNext_0 19 rfl rfl)
theorem dX7_isNext_20 : decode cX7_isNext 20 = .ok (.invokestatic 41, 3) := dk_184 0 41 (dk_at dksX7_isNext_0 20 rfl rfl)
theorem dX7_isNext_23 : decode cX7_isNext 23 = .ok (.iadd, 1) := dk_96 (dk_at dksX7_isNext_0 23 rfl rfl)
theorem dX7_isNext_24 : decode cX7_isNext 24 = .ok (.putfield 19, 3) := dk_181 0 19 (dk_at dksX7_isNext_1 0 rfl rfl)
theorem dX7_isNext_27 : decode cX7_isNext 27 = .ok (.iload_n 2, 1) := dk_28 (dk_at dksX7_isNext_1 3 rfl rfl)
theorem dX7_isNext_28 : decode cX7_isNext 28 = .ok (.ireturn, 1) := dk_172 (dk_at dksX7_isNext_1 4 rfl rfl)
abbrev cX7_number : ByteArray := prog_6_method_6_code
def yX7_number : MethodName := ⟨RX7, "number", "(II)I"⟩
def dkwX7_number_4 : List UInt8 := [161, 0, 7, 29, 167, 0, 4, 2, 172]
abbrev dktX7_number_4 : List UInt8 := dkwX7_number_4 ++ []
def dkwX7_number_3 : List UInt8 := [167, 0, 4, 29, 62, 42, 89, 180, 0, 19, 21, 4, 184, 0, 41, 96, 181, 0, 19, 167, 255, 170, 29, 27]
abbrev dktX7_number_3 : List UInt8 := dkwX7_number_3 ++ dktX7_number_4
def dkwX7_number_2 : List UInt8 := [21, 6, 27, 28, 182, 0, 55, 153, 0, 7, 4, 167, 0, 4, 3, 54, 4, 21, 4, 153, 0, 8, 21, 6]
abbrev dktX7_number_2 : List UInt8 := dkwX7_number_2 ++ dktX7_number_3
def dkwX7_number_1 : List UInt8 := [16, 10, 104, 21, 5, 96, 54, 6, 21, 5, 3, 16, 9, 184, 0, 45, 153, 0, 22, 29, 153, 0, 18, 42]
abbrev dktX7_number_1 : List UInt8 := dkwX7_number_1 ++ dktX7_number_2
def dkwX7_number_0 : List UInt8 := [2, 62, 4, 54, 4, 21, 4, 153, 0, 87, 42, 182, 0, 37, 16, 48, 100, 54, 5, 3, 29, 184, 0, 49]
abbrev dktX7_number_0 : List UInt8 := dkwX7_number_0 ++ dktX7_number_1
theorem dksX7_number_0 : cX7_number.data.toList.drop 0 = dktX7_number_0 := by decide +kernel
theorem dksX7_number_1 : cX7_number.data.toList.drop 24 = dktX7_number_1 := dk_seg dksX7_number_0 24 rfl rfl
theorem dksX7_number_2 : cX7_number.data.toList.drop 48 = dktX7_number_2 := dk_seg dksX7_number_1 24 rfl rfl
theorem dksX7_number_3 : cX7_number.data.toList.drop 72 = dktX7_number_3 := dk_seg dksX7_number_2 24 rfl rfl
theorem dksX7_number_4 : cX7_number.data.toList.drop 96 = dktX7_number_4 := dk_seg dksX7_number_3 24 rfl rfl
theorem dX7_number_0 : decode cX7_number 0 = .ok (.iconst (-1), 1) := dk_2 (dk_at dksX7_number_0 0 rfl rfl)
theorem dX7_number_1 : decode cX7_number 1 = .ok (.istore_n 3, 1) := dk_62 (dk_at dksX7_number_0 1 rfl rfl)
theorem dX7_number_2 : decode cX7_number 2 = .ok (.iconst 1, 1) := dk_4 (dk_at dksX7_number_0 2 rfl rfl)
theorem dX7_number_3 : decode cX7_number 3 = .ok (.istore 4, 2) := dk_54 4 (dk_at dksX7_number_0 3 rfl rfl)
theorem dX7_number_5 : decode cX7_number 5 = .ok (.iload 4, 2) := dk_21 4 (dk_at dksX7_number_0 5 rfl rfl)
theorem dX7_number_7 : decode cX7_number 7 = .ok (.ifCond .eq 87, 3) := dk_153 0 87 (dk_at dksX7_number_0 7 rfl rfl)
theorem dX7_number_10 : decode cX7_number 10 = .ok (.aload_n 0, 1) := dk_42 (dk_at dksX7_number_0 10 rfl rfl)
theorem dX7_number_11 : decode cX7_number 11 = .ok (.invokevirtual 37, 3) := dk_182 0 37 (dk_at dksX7_number_0 11 rfl rfl)
theorem dX7_number_14 : decode cX7_number 14 = .ok (.bipush 48, 2) := dk_16 48 (dk_at dksX7_number_0 14 rfl rfl)
theorem dX7_number_16 : decode cX7_number 16 = .ok (.isub, 1) := dk_100 (dk_at dksX7_number_0 16 rfl rfl)
theorem dX7_number_17 : decode cX7_number 17 = .ok (.istore 5, 2) := dk_54 5 (dk_at dksX7_number_0 17 rfl rfl)
theorem dX7_number_19 : decode cX7_number 19 = .ok (.iconst 0, 1) := dk_3 (dk_at dksX7_number_0 19 rfl rfl)
theorem dX7_number_20 : decode cX7_number 20 = .ok (.iload_n 3, 1) := dk_29 (dk_at dksX7_number_0 20 rfl rfl)
theorem dX7_number_21 : decode cX7_number 21 = .ok (.invokestatic 49, 3) := dk_184 0 49 (dk_at dksX7_number_0 21 rfl rfl)
theorem dX7_number_24 : decode cX7_number 24 = .ok (.bipush 10, 2) := dk_16 10 (dk_at dksX7_number_1 0 rfl rfl)
theorem dX7_number_26 : decode cX7_number 26 = .ok (.imul, 1) := dk_104 (dk_at dksX7_number_1 2 rfl rfl)
theorem dX7_number_27 : decode cX7_number 27 = .ok (.iload 5, 2) := dk_21 5 (dk_at dksX7_number_1 3 rfl rfl)
theorem dX7_number_29 : decode cX7_number 29 = .ok (.iadd, 1) := dk_96 (dk_at dksX7_number_1 5 rfl rfl)
theorem dX7_number_30 : decode cX7_number 30 = .ok (.istore 6, 2) := dk_54 6 (dk_at dksX7_number_1 6 rfl rfl)
theorem dX7_number_32 : decode cX7_number 32 = .ok (.iload 5, 2) := dk_21 5 (dk_at dksX7_number_1 8 rfl rfl)
theorem dX7_number_34 : decode cX7_number 34 = .ok (.iconst 0, 1) := dk_3 (dk_at dksX7_number_1 10 rfl rfl)
theorem dX7_number_35 : decode cX7_number 35 = .ok (.bipush 9, 2) := dk_16 9 (dk_at dksX7_number_1 11 rfl rfl)
theorem dX7_number_37 : decode cX7_number 37 = .ok (.invokestatic 45, 3) := dk_184 0 45 (dk_at dksX7_number_1 13 rfl rfl)
theorem dX7_number_40 : decode cX7_number 40 = .ok (.ifCond .eq 22, 3) := dk_153 0 22 (dk_at dksX7_number_1 16 rfl rfl)
theorem dX7_number_43 : decode cX7_number 43 = .ok (.iload_n 3, 1) := dk_29 (dk_at dksX7_number_1 19 rfl rfl)
theorem dX7_number_44 : decode cX7_number 44 = .ok (.ifCond .eq 18, 3) := dk_153 0 18 (dk_at dksX7_number_1 20 rfl rfl)
theorem dX7_number_47 : decode cX7_number 47 = .ok (.aload_n 0, 1) := dk_42 (dk_at dksX7_number_1 23 rfl rfl)
theorem dX7_number_48 : decode cX7_number 48 = .ok (.iload 6, 2) := dk_21 6 (dk_at dksX7_number_2 0 rfl rfl)
theorem dX7_number_50 : decode cX7_number 50 = .ok (.iload_n 1, 1) := dk_27 (dk_at dksX7_number_2 2 rfl rfl)
theorem dX7_number_51 : decode cX7_number 51 = .ok (.iload_n 2, 1) := dk_28 (dk_at dksX7_number_2 3 rfl rfl)
theorem dX7_number_52 : decode cX7_number 52 = .ok (.invokevirtual 55, 3) := dk_182 0 55 (dk_at dksX7_number_2 4 rfl rfl)
theorem dX7_number_55 : decode cX7_number 55 = .ok (.ifCond .eq 7, 3) := dk_153 0 7 (dk_at dksX7_number_2 7 rfl rfl)
theorem dX7_number_58 : decode cX7_number 58 = .ok (.iconst 1, 1) := dk_4 (dk_at dksX7_number_2 10 rfl rfl)
theorem dX7_number_59 : decode cX7_number 59 = .ok (.goto 4, 3) := dk_167 0 4 (dk_at dksX7_number_2 11 rfl rfl)
theorem dX7_number_62 : decode cX7_number 62 = .ok (.iconst 0, 1) := dk_3 (dk_at dksX7_number_2 14 rfl rfl)
theorem dX7_number_63 : decode cX7_number 63 = .ok (.istore 4, 2) := dk_54 4 (dk_at dksX7_number_2 15 rfl rfl)
theorem dX7_number_65 : decode cX7_number 65 = .ok (.iload 4, 2) := dk_21 4 (dk_at dksX7_number_2 17 rfl rfl)
theorem dX7_number_67 : decode cX7_number 67 = .ok (.ifCond .eq 8, 3) := dk_153 0 8 (dk_at dksX7_number_2 19 rfl rfl)
theorem dX7_number_70 : decode cX7_number 70 = .ok (.iload 6, 2) := dk_21 6 (dk_at dksX7_number_2 22 rfl rfl)
theorem dX7_number_72 : decode cX7_number 72 = .ok (.goto 4, 3) := dk_167 0 4 (dk_at dksX7_number_3 0 rfl rfl)
theorem dX7_number_75 : decode cX7_number 75 = .ok (.iload_n 3, 1) := dk_29 (dk_at dksX7_number_3 3 rfl rfl)
theorem dX7_number_76 : decode cX7_number 76 = .ok (.istore_n 3, 1) := dk_62 (dk_at dksX7_number_3 4 rfl rfl)
theorem dX7_number_77 : decode cX7_number 77 = .ok (.aload_n 0, 1) := dk_42 (dk_at dksX7_number_3 5 rfl rfl)
theorem dX7_number_78 : decode cX7_number 78 = .ok (.dup, 1) := dk_89 (dk_at dksX7_number_3 6 rfl rfl)
theorem dX7_number_79 : decode cX7_number 79 = .ok (.getfield 19, 3) := dk_180 0 19 (dk_at dksX7_number_3 7 rfl rfl)
theorem dX7_number_82 : decode cX7_number 82 = .ok (.iload 4, 2) := dk_21 4 (dk_at dksX7_number_3 10 rfl rfl)
theorem dX7_number_84 : decode cX7_number 84 = .ok (.invokestatic 41, 3) := dk_184 0 41 (dk_at dksX7_number_3 12 rfl rfl)
theorem dX7_number_87 : decode cX7_number 87 = .ok (.iadd, 1) := dk_96 (dk_at dksX7_number_3 15 rfl rfl)
theorem dX7_number_88 : decode cX7_number 88 = .ok (.putfield 19, 3) := dk_181 0 19 (dk_at dksX7_number_3 16 rfl rfl)
theorem dX7_number_91 : decode cX7_number 91 = .ok (.goto (-86), 3) := dk_167 255 170 (dk_at dksX7_number_3 19 rfl rfl)
theorem dX7_number_94 : decode cX7_number 94 = .ok (.iload_n 3, 1) := dk_29 (dk_at dksX7_number_3 22 rfl rfl)
theorem dX7_number_95 : decode cX7_number 95 = .ok (.iload_n 1, 1) := dk_27 (dk_at dksX7_number_3 23 rfl rfl)
theorem dX7_number_96 : decode cX7_number 96 = .ok (.if_icmp .lt 7, 3) := dk_161 0 7 (dk_at dksX7_number_4 0 rfl rfl)
theorem dX7_number_99 : decode cX7_number 99 = .ok (.iload_n 3, 1) := dk_29 (dk_at dksX7_number_4 3 rfl rfl)
theorem dX7_number_100 : decode cX7_number 100 = .ok (.goto 4, 3) := dk_167 0 4 (dk_at dksX7_number_4 4 rfl rfl)
theorem dX7_number_103 : decode cX7_number 103 = .ok (.iconst (-1), 1) := dk_2 (dk_at dksX7_number_4 7 rfl rfl)
theorem dX7_number_104 : decode cX7_number 104 = .ok (.ireturn, 1) := dk_172 (dk_at dksX7_number_4 8 rfl rfl)
abbrev cX7_canBegin : ByteArray := prog_6_method_5_code
def yX7_canBegin : MethodName := ⟨RX7, "canBegin", "(III)Z"⟩
def dkwX7_canBegin_1 : List UInt8 := [54, 4, 27, 28, 29, 184, 0, 45, 154, 0, 8, 21, 4, 153, 0, 7, 4, 167, 0, 4, 3, 172]
abbrev dktX7_canBegin_1 : List UInt8 := dkwX7_canBegin_1 ++ []
def dkwX7_canBegin_0 : List UInt8 := [27, 158, 0, 22, 16, 10, 27, 104, 28, 16, 9, 100, 29, 184, 0, 45, 153, 0, 7, 4, 167, 0, 4, 3]
abbrev dktX7_canBegin_0 : List UInt8 := dkwX7_canBegin_0 ++ dktX7_canBegin_1
theorem dksX7_canBegin_0 : cX7_canBegin.data.toList.drop 0 = dktX7_canBegin_0 := by decide +kernel
theorem dksX7_canBegin_1 : cX7_canBegin.data.toList.drop 24 = dktX7_canBegin_1 := dk_seg dksX7_canBegin_0 24 rfl rfl
theorem dX7_canBegin_0 : decode cX7_canBegin 0 = .ok (.iload_n 1, 1) := dk_27 (dk_at dksX7_canBegin_0 0 rfl rfl)
theorem dX7_canBegin_1 : decode cX7_canBegin 1 = .ok (.ifCond .le 22, 3) := dk_158 0 22 (dk_at dksX7_canBegin_0 1 rfl rfl)
theorem dX7_canBegin_4 : decode cX7_canBegin 4 = .ok (.bipush 10, 2) := dk_16 10 (dk_at dksX7_canBegin_0 4 rfl rfl)
theorem dX7_canBegin_6 : decode cX7_canBegin 6 = .ok (.iload_n 1, 1) := dk_27 (dk_at dksX7_canBegin_0 6 rfl rfl)
theorem dX7_canBegin_7 : decode cX7_canBegin 7 = .ok (.imul, 1) := dk_104 (dk_at dksX7_canBegin_0 7 rfl rfl)
theorem dX7_canBegin_8 : decode cX7_canBegin 8 = .ok (.iload_n 2, 1) := dk_28 (dk_at dksX7_canBegin_0 8 rfl rfl)
theorem dX7_canBegin_9 : decode cX7_canBegin 9 = .ok (.bipush 9, 2) := dk_16 9 (dk_at dksX7_canBegin_0 9 rfl rfl)
theorem dX7_canBegin_11 : decode cX7_canBegin 11 = .ok (.isub, 1) := dk_100 (dk_at dksX7_canBegin_0 11 rfl rfl)
theorem dX7_canBegin_12 : decode cX7_canBegin 12 = .ok (.iload_n 3, 1) := dk_29 (dk_at dksX7_canBegin_0 12 rfl rfl)
theorem dX7_canBegin_13 : decode cX7_canBegin 13 = .ok (.invokestatic 45, 3) := dk_184 0 45 (dk_at dksX7_canBegin_0 13 rfl rfl)
theorem dX7_canBegin_16 : decode cX7_canBegin 16 = .ok (.ifCond .eq 7, 3) := dk_153 0 7 (dk_at dksX7_canBegin_0 16 rfl rfl)
theorem dX7_canBegin_19 : decode cX7_canBegin 19 = .ok (.iconst 1, 1) := dk_4 (dk_at dksX7_canBegin_0 19 rfl rfl)
theorem dX7_canBegin_20 : decode cX7_canBegin 20 = .ok (.goto 4, 3) := dk_167 0 4 (dk_at dksX7_canBegin_0 20 rfl rfl)
theorem dX7_canBegin_23 : decode cX7_canBegin 23 = .ok (.iconst 0, 1) := dk_3 (dk_at dksX7_canBegin_0 23 rfl rfl)
theorem dX7_canBegin_24 : decode cX7_canBegin 24 = .ok (.istore 4, 2) := dk_54 4 (dk_at dksX7_canBegin_1 0 rfl rfl)
theorem dX7_canBegin_26 : decode cX7_canBegin 26 = .ok (.iload_n 1, 1) := dk_27 (dk_at dksX7_canBegin_1 2 rfl rfl)
theorem dX7_canBegin_27 : decode cX7_canBegin 27 = .ok (.iload_n 2, 1) := dk_28 (dk_at dksX7_canBegin_1 3 rfl rfl)
theorem dX7_canBegin_28 : decode cX7_canBegin 28 = .ok (.iload_n 3, 1) := dk_29 (dk_at dksX7_canBegin_1 4 rfl rfl)
theorem dX7_canBegin_29 : decode cX7_canBegin 29 = .ok (.invokestatic 45, 3) := dk_184 0 45 (dk_at dksX7_canBegin_1 5 rfl rfl)
theorem dX7_canBegin_32 : decode cX7_canBegin 32 = .ok (.ifCond .ne 8, 3) := dk_154 0 8 (dk_at dksX7_canBegin_1 8 rfl rfl)
theorem dX7_canBegin_35 : decode cX7_canBegin 35 = .ok (.iload 4, 2) := dk_21 4 (dk_at dksX7_canBegin_1 11 rfl rfl)
theorem dX7_canBegin_37 : decode cX7_canBegin 37 = .ok (.ifCond .eq 7, 3) := dk_153 0 7 (dk_at dksX7_canBegin_1 13 rfl rfl)
theorem dX7_canBegin_40 : decode cX7_canBegin 40 = .ok (.iconst 1, 1) := dk_4 (dk_at dksX7_canBegin_1 16 rfl rfl)
theorem dX7_canBegin_41 : decode cX7_canBegin 41 = .ok (.goto 4, 3) := dk_167 0 4 (dk_at dksX7_canBegin_1 17 rfl rfl)
theorem dX7_canBegin_44 : decode cX7_canBegin 44 = .ok (.iconst 0, 1) := dk_3 (dk_at dksX7_canBegin_1 20 rfl rfl)
theorem dX7_canBegin_45 : decode cX7_canBegin 45 = .ok (.ireturn, 1) := dk_172 (dk_at dksX7_canBegin_1 21 rfl rfl)
abbrev cX7_readOffer : ByteArray := prog_6_method_8_code
def yX7_readOffer : MethodName := ⟨RX7, "readOffer", "()Z"⟩
def dkwX7_readOffer_1 : List UInt8 := [167, 0, 4, 3, 172]
abbrev dktX7_readOffer_1 : List UInt8 := dkwX7_readOffer_1 ++ []
def dkwX7_readOffer_0 : List UInt8 := [42, 180, 0, 15, 3, 42, 3, 16, 39, 182, 0, 62, 79, 42, 180, 0, 15, 3, 46, 2, 159, 0, 7, 4]
abbrev dktX7_readOffer_0 : List UInt8 := dkwX7_readOffer_0 ++ dktX7_readOffer_1
theorem dksX7_readOffer_0 : cX7_readOffer.data.toList.drop 0 = dktX7_readOffer_0 := by decide +kernel
theorem dksX7_readOffer_1 : cX7_readOffer.data.toList.drop 24 = dktX7_readOffer_1 := dk_seg dksX7_readOffer_0 24 rfl rfl
theorem dX7_readOffer_0 : decode cX7_readOffer 0 = .ok (.aload_n 0, 1) := dk_42 (dk_at dksX7_readOffer_0 0 rfl rfl)
theorem dX7_readOffer_1 : decode cX7_readOffer 1 = .ok (.getfield 15, 3) := dk_180 0 15 (dk_at dksX7_readOffer_0 1 rfl rfl)
theorem dX7_readOffer_4 : decode cX7_readOffer 4 = .ok (.iconst 0, 1) := dk_3 (dk_at dksX7_readOffer_0 4 rfl rfl)
theorem dX7_readOffer_5 : decode cX7_readOffer 5 = .ok (.aload_n 0, 1) := dk_42 (dk_at dksX7_readOffer_0 5 rfl rfl)
theorem dX7_readOffer_6 : decode cX7_readOffer 6 = .ok (.iconst 0, 1) := dk_3 (dk_at dksX7_readOffer_0 6 rfl rfl)
theorem dX7_readOffer_7 : decode cX7_readOffer 7 = .ok (.bipush 39, 2) := dk_16 39 (dk_at dksX7_readOffer_0 7 rfl rfl)
theorem dX7_readOffer_9 : decode cX7_readOffer 9 = .ok (.invokevirtual 62, 3) := dk_182 0 62 (dk_at dksX7_readOffer_0 9 rfl rfl)
theorem dX7_readOffer_12 : decode cX7_readOffer 12 = .ok (.iastore, 1) := dk_79 (dk_at dksX7_readOffer_0 12 rfl rfl)
theorem dX7_readOffer_13 : decode cX7_readOffer 13 = .ok (.aload_n 0, 1) := dk_42 (dk_at dksX7_readOffer_0 13 rfl rfl)
theorem dX7_readOffer_14 : decode cX7_readOffer 14 = .ok (.getfield 15, 3) := dk_180 0 15 (dk_at dksX7_readOffer_0 14 rfl rfl)
theorem dX7_readOffer_17 : decode cX7_readOffer 17 = .ok (.iconst 0, 1) := dk_3 (dk_at dksX7_readOffer_0 17 rfl rfl)
theorem dX7_readOffer_18 : decode cX7_readOffer 18 = .ok (.iaload, 1) := dk_46 (dk_at dksX7_readOffer_0 18 rfl rfl)
theorem dX7_readOffer_19 : decode cX7_readOffer 19 = .ok (.iconst (-1), 1) := dk_2 (dk_at dksX7_readOffer_0 19 rfl rfl)
theorem dX7_readOffer_20 : decode cX7_readOffer 20 = .ok (.if_icmp .eq 7, 3) := dk_159 0 7 (dk_at dksX7_readOffer_0 20 rfl rfl)
theorem dX7_readOffer_23 : decode cX7_readOffer 23 = .ok (.iconst 1, 1) := dk_4 (dk_at dksX7_readOffer_0 23 rfl rfl)
theorem dX7_readOffer_24 : decode cX7_readOffer 24 = .ok (.goto 4, 3) := dk_167 0 4 (dk_at dksX7_readOffer_1 0 rfl rfl)
theorem dX7_readOffer_27 : decode cX7_readOffer 27 = .ok (.iconst 0, 1) := dk_3 (dk_at dksX7_readOffer_1 3 rfl rfl)
theorem dX7_readOffer_28 : decode cX7_readOffer 28 = .ok (.ireturn, 1) := dk_172 (dk_at dksX7_readOffer_1 4 rfl rfl)
abbrev cX7_readWish : ByteArray := prog_6_method_9_code
def yX7_readWish : MethodName := ⟨RX7, "readWish", "()Z"⟩
def dkwX7_readWish_3 : List UInt8 := [2, 159, 0, 7, 4, 167, 0, 4, 3, 172]
abbrev dktX7_readWish_3 : List UInt8 := dkwX7_readWish_3 ++ []
def dkwX7_readWish_2 : List UInt8 := [167, 0, 17, 42, 16, 48, 182, 0, 58, 153, 0, 7, 5, 167, 0, 4, 2, 79, 42, 180, 0, 15, 3, 46]
abbrev dktX7_readWish_2 : List UInt8 := dkwX7_readWish_2 ++ dktX7_readWish_3
def dkwX7_readWish_1 : List UInt8 := [42, 16, 45, 182, 0, 58, 153, 0, 7, 3, 167, 0, 30, 42, 16, 43, 182, 0, 58, 153, 0, 7, 4]
abbrev dktX7_readWish_1 : List UInt8 := dkwX7_readWish_1 ++ dktX7_readWish_2
def dkwX7_readWish_0 : List UInt8 := [42, 42, 6, 182, 0, 65, 181, 0, 69, 42, 180, 0, 69, 2, 160, 0, 5, 3, 172, 42, 180, 0, 15, 3]
abbrev dktX7_readWish_0 : List UInt8 := dkwX7_readWish_0 ++ dktX7_readWish_1
theorem dksX7_readWish_0 : cX7_readWish.data.toList.drop 0 = dktX7_readWish_0 := by decide +kernel
theorem dksX7_readWish_1 : cX7_readWish.data.toList.drop 24 = dktX7_readWish_1 := dk_seg dksX7_readWish_0 24 rfl rfl
theorem dksX7_readWish_2 : cX7_readWish.data.toList.drop 47 = dktX7_readWish_2 := dk_seg dksX7_readWish_1 23 rfl rfl
theorem dksX7_readWish_3 : cX7_readWish.data.toList.drop 71 = dktX7_readWish_3 := dk_seg dksX7_readWish_2 24 rfl rfl
theorem dX7_readWish_0 : decode cX7_readWish 0 = .ok (.aload_n 0, 1) := dk_42 (dk_at dksX7_readWish_0 0 rfl rfl)
theorem dX7_readWish_1 : decode cX7_readWish 1 = .ok (.aload_n 0, 1) := dk_42 (dk_at dksX7_readWish_0 1 rfl rfl)
theorem dX7_readWish_2 : decode cX7_readWish 2 = .ok (.iconst 3, 1) := dk_6 (dk_at dksX7_readWish_0 2 rfl rfl)
theorem dX7_readWish_3 : decode cX7_readWish 3 = .ok (.invokevirtual 65, 3) := dk_182 0 65 (dk_at dksX7_readWish_0 3 rfl rfl)
theorem dX7_readWish_6 : decode cX7_readWish 6 = .ok (.putfield 69, 3) := dk_181 0 69 (dk_at dksX7_readWish_0 6 rfl rfl)
theorem dX7_readWish_9 : decode cX7_readWish 9 = .ok (.aload_n 0, 1) := dk_42 (dk_at dksX7_readWish_0 9 rfl rfl)
theorem dX7_readWish_10 : decode cX7_readWish 10 = .ok (.getfield 69, 3) := dk_180 0 69 (dk_at dksX7_readWish_0 10 rfl rfl)
theorem dX7_readWish_13 : decode cX7_readWish 13 = .ok (.iconst (-1), 1) := dk_2 (dk_at dksX7_readWish_0 13 rfl rfl)
theorem dX7_readWish_14 : decode cX7_readWish 14 = .ok (.if_icmp .ne 5, 3) := dk_160 0 5 (dk_at dksX7_readWish_0 14 rfl rfl)
theorem dX7_readWish_17 : decode cX7_readWish 17 = .ok (.iconst 0, 1) := dk_3 (dk_at dksX7_readWish_0 17 rfl rfl)
theorem dX7_readWish_18 : decode cX7_readWish 18 = .ok (.ireturn, 1) := dk_172 (dk_at dksX7_readWish_0 18 rfl rfl)
theorem dX7_readWish_19 : decode cX7_readWish 19 = .ok (.aload_n 0, 1) := dk_42 (dk_at dksX7_readWish_0 19 rfl rfl)
theorem dX7_readWish_20 : decode cX7_readWish 20 = .ok (.getfield 15, 3) := dk_180 0 15 (dk_at dksX7_readWish_0 20 rfl rfl)
theorem dX7_readWish_23 : decode cX7_readWish 23 = .ok (.iconst 0, 1) := dk_3 (dk_at dksX7_readWish_0 23 rfl rfl)
theorem dX7_readWish_24 : decode cX7_readWish 24 = .ok (.aload_n 0, 1) := dk_42 (dk_at dksX7_readWish_1 0 rfl rfl)
theorem dX7_readWish_25 : decode cX7_readWish 25 = .ok (.bipush 45, 2) := dk_16 45 (dk_at dksX7_readWish_1 1 rfl rfl)
theorem dX7_readWish_27 : decode cX7_readWish 27 = .ok (.invokevirtual 58, 3) := dk_182 0 58 (dk_at dksX7_readWish_1 3 rfl rfl)
theorem dX7_readWish_30 : decode cX7_readWish 30 = .ok (.ifCond .eq 7, 3) := dk_153 0 7 (dk_at dksX7_readWish_1 6 rfl rfl)
theorem dX7_readWish_33 : decode cX7_readWish 33 = .ok (.iconst 0, 1) := dk_3 (dk_at dksX7_readWish_1 9 rfl rfl)
theorem dX7_readWish_34 : decode cX7_readWish 34 = .ok (.goto 30, 3) := dk_167 0 30 (dk_at dksX7_readWish_1 10 rfl rfl)
theorem dX7_readWish_37 : decode cX7_readWish 37 = .ok (.aload_n 0, 1) := dk_42 (dk_at dksX7_readWish_1 13 rfl rfl)
theorem dX7_readWish_38 : decode cX7_readWish 38 = .ok (.bipush 43, 2) := dk_16 43 (dk_at dksX7_readWish_1 14 rfl rfl)
theorem dX7_readWish_40 : decode cX7_readWish 40 = .ok (.invokevirtual 58, 3) := dk_182 0 58 (dk_at dksX7_readWish_1 16 rfl rfl)
theorem dX7_readWish_43 : decode cX7_readWish 43 = .ok (.ifCond .eq 7, 3) := dk_153 0 7 (dk_at dksX7_readWish_1 19 rfl rfl)
theorem dX7_readWish_46 : decode cX7_readWish 46 = .ok (.iconst 1, 1) := dk_4 (dk_at dksX7_readWish_1 22 rfl rfl)
theorem dX7_readWish_47 : decode cX7_readWish 47 = .ok (.goto 17, 3) := dk_167 0 17 (dk_at dksX7_readWish_2 0 rfl rfl)
theorem dX7_readWish_50 : decode cX7_readWish 50 = .ok (.aload_n 0, 1) := dk_42 (dk_at dksX7_readWish_2 3 rfl rfl)
theorem dX7_readWish_51 : decode cX7_readWish 51 = .ok (.bipush 48, 2) := dk_16 48 (dk_at dksX7_readWish_2 4 rfl rfl)
theorem dX7_readWish_53 : decode cX7_readWish 53 = .ok (.invokevirtual 58, 3) := dk_182 0 58 (dk_at dksX7_readWish_2 6 rfl rfl)
theorem dX7_readWish_56 : decode cX7_readWish 56 = .ok (.ifCond .eq 7, 3) := dk_153 0 7 (dk_at dksX7_readWish_2 9 rfl rfl)
theorem dX7_readWish_59 : decode cX7_readWish 59 = .ok (.iconst 2, 1) := dk_5 (dk_at dksX7_readWish_2 12 rfl rfl)
theorem dX7_readWish_60 : decode cX7_readWish 60 = .ok (.goto 4, 3) := dk_167 0 4 (dk_at dksX7_readWish_2 13 rfl rfl)
theorem dX7_readWish_63 : decode cX7_readWish 63 = .ok (.iconst (-1), 1) := dk_2 (dk_at dksX7_readWish_2 16 rfl rfl)
theorem dX7_readWish_64 : decode cX7_readWish 64 = .ok (.iastore, 1) := dk_79 (dk_at dksX7_readWish_2 17 rfl rfl)
theorem dX7_readWish_65 : decode cX7_readWish 65 = .ok (.aload_n 0, 1) := dk_42 (dk_at dksX7_readWish_2 18 rfl rfl)
theorem dX7_readWish_66 : decode cX7_readWish 66 = .ok (.getfield 15, 3) := dk_180 0 15 (dk_at dksX7_readWish_2 19 rfl rfl)
theorem dX7_readWish_69 : decode cX7_readWish 69 = .ok (.iconst 0, 1) := dk_3 (dk_at dksX7_readWish_2 22 rfl rfl)
theorem dX7_readWish_70 : decode cX7_readWish 70 = .ok (.iaload, 1) := dk_46 (dk_at dksX7_readWish_2 23 rfl rfl)
theorem dX7_readWish_71 : decode cX7_readWish 71 = .ok (.iconst (-1), 1) := dk_2 (dk_at dksX7_readWish_3 0 rfl rfl)
theorem dX7_readWish_72 : decode cX7_readWish 72 = .ok (.if_icmp .eq 7, 3) := dk_159 0 7 (dk_at dksX7_readWish_3 1 rfl rfl)
theorem dX7_readWish_75 : decode cX7_readWish 75 = .ok (.iconst 1, 1) := dk_4 (dk_at dksX7_readWish_3 4 rfl rfl)
theorem dX7_readWish_76 : decode cX7_readWish 76 = .ok (.goto 4, 3) := dk_167 0 4 (dk_at dksX7_readWish_3 5 rfl rfl)
theorem dX7_readWish_79 : decode cX7_readWish 79 = .ok (.iconst 0, 1) := dk_3 (dk_at dksX7_readWish_3 8 rfl rfl)
theorem dX7_readWish_80 : decode cX7_readWish 80 = .ok (.ireturn, 1) := dk_172 (dk_at dksX7_readWish_3 9 rfl rfl)
abbrev cX7_digit : ByteArray := prog_6_method_4_code
def yX7_digit : MethodName := ⟨RX7, "digit", "(I)I"⟩
def dkwX7_digit_1 : List UInt8 := [96, 181, 0, 19, 29, 153, 0, 7, 28, 167, 0, 4, 2, 172]
abbrev dktX7_digit_1 : List UInt8 := dkwX7_digit_1 ++ []
def dkwX7_digit_0 : List UInt8 := [42, 182, 0, 37, 16, 48, 100, 61, 28, 3, 27, 184, 0, 45, 62, 42, 89, 180, 0, 19, 29, 184, 0, 41]
abbrev dktX7_digit_0 : List UInt8 := dkwX7_digit_0 ++ dktX7_digit_1
theorem dksX7_digit_0 : cX7_digit.data.toList.drop 0 = dktX7_digit_0 := by decide +kernel
theorem dksX7_digit_1 : cX7_digit.data.toList.drop 24 = dktX7_digit_1 := dk_seg dksX7_digit_0 24 rfl rfl
theorem dX7_digit_0 : decode cX7_digit 0 = .ok (.aload_n 0, 1) := dk_42 (dk_at dksX7_digit_0 0 rfl rfl)
theorem dX7_digit_1 : decode cX7_digit 1 = .ok (.invokevirtual 37, 3) := dk_182 0 37 (dk_at dksX7_digit_0 1 rfl rfl)
theorem dX7_digit_4 : decode cX7_digit 4 = .ok (.bipush 48, 2) := dk_16 48 (dk_at dksX7_digit_0 4 rfl rfl)
theorem dX7_digit_6 : decode cX7_digit 6 = .ok (.isub, 1) := dk_100 (dk_at dksX7_digit_0 6 rfl rfl)
theorem dX7_digit_7 : decode cX7_digit 7 = .ok (.istore_n 2, 1) := dk_61 (dk_at dksX7_digit_0 7 rfl rfl)
theorem dX7_digit_8 : decode cX7_digit 8 = .ok (.iload_n 2, 1) := dk_28 (dk_at dksX7_digit_0 8 rfl rfl)
theorem dX7_digit_9 : decode cX7_digit 9 = .ok (.iconst 0, 1) := dk_3 (dk_at dksX7_digit_0 9 rfl rfl)
theorem dX7_digit_10 : decode cX7_digit 10 = .ok (.iload_n 1, 1) := dk_27 (dk_at dksX7_digit_0 10 rfl rfl)
theorem dX7_digit_11 : decode cX7_digit 11 = .ok (.invokestatic 45, 3) := dk_184 0 45 (dk_at dksX7_digit_0 11 rfl rfl)
theorem dX7_digit_14 : decode cX7_digit 14 = .ok (.istore_n 3, 1) := dk_62 (dk_at dksX7_digit_0 14 rfl rfl)
theorem dX7_digit_15 : decode cX7_digit 15 = .ok (.aload_n 0, 1) := dk_42 (dk_at dksX7_digit_0 15 rfl rfl)
theorem dX7_digit_16 : decode cX7_digit 16 = .ok (.dup, 1) := dk_89 (dk_at dksX7_digit_0 16 rfl rfl)
theorem dX7_digit_17 : decode cX7_digit 17 = .ok (.getfield 19, 3) := dk_180 0 19 (dk_at dksX7_digit_0 17 rfl rfl)
theorem dX7_digit_20 : decode cX7_digit 20 = .ok (.iload_n 3, 1) := dk_29 (dk_at dksX7_digit_0 20 rfl rfl)
theorem dX7_digit_21 : decode cX7_digit 21 = .ok (.invokestatic 41, 3) := dk_184 0 41 (dk_at dksX7_digit_0 21 rfl rfl)
theorem dX7_digit_24 : decode cX7_digit 24 = .ok (.iadd, 1) := dk_96 (dk_at dksX7_digit_1 0 rfl rfl)
theorem dX7_digit_25 : decode cX7_digit 25 = .ok (.putfield 19, 3) := dk_181 0 19 (dk_at dksX7_digit_1 1 rfl rfl)
theorem dX7_digit_28 : decode cX7_digit 28 = .ok (.iload_n 3, 1) := dk_29 (dk_at dksX7_digit_1 4 rfl rfl)
theorem dX7_digit_29 : decode cX7_digit 29 = .ok (.ifCond .eq 7, 3) := dk_153 0 7 (dk_at dksX7_digit_1 5 rfl rfl)
theorem dX7_digit_32 : decode cX7_digit 32 = .ok (.iload_n 2, 1) := dk_28 (dk_at dksX7_digit_1 8 rfl rfl)
theorem dX7_digit_33 : decode cX7_digit 33 = .ok (.goto 4, 3) := dk_167 0 4 (dk_at dksX7_digit_1 9 rfl rfl)
theorem dX7_digit_36 : decode cX7_digit 36 = .ok (.iconst (-1), 1) := dk_2 (dk_at dksX7_digit_1 12 rfl rfl)
theorem dX7_digit_37 : decode cX7_digit 37 = .ok (.ireturn, 1) := dk_172 (dk_at dksX7_digit_1 13 rfl rfl)
abbrev cX7_readBounds : ByteArray := prog_6_method_10_code
def yX7_readBounds : MethodName := ⟨RX7, "readBounds", "()Z"⟩
def dkwX7_readBounds_4 : List UInt8 := [159, 0, 7, 4, 167, 0, 4, 3, 172]
abbrev dktX7_readBounds_4 : List UInt8 := dkwX7_readBounds_4 ++ []
def dkwX7_readBounds_3 : List UInt8 := [180, 0, 15, 3, 46, 16, 99, 182, 0, 62, 167, 0, 4, 2, 79, 42, 180, 0, 15, 4, 46, 2]
abbrev dktX7_readBounds_3 : List UInt8 := dkwX7_readBounds_3 ++ dktX7_readBounds_4
def dkwX7_readBounds_2 : List UInt8 := [4, 42, 180, 0, 15, 3, 46, 2, 159, 0, 27, 42, 16, 45, 182, 0, 58, 153, 0, 18, 42, 42]
abbrev dktX7_readBounds_2 : List UInt8 := dkwX7_readBounds_2 ++ dktX7_readBounds_3
def dkwX7_readBounds_1 : List UInt8 := [16, 61, 182, 0, 58, 153, 0, 13, 42, 3, 16, 99, 182, 0, 62, 167, 0, 4, 2, 79, 42, 180, 0, 15]
abbrev dktX7_readBounds_1 : List UInt8 := dkwX7_readBounds_1 ++ dktX7_readBounds_2
def dkwX7_readBounds_0 : List UInt8 := [42, 42, 6, 182, 0, 65, 181, 0, 69, 42, 180, 0, 15, 3, 42, 180, 0, 69, 2, 159, 0, 22, 42]
abbrev dktX7_readBounds_0 : List UInt8 := dkwX7_readBounds_0 ++ dktX7_readBounds_1
theorem dksX7_readBounds_0 : cX7_readBounds.data.toList.drop 0 = dktX7_readBounds_0 := by decide +kernel
theorem dksX7_readBounds_1 : cX7_readBounds.data.toList.drop 23 = dktX7_readBounds_1 := dk_seg dksX7_readBounds_0 23 rfl rfl
theorem dksX7_readBounds_2 : cX7_readBounds.data.toList.drop 47 = dktX7_readBounds_2 := dk_seg dksX7_readBounds_1 24 rfl rfl
theorem dksX7_readBounds_3 : cX7_readBounds.data.toList.drop 69 = dktX7_readBounds_3 := dk_seg dksX7_readBounds_2 22 rfl rfl
theorem dksX7_readBounds_4 : cX7_readBounds.data.toList.drop 91 = dktX7_readBounds_4 := dk_seg dksX7_readBounds_3 22 rfl rfl
theorem dX7_readBounds_0 : decode cX7_readBounds 0 = .ok (.aload_n 0, 1) := dk_42 (dk_at dksX7_readBounds_0 0 rfl rfl)
theorem dX7_readBounds_1 : decode cX7_readBounds 1 = .ok (.aload_n 0, 1) := dk_42 (dk_at dksX7_readBounds_0 1 rfl rfl)
theorem dX7_readBounds_2 : decode cX7_readBounds 2 = .ok (.iconst 3, 1) := dk_6 (dk_at dksX7_readBounds_0 2 rfl rfl)
theorem dX7_readBounds_3 : decode cX7_readBounds 3 = .ok (.invokevirtual 65, 3) := dk_182 0 65 (dk_at dksX7_readBounds_0 3 rfl rfl)
theorem dX7_readBounds_6 : decode cX7_readBounds 6 = .ok (.putfield 69, 3) := dk_181 0 69 (dk_at dksX7_readBounds_0 6 rfl rfl)
theorem dX7_readBounds_9 : decode cX7_readBounds 9 = .ok (.aload_n 0, 1) := dk_42 (dk_at dksX7_readBounds_0 9 rfl rfl)
theorem dX7_readBounds_10 : decode cX7_readBounds 10 = .ok (.getfield 15, 3) := dk_180 0 15 (dk_at dksX7_readBounds_0 10 rfl rfl)
theorem dX7_readBounds_13 : decode cX7_readBounds 13 = .ok (.iconst 0, 1) := dk_3 (dk_at dksX7_readBounds_0 13 rfl rfl)
theorem dX7_readBounds_14 : decode cX7_readBounds 14 = .ok (.aload_n 0, 1) := dk_42 (dk_at dksX7_readBounds_0 14 rfl rfl)
theorem dX7_readBounds_15 : decode cX7_readBounds 15 = .ok (.getfield 69, 3) := dk_180 0 69 (dk_at dksX7_readBounds_0 15 rfl rfl)
theorem dX7_readBounds_18 : decode cX7_readBounds 18 = .ok (.iconst (-1), 1) := dk_2 (dk_at dksX7_readBounds_0 18 rfl rfl)
theorem dX7_readBounds_19 : decode cX7_readBounds 19 = .ok (.if_icmp .eq 22, 3) := dk_159 0 22 (dk_at dksX7_readBounds_0 19 rfl rfl)
theorem dX7_readBounds_22 : decode cX7_readBounds 22 = .ok (.aload_n 0, 1) := dk_42 (dk_at dksX7_readBounds_0 22 rfl rfl)
theorem dX7_readBounds_23 : decode cX7_readBounds 23 = .ok (.bipush 61, 2) := dk_16 61 (dk_at dksX7_readBounds_1 0 rfl rfl)
theorem dX7_readBounds_25 : decode cX7_readBounds 25 = .ok (.invokevirtual 58, 3) := dk_182 0 58 (dk_at dksX7_readBounds_1 2 rfl rfl)
theorem dX7_readBounds_28 : decode cX7_readBounds 28 = .ok (.ifCond .eq 13, 3) := dk_153 0 13 (dk_at dksX7_readBounds_1 5 rfl rfl)
theorem dX7_readBounds_31 : decode cX7_readBounds 31 = .ok (.aload_n 0, 1) := dk_42 (dk_at dksX7_readBounds_1 8 rfl rfl)
theorem dX7_readBounds_32 : decode cX7_readBounds 32 = .ok (.iconst 0, 1) := dk_3 (dk_at dksX7_readBounds_1 9 rfl rfl)
theorem dX7_readBounds_33 : decode cX7_readBounds 33 = .ok (.bipush 99, 2) := dk_16 99 (dk_at dksX7_readBounds_1 10 rfl rfl)
theorem dX7_readBounds_35 : decode cX7_readBounds 35 = .ok (.invokevirtual 62, 3) := dk_182 0 62 (dk_at dksX7_readBounds_1 12 rfl rfl)
theorem dX7_readBounds_38 : decode cX7_readBounds 38 = .ok (.goto 4, 3) := dk_167 0 4 (dk_at dksX7_readBounds_1 15 rfl rfl)
theorem dX7_readBounds_41 : decode cX7_readBounds 41 = .ok (.iconst (-1), 1) := dk_2 (dk_at dksX7_readBounds_1 18 rfl rfl)
theorem dX7_readBounds_42 : decode cX7_readBounds 42 = .ok (.iastore, 1) := dk_79 (dk_at dksX7_readBounds_1 19 rfl rfl)
theorem dX7_readBounds_43 : decode cX7_readBounds 43 = .ok (.aload_n 0, 1) := dk_42 (dk_at dksX7_readBounds_1 20 rfl rfl)
theorem dX7_readBounds_44 : decode cX7_readBounds 44 = .ok (.getfield 15, 3) := dk_180 0 15 (dk_at dksX7_readBounds_1 21 rfl rfl)
theorem dX7_readBounds_47 : decode cX7_readBounds 47 = .ok (.iconst 1, 1) := dk_4 (dk_at dksX7_readBounds_2 0 rfl rfl)
theorem dX7_readBounds_48 : decode cX7_readBounds 48 = .ok (.aload_n 0, 1) := dk_42 (dk_at dksX7_readBounds_2 1 rfl rfl)
theorem dX7_readBounds_49 : decode cX7_readBounds 49 = .ok (.getfield 15, 3) := dk_180 0 15 (dk_at dksX7_readBounds_2 2 rfl rfl)
theorem dX7_readBounds_52 : decode cX7_readBounds 52 = .ok (.iconst 0, 1) := dk_3 (dk_at dksX7_readBounds_2 5 rfl rfl)
theorem dX7_readBounds_53 : decode cX7_readBounds 53 = .ok (.iaload, 1) := dk_46 (dk_at dksX7_readBounds_2 6 rfl rfl)
theorem dX7_readBounds_54 : decode cX7_readBounds 54 = .ok (.iconst (-1), 1) := dk_2 (dk_at dksX7_readBounds_2 7 rfl rfl)
theorem dX7_readBounds_55 : decode cX7_readBounds 55 = .ok (.if_icmp .eq 27, 3) := dk_159 0 27 (dk_at dksX7_readBounds_2 8 rfl rfl)
theorem dX7_readBounds_58 : decode cX7_readBounds 58 = .ok (.aload_n 0, 1) := dk_42 (dk_at dksX7_readBounds_2 11 rfl rfl)
theorem dX7_readBounds_59 : decode cX7_readBounds 59 = .ok (.bipush 45, 2) := dk_16 45 (dk_at dksX7_readBounds_2 12 rfl rfl)
theorem dX7_readBounds_61 : decode cX7_readBounds 61 = .ok (.invokevirtual 58, 3) := dk_182 0 58 (dk_at dksX7_readBounds_2 14 rfl rfl)
theorem dX7_readBounds_64 : decode cX7_readBounds 64 = .ok (.ifCond .eq 18, 3) := dk_153 0 18 (dk_at dksX7_readBounds_2 17 rfl rfl)
theorem dX7_readBounds_67 : decode cX7_readBounds 67 = .ok (.aload_n 0, 1) := dk_42 (dk_at dksX7_readBounds_2 20 rfl rfl)
theorem dX7_readBounds_68 : decode cX7_readBounds 68 = .ok (.aload_n 0, 1) := dk_42 (dk_at dksX7_readBounds_2 21 rfl rfl)
theorem dX7_readBounds_69 : decode cX7_readBounds 69 = .ok (.getfield 15, 3) := dk_180 0 15 (dk_at dksX7_readBounds_3 0 rfl rfl)
theorem dX7_readBounds_72 : decode cX7_readBounds 72 = .ok (.iconst 0, 1) := dk_3 (dk_at dksX7_readBounds_3 3 rfl rfl)
theorem dX7_readBounds_73 : decode cX7_readBounds 73 = .ok (.iaload, 1) := dk_46 (dk_at dksX7_readBounds_3 4 rfl rfl)
theorem dX7_readBounds_74 : decode cX7_readBounds 74 = .ok (.bipush 99, 2) := dk_16 99 (dk_at dksX7_readBounds_3 5 rfl rfl)
theorem dX7_readBounds_76 : decode cX7_readBounds 76 = .ok (.invokevirtual 62, 3) := dk_182 0 62 (dk_at dksX7_readBounds_3 7 rfl rfl)
theorem dX7_readBounds_79 : decode cX7_readBounds 79 = .ok (.goto 4, 3) := dk_167 0 4 (dk_at dksX7_readBounds_3 10 rfl rfl)
theorem dX7_readBounds_82 : decode cX7_readBounds 82 = .ok (.iconst (-1), 1) := dk_2 (dk_at dksX7_readBounds_3 13 rfl rfl)
theorem dX7_readBounds_83 : decode cX7_readBounds 83 = .ok (.iastore, 1) := dk_79 (dk_at dksX7_readBounds_3 14 rfl rfl)
theorem dX7_readBounds_84 : decode cX7_readBounds 84 = .ok (.aload_n 0, 1) := dk_42 (dk_at dksX7_readBounds_3 15 rfl rfl)
theorem dX7_readBounds_85 : decode cX7_readBounds 85 = .ok (.getfield 15, 3) := dk_180 0 15 (dk_at dksX7_readBounds_3 16 rfl rfl)
theorem dX7_readBounds_88 : decode cX7_readBounds 88 = .ok (.iconst 1, 1) := dk_4 (dk_at dksX7_readBounds_3 19 rfl rfl)
theorem dX7_readBounds_89 : decode cX7_readBounds 89 = .ok (.iaload, 1) := dk_46 (dk_at dksX7_readBounds_3 20 rfl rfl)
theorem dX7_readBounds_90 : decode cX7_readBounds 90 = .ok (.iconst (-1), 1) := dk_2 (dk_at dksX7_readBounds_3 21 rfl rfl)
theorem dX7_readBounds_91 : decode cX7_readBounds 91 = .ok (.if_icmp .eq 7, 3) := dk_159 0 7 (dk_at dksX7_readBounds_4 0 rfl rfl)
theorem dX7_readBounds_94 : decode cX7_readBounds 94 = .ok (.iconst 1, 1) := dk_4 (dk_at dksX7_readBounds_4 3 rfl rfl)
theorem dX7_readBounds_95 : decode cX7_readBounds 95 = .ok (.goto 4, 3) := dk_167 0 4 (dk_at dksX7_readBounds_4 4 rfl rfl)
theorem dX7_readBounds_98 : decode cX7_readBounds 98 = .ok (.iconst 0, 1) := dk_3 (dk_at dksX7_readBounds_4 7 rfl rfl)
theorem dX7_readBounds_99 : decode cX7_readBounds 99 = .ok (.ireturn, 1) := dk_172 (dk_at dksX7_readBounds_4 8 rfl rfl)
abbrev cX7_allOn : ByteArray := prog_6_method_15_code
def yX7_allOn : MethodName := ⟨RX7, "allOn", "(LOfferSky$State;)V"⟩
def dkwX7_allOn_2 : List UInt8 := [177]
abbrev dktX7_allOn_2 : List UInt8 := dkwX7_allOn_2 ++ []
def dkwX7_allOn_1 : List UInt8 := [16, 59, 182, 0, 58, 153, 0, 14, 42, 182, 0, 89, 153, 0, 7, 4, 167, 0, 4, 3, 61, 167, 255, 216]
abbrev dktX7_allOn_1 : List UInt8 := dkwX7_allOn_1 ++ dktX7_allOn_2
def dkwX7_allOn_0 : List UInt8 := [42, 182, 0, 89, 61, 28, 153, 0, 42, 42, 43, 182, 0, 125, 184, 0, 129, 42, 43, 182, 0, 133, 62, 42]
abbrev dktX7_allOn_0 : List UInt8 := dkwX7_allOn_0 ++ dktX7_allOn_1
theorem dksX7_allOn_0 : cX7_allOn.data.toList.drop 0 = dktX7_allOn_0 := by decide +kernel
theorem dksX7_allOn_1 : cX7_allOn.data.toList.drop 24 = dktX7_allOn_1 := dk_seg dksX7_allOn_0 24 rfl rfl
theorem dksX7_allOn_2 : cX7_allOn.data.toList.drop 48 = dktX7_allOn_2 := dk_seg dksX7_allOn_1 24 rfl rfl
theorem dX7_allOn_0 : decode cX7_allOn 0 = .ok (.aload_n 0, 1) := dk_42 (dk_at dksX7_allOn_0 0 rfl rfl)
theorem dX7_allOn_1 : decode cX7_allOn 1 = .ok (.invokevirtual 89, 3) := dk_182 0 89 (dk_at dksX7_allOn_0 1 rfl rfl)
theorem dX7_allOn_4 : decode cX7_allOn 4 = .ok (.istore_n 2, 1) := dk_61 (dk_at dksX7_allOn_0 4 rfl rfl)
theorem dX7_allOn_5 : decode cX7_allOn 5 = .ok (.iload_n 2, 1) := dk_28 (dk_at dksX7_allOn_0 5 rfl rfl)
theorem dX7_allOn_6 : decode cX7_allOn 6 = .ok (.ifCond .eq 42, 3) := dk_153 0 42 (dk_at dksX7_allOn_0 6 rfl rfl)
theorem dX7_allOn_9 : decode cX7_allOn 9 = .ok (.aload_n 0, 1) := dk_42 (dk_at dksX7_allOn_0 9 rfl rfl)
theorem dX7_allOn_10 : decode cX7_allOn 10 = .ok (.aload_n 1, 1) := dk_43 (dk_at dksX7_allOn_0 10 rfl rfl)
theorem dX7_allOn_11 : decode cX7_allOn 11 = .ok (.invokevirtual 125, 3) := dk_182 0 125 (dk_at dksX7_allOn_0 11 rfl rfl)
theorem dX7_allOn_14 : decode cX7_allOn 14 = .ok (.invokestatic 129, 3) := dk_184 0 129 (dk_at dksX7_allOn_0 14 rfl rfl)
theorem dX7_allOn_17 : decode cX7_allOn 17 = .ok (.aload_n 0, 1) := dk_42 (dk_at dksX7_allOn_0 17 rfl rfl)
theorem dX7_allOn_18 : decode cX7_allOn 18 = .ok (.aload_n 1, 1) := dk_43 (dk_at dksX7_allOn_0 18 rfl rfl)
theorem dX7_allOn_19 : decode cX7_allOn 19 = .ok (.invokevirtual 133, 3) := dk_182 0 133 (dk_at dksX7_allOn_0 19 rfl rfl)
theorem dX7_allOn_22 : decode cX7_allOn 22 = .ok (.istore_n 3, 1) := dk_62 (dk_at dksX7_allOn_0 22 rfl rfl)
theorem dX7_allOn_23 : decode cX7_allOn 23 = .ok (.aload_n 0, 1) := dk_42 (dk_at dksX7_allOn_0 23 rfl rfl)
theorem dX7_allOn_24 : decode cX7_allOn 24 = .ok (.bipush 59, 2) := dk_16 59 (dk_at dksX7_allOn_1 0 rfl rfl)
theorem dX7_allOn_26 : decode cX7_allOn 26 = .ok (.invokevirtual 58, 3) := dk_182 0 58 (dk_at dksX7_allOn_1 2 rfl rfl)
theorem dX7_allOn_29 : decode cX7_allOn 29 = .ok (.ifCond .eq 14, 3) := dk_153 0 14 (dk_at dksX7_allOn_1 5 rfl rfl)
theorem dX7_allOn_32 : decode cX7_allOn 32 = .ok (.aload_n 0, 1) := dk_42 (dk_at dksX7_allOn_1 8 rfl rfl)
theorem dX7_allOn_33 : decode cX7_allOn 33 = .ok (.invokevirtual 89, 3) := dk_182 0 89 (dk_at dksX7_allOn_1 9 rfl rfl)
theorem dX7_allOn_36 : decode cX7_allOn 36 = .ok (.ifCond .eq 7, 3) := dk_153 0 7 (dk_at dksX7_allOn_1 12 rfl rfl)
theorem dX7_allOn_39 : decode cX7_allOn 39 = .ok (.iconst 1, 1) := dk_4 (dk_at dksX7_allOn_1 15 rfl rfl)
theorem dX7_allOn_40 : decode cX7_allOn 40 = .ok (.goto 4, 3) := dk_167 0 4 (dk_at dksX7_allOn_1 16 rfl rfl)
theorem dX7_allOn_43 : decode cX7_allOn 43 = .ok (.iconst 0, 1) := dk_3 (dk_at dksX7_allOn_1 19 rfl rfl)
theorem dX7_allOn_44 : decode cX7_allOn 44 = .ok (.istore_n 2, 1) := dk_61 (dk_at dksX7_allOn_1 20 rfl rfl)
theorem dX7_allOn_45 : decode cX7_allOn 45 = .ok (.goto (-40), 3) := dk_167 255 216 (dk_at dksX7_allOn_1 21 rfl rfl)
theorem dX7_allOn_48 : decode cX7_allOn 48 = .ok (.return_, 1) := dk_177 (dk_at dksX7_allOn_2 0 rfl rfl)
abbrev cX7_canOn : ByteArray := prog_6_method_13_code
def yX7_canOn : MethodName := ⟨RX7, "canOn", "(LOfferSky$State;)Z"⟩
def dkwX7_canOn_2 : List UInt8 := [43, 182, 0, 92, 172, 43, 42, 180, 0, 15, 3, 46, 182, 0, 97, 172, 4, 172]
abbrev dktX7_canOn_2 : List UInt8 := dkwX7_canOn_2 ++ []
def dkwX7_canOn_1 : List UInt8 := [171, 0, 0, 0, 0, 0, 0, 44, 0, 0, 0, 2, 0, 0, 0, 97, 0, 0, 0, 28, 0, 0, 0, 114, 0, 0, 0, 33]
abbrev dktX7_canOn_1 : List UInt8 := dkwX7_canOn_1 ++ dktX7_canOn_2
def dkwX7_canOn_0 : List UInt8 := [42, 180, 0, 72]
abbrev dktX7_canOn_0 : List UInt8 := dkwX7_canOn_0 ++ dktX7_canOn_1
theorem dksX7_canOn_0 : cX7_canOn.data.toList.drop 0 = dktX7_canOn_0 := by decide +kernel
theorem dksX7_canOn_1 : cX7_canOn.data.toList.drop 4 = dktX7_canOn_1 := dk_seg dksX7_canOn_0 4 rfl rfl
theorem dksX7_canOn_2 : cX7_canOn.data.toList.drop 32 = dktX7_canOn_2 := dk_seg dksX7_canOn_1 28 rfl rfl
theorem dX7_canOn_0 : decode cX7_canOn 0 = .ok (.aload_n 0, 1) := dk_42 (dk_at dksX7_canOn_0 0 rfl rfl)
theorem dX7_canOn_1 : decode cX7_canOn 1 = .ok (.getfield 72, 3) := dk_180 0 72 (dk_at dksX7_canOn_0 1 rfl rfl)
theorem dX7_canOn_4 : decode cX7_canOn 4 = .ok (.lookupswitch 44 #[(97, 28), (114, 33)], 28) := by decide +kernel
theorem dX7_canOn_32 : decode cX7_canOn 32 = .ok (.aload_n 1, 1) := dk_43 (dk_at dksX7_canOn_2 0 rfl rfl)
theorem dX7_canOn_33 : decode cX7_canOn 33 = .ok (.invokevirtual 92, 3) := dk_182 0 92 (dk_at dksX7_canOn_2 1 rfl rfl)
theorem dX7_canOn_36 : decode cX7_canOn 36 = .ok (.ireturn, 1) := dk_172 (dk_at dksX7_canOn_2 4 rfl rfl)
theorem dX7_canOn_37 : decode cX7_canOn 37 = .ok (.aload_n 1, 1) := dk_43 (dk_at dksX7_canOn_2 5 rfl rfl)
theorem dX7_canOn_38 : decode cX7_canOn 38 = .ok (.aload_n 0, 1) := dk_42 (dk_at dksX7_canOn_2 6 rfl rfl)
theorem dX7_canOn_39 : decode cX7_canOn 39 = .ok (.getfield 15, 3) := dk_180 0 15 (dk_at dksX7_canOn_2 7 rfl rfl)
theorem dX7_canOn_42 : decode cX7_canOn 42 = .ok (.iconst 0, 1) := dk_3 (dk_at dksX7_canOn_2 10 rfl rfl)
theorem dX7_canOn_43 : decode cX7_canOn 43 = .ok (.iaload, 1) := dk_46 (dk_at dksX7_canOn_2 11 rfl rfl)
theorem dX7_canOn_44 : decode cX7_canOn 44 = .ok (.invokevirtual 97, 3) := dk_182 0 97 (dk_at dksX7_canOn_2 12 rfl rfl)
theorem dX7_canOn_47 : decode cX7_canOn 47 = .ok (.ireturn, 1) := dk_172 (dk_at dksX7_canOn_2 15 rfl rfl)
theorem dX7_canOn_48 : decode cX7_canOn 48 = .ok (.iconst 1, 1) := dk_4 (dk_at dksX7_canOn_2 16 rfl rfl)
theorem dX7_canOn_49 : decode cX7_canOn 49 = .ok (.ireturn, 1) := dk_172 (dk_at dksX7_canOn_2 17 rfl rfl)
abbrev cX7_partOn : ByteArray := prog_6_method_14_code
def yX7_partOn : MethodName := ⟨RX7, "partOn", "(LOfferSky$State;)I"⟩
def dkwX7_partOn_4 : List UInt8 := [43, 42, 180, 0, 69, 42, 180, 0, 15, 3, 46, 42, 180, 0, 15, 4, 46, 182, 0, 121, 172]
abbrev dktX7_partOn_4 : List UInt8 := dkwX7_partOn_4 ++ []
def dkwX7_partOn_3 : List UInt8 := [180, 0, 15, 3, 46, 182, 0, 115, 172, 43, 42, 180, 0, 69, 42, 180, 0, 15, 3, 46, 182, 0, 118, 172]
abbrev dktX7_partOn_3 : List UInt8 := dkwX7_partOn_3 ++ dktX7_partOn_4
def dkwX7_partOn_2 : List UInt8 := [43, 187, 0, 101, 89, 42, 180, 0, 15, 182, 0, 103, 192, 0, 104, 183, 0, 108, 182, 0, 111, 172, 43, 42]
abbrev dktX7_partOn_2 : List UInt8 := dkwX7_partOn_2 ++ dktX7_partOn_3
def dkwX7_partOn_1 : List UInt8 := [171, 0, 0, 0, 0, 0, 0, 84, 0, 0, 0, 3, 0, 0, 0, 97, 0, 0, 0, 36, 0, 0, 0, 114, 0, 0, 0, 58, 0, 0, 0, 119, 0, 0, 0, 69]
abbrev dktX7_partOn_1 : List UInt8 := dkwX7_partOn_1 ++ dktX7_partOn_2
def dkwX7_partOn_0 : List UInt8 := [42, 180, 0, 72]
abbrev dktX7_partOn_0 : List UInt8 := dkwX7_partOn_0 ++ dktX7_partOn_1
theorem dksX7_partOn_0 : cX7_partOn.data.toList.drop 0 = dktX7_partOn_0 := by decide +kernel
theorem dksX7_partOn_1 : cX7_partOn.data.toList.drop 4 = dktX7_partOn_1 := dk_seg dksX7_partOn_0 4 rfl rfl
theorem dksX7_partOn_2 : cX7_partOn.data.toList.drop 40 = dktX7_partOn_2 := dk_seg dksX7_partOn_1 36 rfl rfl
theorem dksX7_partOn_3 : cX7_partOn.data.toList.drop 64 = dktX7_partOn_3 := dk_seg dksX7_partOn_2 24 rfl rfl
theorem dksX7_partOn_4 : cX7_partOn.data.toList.drop 88 = dktX7_partOn_4 := dk_seg dksX7_partOn_3 24 rfl rfl
theorem dX7_partOn_0 : decode cX7_partOn 0 = .ok (.aload_n 0, 1) := dk_42 (dk_at dksX7_partOn_0 0 rfl rfl)
theorem dX7_partOn_1 : decode cX7_partOn 1 = .ok (.getfield 72, 3) := dk_180 0 72 (dk_at dksX7_partOn_0 1 rfl rfl)
theorem dX7_partOn_4 : decode cX7_partOn 4 = .ok (.lookupswitch 84 #[(97, 36), (114, 58), (119, 69)], 36) := by decide +kernel
theorem dX7_partOn_40 : decode cX7_partOn 40 = .ok (.aload_n 1, 1) := dk_43 (dk_at dksX7_partOn_2 0 rfl rfl)
theorem dX7_partOn_41 : decode cX7_partOn 41 = .ok (.new 101, 3) := dk_187 0 101 (dk_at dksX7_partOn_2 1 rfl rfl)
theorem dX7_partOn_44 : decode cX7_partOn 44 = .ok (.dup, 1) := dk_89 (dk_at dksX7_partOn_2 4 rfl rfl)
theorem dX7_partOn_45 : decode cX7_partOn 45 = .ok (.aload_n 0, 1) := dk_42 (dk_at dksX7_partOn_2 5 rfl rfl)
theorem dX7_partOn_46 : decode cX7_partOn 46 = .ok (.getfield 15, 3) := dk_180 0 15 (dk_at dksX7_partOn_2 6 rfl rfl)
theorem dX7_partOn_49 : decode cX7_partOn 49 = .ok (.invokevirtual 103, 3) := dk_182 0 103 (dk_at dksX7_partOn_2 9 rfl rfl)
theorem dX7_partOn_52 : decode cX7_partOn 52 = .ok (.checkcast 104, 3) := dk_192 0 104 (dk_at dksX7_partOn_2 12 rfl rfl)
theorem dX7_partOn_55 : decode cX7_partOn 55 = .ok (.invokespecial 108, 3) := dk_183 0 108 (dk_at dksX7_partOn_2 15 rfl rfl)
theorem dX7_partOn_58 : decode cX7_partOn 58 = .ok (.invokevirtual 111, 3) := dk_182 0 111 (dk_at dksX7_partOn_2 18 rfl rfl)
theorem dX7_partOn_61 : decode cX7_partOn 61 = .ok (.ireturn, 1) := dk_172 (dk_at dksX7_partOn_2 21 rfl rfl)
theorem dX7_partOn_62 : decode cX7_partOn 62 = .ok (.aload_n 1, 1) := dk_43 (dk_at dksX7_partOn_2 22 rfl rfl)
theorem dX7_partOn_63 : decode cX7_partOn 63 = .ok (.aload_n 0, 1) := dk_42 (dk_at dksX7_partOn_2 23 rfl rfl)
theorem dX7_partOn_64 : decode cX7_partOn 64 = .ok (.getfield 15, 3) := dk_180 0 15 (dk_at dksX7_partOn_3 0 rfl rfl)
theorem dX7_partOn_67 : decode cX7_partOn 67 = .ok (.iconst 0, 1) := dk_3 (dk_at dksX7_partOn_3 3 rfl rfl)
theorem dX7_partOn_68 : decode cX7_partOn 68 = .ok (.iaload, 1) := dk_46 (dk_at dksX7_partOn_3 4 rfl rfl)
theorem dX7_partOn_69 : decode cX7_partOn 69 = .ok (.invokevirtual 115, 3) := dk_182 0 115 (dk_at dksX7_partOn_3 5 rfl rfl)
theorem dX7_partOn_72 : decode cX7_partOn 72 = .ok (.ireturn, 1) := dk_172 (dk_at dksX7_partOn_3 8 rfl rfl)
theorem dX7_partOn_73 : decode cX7_partOn 73 = .ok (.aload_n 1, 1) := dk_43 (dk_at dksX7_partOn_3 9 rfl rfl)
theorem dX7_partOn_74 : decode cX7_partOn 74 = .ok (.aload_n 0, 1) := dk_42 (dk_at dksX7_partOn_3 10 rfl rfl)
theorem dX7_partOn_75 : decode cX7_partOn 75 = .ok (.getfield 69, 3) := dk_180 0 69 (dk_at dksX7_partOn_3 11 rfl rfl)
theorem dX7_partOn_78 : decode cX7_partOn 78 = .ok (.aload_n 0, 1) := dk_42 (dk_at dksX7_partOn_3 14 rfl rfl)
theorem dX7_partOn_79 : decode cX7_partOn 79 = .ok (.getfield 15, 3) := dk_180 0 15 (dk_at dksX7_partOn_3 15 rfl rfl)
theorem dX7_partOn_82 : decode cX7_partOn 82 = .ok (.iconst 0, 1) := dk_3 (dk_at dksX7_partOn_3 18 rfl rfl)
theorem dX7_partOn_83 : decode cX7_partOn 83 = .ok (.iaload, 1) := dk_46 (dk_at dksX7_partOn_3 19 rfl rfl)
theorem dX7_partOn_84 : decode cX7_partOn 84 = .ok (.invokevirtual 118, 3) := dk_182 0 118 (dk_at dksX7_partOn_3 20 rfl rfl)
theorem dX7_partOn_87 : decode cX7_partOn 87 = .ok (.ireturn, 1) := dk_172 (dk_at dksX7_partOn_3 23 rfl rfl)
theorem dX7_partOn_88 : decode cX7_partOn 88 = .ok (.aload_n 1, 1) := dk_43 (dk_at dksX7_partOn_4 0 rfl rfl)
theorem dX7_partOn_89 : decode cX7_partOn 89 = .ok (.aload_n 0, 1) := dk_42 (dk_at dksX7_partOn_4 1 rfl rfl)
theorem dX7_partOn_90 : decode cX7_partOn 90 = .ok (.getfield 69, 3) := dk_180 0 69 (dk_at dksX7_partOn_4 2 rfl rfl)
theorem dX7_partOn_93 : decode cX7_partOn 93 = .ok (.aload_n 0, 1) := dk_42 (dk_at dksX7_partOn_4 5 rfl rfl)
theorem dX7_partOn_94 : decode cX7_partOn 94 = .ok (.getfield 15, 3) := dk_180 0 15 (dk_at dksX7_partOn_4 6 rfl rfl)
theorem dX7_partOn_97 : decode cX7_partOn 97 = .ok (.iconst 0, 1) := dk_3 (dk_at dksX7_partOn_4 9 rfl rfl)
theorem dX7_partOn_98 : decode cX7_partOn 98 = .ok (.iaload, 1) := dk_46 (dk_at dksX7_partOn_4 10 rfl rfl)
theorem dX7_partOn_99 : decode cX7_partOn 99 = .ok (.aload_n 0, 1) := dk_42 (dk_at dksX7_partOn_4 11 rfl rfl)
theorem dX7_partOn_100 : decode cX7_partOn 100 = .ok (.getfield 15, 3) := dk_180 0 15 (dk_at dksX7_partOn_4 12 rfl rfl)
theorem dX7_partOn_103 : decode cX7_partOn 103 = .ok (.iconst 1, 1) := dk_4 (dk_at dksX7_partOn_4 15 rfl rfl)
theorem dX7_partOn_104 : decode cX7_partOn 104 = .ok (.iaload, 1) := dk_46 (dk_at dksX7_partOn_4 16 rfl rfl)
theorem dX7_partOn_105 : decode cX7_partOn 105 = .ok (.invokevirtual 121, 3) := dk_182 0 121 (dk_at dksX7_partOn_4 17 rfl rfl)
theorem dX7_partOn_108 : decode cX7_partOn 108 = .ok (.ireturn, 1) := dk_172 (dk_at dksX7_partOn_4 20 rfl rfl)
theorem q130 : (Jvm.Cond.initialized "OfferSky$Reader") ∈ lw_all := lw_g (lw_at lw_m1 32 rfl) rfl
theorem q283 : (Jvm.Cond.fieldLinkNest "OfferSky$Reader" (23 : Nat) "OfferSky" "buffer" "Ljava/lang/StringBuilder;" "OfferSky") ∈ lw_tbl := lw_at lw_m1 185 rfl
theorem q395 : (Jvm.Cond.selects "OfferSky$Reader" ({ cls := "java/lang/Object", name := "getClass", desc := "()Ljava/lang/Class;" } : Jvm.MethodName) ({ cls := "java/lang/Object", name := "getClass", desc := "()Ljava/lang/Class;" } : Jvm.MethodName)) ∈ lw_all := lw_g (lw_at lw_m2 57 rfl) rfl
theorem q902 : (Jvm.Cond.instantiable "OfferSky$Reader" (5 : Nat)) ∈ lw_all := lw_g (lw_at lw_m4 84 rfl) rfl
theorem q904 : (Jvm.Cond.instanceMethod ({ cls := "OfferSky$Reader", name := "<init>", desc := "(LOfferSky;)V" } : Jvm.MethodName)) ∈ lw_all := lw_g (lw_at lw_m4 86 rfl) rfl
theorem q905 : (Jvm.Cond.code ({ cls := "OfferSky$Reader", name := "<init>", desc := "(LOfferSky;)V" } : Jvm.MethodName) prog_6_method_1_code (2 : Nat) (Option.none : Option Jvm.ClassFile.FieldType)) ∈ lw_all := lw_g (lw_at lw_m4 87 rfl) rfl
theorem q906 : (Jvm.Cond.methodLink "OfferSky$Reader" (9 : Nat) ({ cls := "java/lang/Object", name := "<init>", desc := "()V" } : Jvm.MethodName)) ∈ lw_all := lw_g (lw_at lw_m4 88 rfl) rfl
theorem q907 : (Jvm.Cond.fieldLink "OfferSky$Reader" (19 : Nat) "OfferSky$Reader" "at" "I") ∈ lw_all := lw_g (lw_at lw_m4 89 rfl) rfl
theorem q909 : (Jvm.Cond.fieldLink "OfferSky$Reader" (72 : Nat) "OfferSky$Reader" "word" "C") ∈ lw_all := lw_g (lw_at lw_m4 91 rfl) rfl
theorem q910 : (Jvm.Cond.fieldLink "OfferSky$Reader" (69 : Nat) "OfferSky$Reader" "side" "I") ∈ lw_all := lw_g (lw_at lw_m4 92 rfl) rfl
theorem q911 : (Jvm.Cond.fieldLink "OfferSky$Reader" (15 : Nat) "OfferSky$Reader" "told" "[I") ∈ lw_all := lw_g (lw_at lw_m4 93 rfl) rfl
theorem q912 : (Jvm.Cond.fieldLink "OfferSky$Reader" (3 : Nat) "OfferSky$Reader" "this$0" "LOfferSky;") ∈ lw_all := lw_g (lw_at lw_m4 94 rfl) rfl
theorem q913 : (Jvm.Cond.lays "OfferSky$Reader" "OfferSky$Reader" "at" "I") ∈ lw_all := lw_g (lw_at lw_m4 95 rfl) rfl
theorem q914 : (Jvm.Cond.soleField "OfferSky$Reader" "at") ∈ lw_all := lw_g (lw_at lw_m4 96 rfl) rfl
theorem q915 : (Jvm.Cond.lays "OfferSky$Reader" "OfferSky$Reader" "word" "C") ∈ lw_all := lw_g (lw_at lw_m4 97 rfl) rfl
theorem q916 : (Jvm.Cond.soleField "OfferSky$Reader" "word") ∈ lw_all := lw_g (lw_at lw_m4 98 rfl) rfl
theorem q917 : (Jvm.Cond.lays "OfferSky$Reader" "OfferSky$Reader" "side" "I") ∈ lw_all := lw_g (lw_at lw_m4 99 rfl) rfl
theorem q918 : (Jvm.Cond.soleField "OfferSky$Reader" "side") ∈ lw_all := lw_g (lw_at lw_m4 100 rfl) rfl
theorem q919 : (Jvm.Cond.laysFinal "OfferSky$Reader" "OfferSky$Reader" "told" "[I") ∈ lw_all := lw_g (lw_at lw_m4 101 rfl) rfl
theorem q920 : (Jvm.Cond.soleField "OfferSky$Reader" "told") ∈ lw_all := lw_g (lw_at lw_m4 102 rfl) rfl
theorem q921 : (Jvm.Cond.laysFinal "OfferSky$Reader" "OfferSky$Reader" "this$0" "LOfferSky;") ∈ lw_all := lw_g (lw_at lw_m4 103 rfl) rfl
theorem q922 : (Jvm.Cond.soleField "OfferSky$Reader" "this$0") ∈ lw_all := lw_g (lw_at lw_m4 104 rfl) rfl
theorem q923 : (Jvm.Cond.superclass "OfferSky$Reader" "java/lang/Object") ∈ lw_all := lw_g (lw_at lw_m4 105 rfl) rfl
theorem q925 : (Jvm.Cond.instanceMethod ({ cls := "OfferSky$Reader", name := "isWhole", desc := "()Z" } : Jvm.MethodName)) ∈ lw_all := lw_g (lw_at lw_m4 107 rfl) rfl
theorem q926 : (Jvm.Cond.selects "OfferSky$Reader" ({ cls := "OfferSky$Reader", name := "isWhole", desc := "()Z" } : Jvm.MethodName) ({ cls := "OfferSky$Reader", name := "isWhole", desc := "()Z" } : Jvm.MethodName)) ∈ lw_all := lw_g (lw_at lw_m4 108 rfl) rfl
theorem q927 : (Jvm.Cond.code ({ cls := "OfferSky$Reader", name := "isWhole", desc := "()Z" } : Jvm.MethodName) prog_6_method_12_code (2 : Nat) (Option.some Jvm.ClassFile.FieldType.boolean)) ∈ lw_all := lw_g (lw_at lw_m4 109 rfl) rfl
theorem q928 : (Jvm.Cond.methodLink "OfferSky$Reader" (89 : Nat) ({ cls := "OfferSky$Reader", name := "readPart", desc := "()Z" } : Jvm.MethodName)) ∈ lw_all := lw_g (lw_at lw_m4 110 rfl) rfl
theorem q929 : (Jvm.Cond.instanceMethod ({ cls := "OfferSky$Reader", name := "readPart", desc := "()Z" } : Jvm.MethodName)) ∈ lw_all := lw_g (lw_at lw_m4 111 rfl) rfl
theorem q930 : (Jvm.Cond.selects "OfferSky$Reader" ({ cls := "OfferSky$Reader", name := "readPart", desc := "()Z" } : Jvm.MethodName) ({ cls := "OfferSky$Reader", name := "readPart", desc := "()Z" } : Jvm.MethodName)) ∈ lw_all := lw_g (lw_at lw_m4 112 rfl) rfl
theorem q931 : (Jvm.Cond.code ({ cls := "OfferSky$Reader", name := "readPart", desc := "()Z" } : Jvm.MethodName) prog_6_method_11_code (1 : Nat) (Option.some Jvm.ClassFile.FieldType.boolean)) ∈ lw_all := lw_g (lw_at lw_m4 113 rfl) rfl
theorem q932 : (Jvm.Cond.methodLink "OfferSky$Reader" (37 : Nat) ({ cls := "OfferSky$Reader", name := "sign", desc := "()C" } : Jvm.MethodName)) ∈ lw_all := lw_g (lw_at lw_m4 114 rfl) rfl
theorem q933 : (Jvm.Cond.privateMethod ({ cls := "OfferSky$Reader", name := "sign", desc := "()C" } : Jvm.MethodName)) ∈ lw_tbl := lw_at lw_m4 115 rfl
theorem q934 : (Jvm.Cond.instanceMethod ({ cls := "OfferSky$Reader", name := "sign", desc := "()C" } : Jvm.MethodName)) ∈ lw_all := lw_g (lw_at lw_m4 116 rfl) rfl
theorem q935 : (Jvm.Cond.code ({ cls := "OfferSky$Reader", name := "sign", desc := "()C" } : Jvm.MethodName) prog_6_method_2_code (1 : Nat) (Option.some Jvm.ClassFile.FieldType.char)) ∈ lw_all := lw_g (lw_at lw_m4 117 rfl) rfl
theorem q936 : (Jvm.Cond.methodLink "OfferSky$Reader" (27 : Nat) ({ cls := "java/lang/StringBuilder", name := "length", desc := "()I" } : Jvm.MethodName)) ∈ lw_all := lw_g (lw_at lw_m4 118 rfl) rfl
theorem q937 : (Jvm.Cond.methodLink "OfferSky$Reader" (33 : Nat) ({ cls := "java/lang/StringBuilder", name := "charAt", desc := "(I)C" } : Jvm.MethodName)) ∈ lw_all := lw_g (lw_at lw_m4 119 rfl) rfl
theorem q950 : (Jvm.Cond.methodLinkNest "OfferSky$Reader" (41 : Nat) ({ cls := "OfferSky", name := "flag", desc := "(Z)I" } : Jvm.MethodName) "OfferSky") ∈ lw_tbl := lw_at lw_m4 132 rfl
theorem q951 : (Jvm.Cond.methodLink "OfferSky$Reader" (76 : Nat) ({ cls := "OfferSky$Reader", name := "readValues", desc := "()Z" } : Jvm.MethodName)) ∈ lw_all := lw_g (lw_at lw_m4 133 rfl) rfl
theorem q952 : (Jvm.Cond.privateMethod ({ cls := "OfferSky$Reader", name := "readValues", desc := "()Z" } : Jvm.MethodName)) ∈ lw_tbl := lw_at lw_m4 134 rfl
theorem q953 : (Jvm.Cond.instanceMethod ({ cls := "OfferSky$Reader", name := "readValues", desc := "()Z" } : Jvm.MethodName)) ∈ lw_all := lw_g (lw_at lw_m4 135 rfl) rfl
theorem q954 : (Jvm.Cond.code ({ cls := "OfferSky$Reader", name := "readValues", desc := "()Z" } : Jvm.MethodName) prog_6_method_7_code (3 : Nat) (Option.some Jvm.ClassFile.FieldType.boolean)) ∈ lw_all := lw_g (lw_at lw_m4 136 rfl) rfl
theorem q955 : (Jvm.Cond.methodLink "OfferSky$Reader" (58 : Nat) ({ cls := "OfferSky$Reader", name := "isNext", desc := "(C)Z" } : Jvm.MethodName)) ∈ lw_all := lw_g (lw_at lw_m4 137 rfl) rfl
theorem q956 : (Jvm.Cond.privateMethod ({ cls := "OfferSky$Reader", name := "isNext", desc := "(C)Z" } : Jvm.MethodName)) ∈ lw_tbl := lw_at lw_m4 138 rfl
theorem q957 : (Jvm.Cond.instanceMethod ({ cls := "OfferSky$Reader", name := "isNext", desc := "(C)Z" } : Jvm.MethodName)) ∈ lw_all := lw_g (lw_at lw_m4 139 rfl) rfl
theorem q958 : (Jvm.Cond.code ({ cls := "OfferSky$Reader", name := "isNext", desc := "(C)Z" } : Jvm.MethodName) prog_6_method_3_code (3 : Nat) (Option.some Jvm.ClassFile.FieldType.boolean)) ∈ lw_all := lw_g (lw_at lw_m4 140 rfl) rfl
theorem q959 : (Jvm.Cond.methodLink "OfferSky$Reader" (62 : Nat) ({ cls := "OfferSky$Reader", name := "number", desc := "(II)I" } : Jvm.MethodName)) ∈ lw_all := lw_g (lw_at lw_m4 141 rfl) rfl
theorem q960 : (Jvm.Cond.privateMethod ({ cls := "OfferSky$Reader", name := "number", desc := "(II)I" } : Jvm.MethodName)) ∈ lw_tbl := lw_at lw_m4 142 rfl
theorem q961 : (Jvm.Cond.instanceMethod ({ cls := "OfferSky$Reader", name := "number", desc := "(II)I" } : Jvm.MethodName)) ∈ lw_all := lw_g (lw_at lw_m4 143 rfl) rfl
theorem q962 : (Jvm.Cond.code ({ cls := "OfferSky$Reader", name := "number", desc := "(II)I" } : Jvm.MethodName) prog_6_method_6_code (7 : Nat) (Option.some Jvm.ClassFile.FieldType.int)) ∈ lw_all := lw_g (lw_at lw_m4 144 rfl) rfl
theorem q963 : (Jvm.Cond.methodLink "OfferSky$Reader" (49 : Nat) ({ cls := "java/lang/Math", name := "max", desc := "(II)I" } : Jvm.MethodName)) ∈ lw_all := lw_g (lw_at lw_m4 145 rfl) rfl
theorem q964 : (Jvm.Cond.methodLinkNest "OfferSky$Reader" (45 : Nat) ({ cls := "OfferSky", name := "inRange", desc := "(III)Z" } : Jvm.MethodName) "OfferSky") ∈ lw_tbl := lw_at lw_m4 146 rfl
theorem q965 : (Jvm.Cond.methodLink "OfferSky$Reader" (55 : Nat) ({ cls := "OfferSky$Reader", name := "canBegin", desc := "(III)Z" } : Jvm.MethodName)) ∈ lw_all := lw_g (lw_at lw_m4 147 rfl) rfl
theorem q966 : (Jvm.Cond.privateMethod ({ cls := "OfferSky$Reader", name := "canBegin", desc := "(III)Z" } : Jvm.MethodName)) ∈ lw_tbl := lw_at lw_m4 148 rfl
theorem q967 : (Jvm.Cond.instanceMethod ({ cls := "OfferSky$Reader", name := "canBegin", desc := "(III)Z" } : Jvm.MethodName)) ∈ lw_all := lw_g (lw_at lw_m4 149 rfl) rfl
theorem q968 : (Jvm.Cond.code ({ cls := "OfferSky$Reader", name := "canBegin", desc := "(III)Z" } : Jvm.MethodName) prog_6_method_5_code (5 : Nat) (Option.some Jvm.ClassFile.FieldType.boolean)) ∈ lw_all := lw_g (lw_at lw_m4 150 rfl) rfl
theorem q969 : (Jvm.Cond.methodLink "OfferSky$Reader" (80 : Nat) ({ cls := "OfferSky$Reader", name := "readOffer", desc := "()Z" } : Jvm.MethodName)) ∈ lw_all := lw_g (lw_at lw_m4 151 rfl) rfl
theorem q970 : (Jvm.Cond.privateMethod ({ cls := "OfferSky$Reader", name := "readOffer", desc := "()Z" } : Jvm.MethodName)) ∈ lw_tbl := lw_at lw_m4 152 rfl
theorem q971 : (Jvm.Cond.instanceMethod ({ cls := "OfferSky$Reader", name := "readOffer", desc := "()Z" } : Jvm.MethodName)) ∈ lw_all := lw_g (lw_at lw_m4 153 rfl) rfl
theorem q972 : (Jvm.Cond.code ({ cls := "OfferSky$Reader", name := "readOffer", desc := "()Z" } : Jvm.MethodName) prog_6_method_8_code (1 : Nat) (Option.some Jvm.ClassFile.FieldType.boolean)) ∈ lw_all := lw_g (lw_at lw_m4 154 rfl) rfl
theorem q973 : (Jvm.Cond.methodLink "OfferSky$Reader" (83 : Nat) ({ cls := "OfferSky$Reader", name := "readWish", desc := "()Z" } : Jvm.MethodName)) ∈ lw_all := lw_g (lw_at lw_m4 155 rfl) rfl
theorem q974 : (Jvm.Cond.privateMethod ({ cls := "OfferSky$Reader", name := "readWish", desc := "()Z" } : Jvm.MethodName)) ∈ lw_tbl := lw_at lw_m4 156 rfl
theorem q975 : (Jvm.Cond.instanceMethod ({ cls := "OfferSky$Reader", name := "readWish", desc := "()Z" } : Jvm.MethodName)) ∈ lw_all := lw_g (lw_at lw_m4 157 rfl) rfl
theorem q976 : (Jvm.Cond.code ({ cls := "OfferSky$Reader", name := "readWish", desc := "()Z" } : Jvm.MethodName) prog_6_method_9_code (1 : Nat) (Option.some Jvm.ClassFile.FieldType.boolean)) ∈ lw_all := lw_g (lw_at lw_m4 158 rfl) rfl
theorem q977 : (Jvm.Cond.methodLink "OfferSky$Reader" (65 : Nat) ({ cls := "OfferSky$Reader", name := "digit", desc := "(I)I" } : Jvm.MethodName)) ∈ lw_all := lw_g (lw_at lw_m4 159 rfl) rfl
theorem q978 : (Jvm.Cond.privateMethod ({ cls := "OfferSky$Reader", name := "digit", desc := "(I)I" } : Jvm.MethodName)) ∈ lw_tbl := lw_at lw_m4 160 rfl
theorem q979 : (Jvm.Cond.instanceMethod ({ cls := "OfferSky$Reader", name := "digit", desc := "(I)I" } : Jvm.MethodName)) ∈ lw_all := lw_g (lw_at lw_m4 161 rfl) rfl
theorem q980 : (Jvm.Cond.code ({ cls := "OfferSky$Reader", name := "digit", desc := "(I)I" } : Jvm.MethodName) prog_6_method_4_code (4 : Nat) (Option.some Jvm.ClassFile.FieldType.int)) ∈ lw_all := lw_g (lw_at lw_m4 162 rfl) rfl
theorem q981 : (Jvm.Cond.methodLink "OfferSky$Reader" (86 : Nat) ({ cls := "OfferSky$Reader", name := "readBounds", desc := "()Z" } : Jvm.MethodName)) ∈ lw_all := lw_g (lw_at lw_m4 163 rfl) rfl
theorem q982 : (Jvm.Cond.privateMethod ({ cls := "OfferSky$Reader", name := "readBounds", desc := "()Z" } : Jvm.MethodName)) ∈ lw_tbl := lw_at lw_m4 164 rfl
theorem q983 : (Jvm.Cond.instanceMethod ({ cls := "OfferSky$Reader", name := "readBounds", desc := "()Z" } : Jvm.MethodName)) ∈ lw_all := lw_g (lw_at lw_m4 165 rfl) rfl
theorem q984 : (Jvm.Cond.code ({ cls := "OfferSky$Reader", name := "readBounds", desc := "()Z" } : Jvm.MethodName) prog_6_method_10_code (1 : Nat) (Option.some Jvm.ClassFile.FieldType.boolean)) ∈ lw_all := lw_g (lw_at lw_m4 166 rfl) rfl
theorem q1487 : (Jvm.Cond.instanceMethod ({ cls := "OfferSky$Reader", name := "allOn", desc := "(LOfferSky$State;)V" } : Jvm.MethodName)) ∈ lw_all := lw_g (lw_at lw_m6 189 rfl) rfl
theorem q1488 : (Jvm.Cond.selects "OfferSky$Reader" ({ cls := "OfferSky$Reader", name := "allOn", desc := "(LOfferSky$State;)V" } : Jvm.MethodName) ({ cls := "OfferSky$Reader", name := "allOn", desc := "(LOfferSky$State;)V" } : Jvm.MethodName)) ∈ lw_all := lw_g (lw_at lw_m6 190 rfl) rfl
theorem q1489 : (Jvm.Cond.code ({ cls := "OfferSky$Reader", name := "allOn", desc := "(LOfferSky$State;)V" } : Jvm.MethodName) prog_6_method_15_code (4 : Nat) (Option.none : Option Jvm.ClassFile.FieldType)) ∈ lw_all := lw_g (lw_at lw_m6 191 rfl) rfl
theorem q1490 : (Jvm.Cond.methodLink "OfferSky$Reader" (125 : Nat) ({ cls := "OfferSky$Reader", name := "canOn", desc := "(LOfferSky$State;)Z" } : Jvm.MethodName)) ∈ lw_all := lw_g (lw_at lw_m6 192 rfl) rfl
theorem q1491 : (Jvm.Cond.privateMethod ({ cls := "OfferSky$Reader", name := "canOn", desc := "(LOfferSky$State;)Z" } : Jvm.MethodName)) ∈ lw_tbl := lw_at lw_m6 193 rfl
theorem q1492 : (Jvm.Cond.instanceMethod ({ cls := "OfferSky$Reader", name := "canOn", desc := "(LOfferSky$State;)Z" } : Jvm.MethodName)) ∈ lw_all := lw_g (lw_at lw_m6 194 rfl) rfl
theorem q1493 : (Jvm.Cond.code ({ cls := "OfferSky$Reader", name := "canOn", desc := "(LOfferSky$State;)Z" } : Jvm.MethodName) prog_6_method_13_code (2 : Nat) (Option.some Jvm.ClassFile.FieldType.boolean)) ∈ lw_all := lw_g (lw_at lw_m6 195 rfl) rfl
theorem q1494 : (Jvm.Cond.methodLink "OfferSky$Reader" (92 : Nat) ({ cls := "OfferSky$State", name := "hasRoom", desc := "()Z" } : Jvm.MethodName)) ∈ lw_all := lw_g (lw_at lw_m6 196 rfl) rfl
theorem q1495 : (Jvm.Cond.methodLink "OfferSky$Reader" (97 : Nat) ({ cls := "OfferSky$State", name := "isOffer", desc := "(I)Z" } : Jvm.MethodName)) ∈ lw_all := lw_g (lw_at lw_m6 197 rfl) rfl
theorem q1496 : (Jvm.Cond.methodLinkNest "OfferSky$Reader" (129 : Nat) ({ cls := "OfferSky", name := "requireState", desc := "(Z)V" } : Jvm.MethodName) "OfferSky") ∈ lw_tbl := lw_at lw_m6 198 rfl
theorem q1497 : (Jvm.Cond.methodLink "OfferSky$Reader" (133 : Nat) ({ cls := "OfferSky$Reader", name := "partOn", desc := "(LOfferSky$State;)I" } : Jvm.MethodName)) ∈ lw_all := lw_g (lw_at lw_m6 199 rfl) rfl
theorem q1498 : (Jvm.Cond.privateMethod ({ cls := "OfferSky$Reader", name := "partOn", desc := "(LOfferSky$State;)I" } : Jvm.MethodName)) ∈ lw_tbl := lw_at lw_m6 200 rfl
theorem q1499 : (Jvm.Cond.instanceMethod ({ cls := "OfferSky$Reader", name := "partOn", desc := "(LOfferSky$State;)I" } : Jvm.MethodName)) ∈ lw_all := lw_g (lw_at lw_m6 201 rfl) rfl
theorem q1500 : (Jvm.Cond.code ({ cls := "OfferSky$Reader", name := "partOn", desc := "(LOfferSky$State;)I" } : Jvm.MethodName) prog_6_method_14_code (2 : Nat) (Option.some Jvm.ClassFile.FieldType.int)) ∈ lw_all := lw_g (lw_at lw_m6 202 rfl) rfl
theorem q1501 : (Jvm.Cond.classLink "OfferSky$Reader" (101 : Nat) "OfferSky$Offer") ∈ lw_all := lw_g (lw_at lw_m6 203 rfl) rfl
theorem q1502 : (Jvm.Cond.methodLink "OfferSky$Reader" (103 : Nat) ({ cls := "[I", name := "clone", desc := "()Ljava/lang/Object;" } : Jvm.MethodName)) ∈ lw_all := lw_g (lw_at lw_m6 204 rfl) rfl
theorem q1503 : (Jvm.Cond.classLink "OfferSky$Reader" (104 : Nat) "[I") ∈ lw_all := lw_g (lw_at lw_m6 205 rfl) rfl
theorem q1504 : (Jvm.Cond.methodLink "OfferSky$Reader" (108 : Nat) ({ cls := "OfferSky$Offer", name := "<init>", desc := "([I)V" } : Jvm.MethodName)) ∈ lw_all := lw_g (lw_at lw_m6 206 rfl) rfl
theorem q1505 : (Jvm.Cond.methodLink "OfferSky$Reader" (111 : Nat) ({ cls := "OfferSky$State", name := "adds", desc := "(LOfferSky$Offer;)I" } : Jvm.MethodName)) ∈ lw_all := lw_g (lw_at lw_m6 207 rfl) rfl
theorem q1506 : (Jvm.Cond.methodLink "OfferSky$Reader" (115 : Nat) ({ cls := "OfferSky$State", name := "removes", desc := "(I)I" } : Jvm.MethodName)) ∈ lw_all := lw_g (lw_at lw_m6 208 rfl) rfl
theorem q1507 : (Jvm.Cond.methodLink "OfferSky$Reader" (118 : Nat) ({ cls := "OfferSky$State", name := "wishes", desc := "(II)I" } : Jvm.MethodName)) ∈ lw_all := lw_g (lw_at lw_m6 209 rfl) rfl
theorem q1508 : (Jvm.Cond.methodLink "OfferSky$Reader" (121 : Nat) ({ cls := "OfferSky$State", name := "bounds", desc := "(III)I" } : Jvm.MethodName)) ∈ lw_all := lw_g (lw_at lw_m6 210 rfl) rfl
theorem q2331 : (Jvm.Cond.castable "OfferSky$Reader" "java/lang/Object") ∈ lw_tbl := lw_at lw_m10 73 rfl
theorem in_X7 : ∀ w ∈ wsX70, w ∈ lw_all := lw_in wsX70 [913, 915, 917, 919, 921] (by decide +kernel) (by decide +kernel)
