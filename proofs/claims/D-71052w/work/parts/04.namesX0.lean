/-! LaneCymbals -/
set_option maxRecDepth 100000
def RX0 : String := "LaneCymbals"
def TX0 : u_T := fun k => match k with
  | 0 => ("LaneCymbals", "lane", "LLaneCymbals$Lane;", true)
  | 1 => ("LaneCymbals", "aside", "LLaneCymbals$Lane;", true)
  | 2 => ("LaneCymbals", "images", "[LLaneCymbals$Lane;", true)
  | 3 => ("LaneCymbals", "trial", "LLaneCymbals$State;", true)
  | 4 => ("LaneCymbals", "text", "[B", true)
  | 5 => ("LaneCymbals", "typed", "I", false)
  | 6 => ("LaneCymbals", "refused", "[I", true)
  | 7 => ("LaneCymbals", "above", "J", false)
  | 8 => ("LaneCymbals", "below", "J", false)
  | 9 => ("LaneCymbals", "reader", "LLaneCymbals$Reader;", true)
  | 10 => ("LaneCymbals", "weddings", "LLaneCymbals$Weddings;", true)
  | _ => ("LaneCymbals", "sounds", "[I", true)
def tyX0 : Nat → FieldType := fun k => match k with
  | 0 => .object "LaneCymbals$Lane"
  | 1 => .object "LaneCymbals$Lane"
  | 2 => .array (.object "LaneCymbals$Lane")
  | 3 => .object "LaneCymbals$State"
  | 4 => .array .byte
  | 5 => .int
  | 6 => .array .int
  | 7 => .long
  | 8 => .long
  | 9 => .object "LaneCymbals$Reader"
  | 10 => .object "LaneCymbals$Weddings"
  | _ => .array .int
abbrev wsX00 : List Cond := u_ws RX0 TX0 12
theorem nmX0 : ∀ a, a < 12 → ∀ b, b < 12 → a ≠ b → (TX0 a).2.1 ≠ (TX0 b).2.1 := by decide +kernel
theorem tyX0_ok : ∀ k, k < 12 → parseFieldDescriptor (TX0 k).2.2.1 = some (tyX0 k) := by decide +kernel
abbrev cX0_init : ByteArray := prog_1_method_2_code
def yX0_init : MethodName := ⟨RX0, "<init>", "()V"⟩
def dkwX0_init_4 : List UInt8 := [188, 10, 181, 0, 58, 42, 180, 0, 10, 16, 12, 182, 0, 61, 177]
abbrev dktX0_init_4 : List UInt8 := dkwX0_init_4 ++ []
def dkwX0_init_3 : List UInt8 := [89, 42, 183, 0, 44, 181, 0, 47, 42, 187, 0, 51, 89, 42, 183, 0, 53, 181, 0, 54, 42, 16, 20]
abbrev dktX0_init_3 : List UInt8 := dkwX0_init_3 ++ dktX0_init_4
def dkwX0_init_2 : List UInt8 := [17, 0, 150, 188, 8, 181, 0, 30, 42, 6, 188, 10, 181, 0, 34, 42, 10, 181, 0, 38, 42, 187, 0, 42]
abbrev dktX0_init_2 : List UInt8 := dkwX0_init_2 ++ dktX0_init_3
def dkwX0_init_1 : List UInt8 := [181, 0, 16, 42, 5, 189, 0, 7, 181, 0, 19, 42, 187, 0, 23, 89, 183, 0, 25, 181, 0, 26, 42]
abbrev dktX0_init_1 : List UInt8 := dkwX0_init_1 ++ dktX0_init_2
def dkwX0_init_0 : List UInt8 := [42, 183, 0, 1, 42, 187, 0, 7, 89, 183, 0, 9, 181, 0, 10, 42, 187, 0, 7, 89, 183, 0, 9]
abbrev dktX0_init_0 : List UInt8 := dkwX0_init_0 ++ dktX0_init_1
theorem dksX0_init_0 : cX0_init.data.toList.drop 0 = dktX0_init_0 := by decide +kernel
theorem dksX0_init_1 : cX0_init.data.toList.drop 23 = dktX0_init_1 := dk_seg dksX0_init_0 23 rfl rfl
theorem dksX0_init_2 : cX0_init.data.toList.drop 46 = dktX0_init_2 := dk_seg dksX0_init_1 23 rfl rfl
theorem dksX0_init_3 : cX0_init.data.toList.drop 70 = dktX0_init_3 := dk_seg dksX0_init_2 24 rfl rfl
theorem dksX0_init_4 : cX0_init.data.toList.drop 93 = dktX0_init_4 := dk_seg dksX0_init_3 23 rfl rfl
theorem dX0_init_0 : decode cX0_init 0 = .ok (.aload_n 0, 1) := dk_42 (dk_at dksX0_init_0 0 rfl rfl)
theorem dX0_init_1 : decode cX0_init 1 = .ok (.invokespecial 1, 3) := dk_183 0 1 (dk_at dksX0_init_0 1 rfl rfl)
theorem dX0_init_4 : decode cX0_init 4 = .ok (.aload_n 0, 1) := dk_42 (dk_at dksX0_init_0 4 rfl rfl)
theorem dX0_init_5 : decode cX0_init 5 = .ok (.new 7, 3) := dk_187 0 7 (dk_at dksX0_init_0 5 rfl rfl)
theorem dX0_init_8 : decode cX0_init 8 = .ok (.dup, 1) := dk_89 (dk_at dksX0_init_0 8 rfl rfl)
theorem dX0_init_9 : decode cX0_init 9 = .ok (.invokespecial 9, 3) := dk_183 0 9 (dk_at dksX0_init_0 9 rfl rfl)
theorem dX0_init_12 : decode cX0_init 12 = .ok (.putfield 10, 3) := dk_181 0 10 (dk_at dksX0_init_0 12 rfl rfl)
theorem dX0_init_15 : decode cX0_init 15 = .ok (.aload_n 0, 1) := dk_42 (dk_at dksX0_init_0 15 rfl rfl)
theorem dX0_init_16 : decode cX0_init 16 = .ok (.new 7, 3) := dk_187 0 7 (dk_at dksX0_init_0 16 rfl rfl)
theorem dX0_init_19 : decode cX0_init 19 = .ok (.dup, 1) := dk_89 (dk_at dksX0_init_0 19 rfl rfl)
theorem dX0_init_20 : decode cX0_init 20 = .ok (.invokespecial 9, 3) := dk_183 0 9 (dk_at dksX0_init_0 20 rfl rfl)
theorem dX0_init_23 : decode cX0_init 23 = .ok (.putfield 16, 3) := dk_181 0 16 (dk_at dksX0_init_1 0 rfl rfl)
theorem dX0_init_26 : decode cX0_init 26 = .ok (.aload_n 0, 1) := dk_42 (dk_at dksX0_init_1 3 rfl rfl)
theorem dX0_init_27 : decode cX0_init 27 = .ok (.iconst 2, 1) := dk_5 (dk_at dksX0_init_1 4 rfl rfl)
theorem dX0_init_28 : decode cX0_init 28 = .ok (.anewarray 7, 3) := dk_189 0 7 (dk_at dksX0_init_1 5 rfl rfl)
theorem dX0_init_31 : decode cX0_init 31 = .ok (.putfield 19, 3) := dk_181 0 19 (dk_at dksX0_init_1 8 rfl rfl)
theorem dX0_init_34 : decode cX0_init 34 = .ok (.aload_n 0, 1) := dk_42 (dk_at dksX0_init_1 11 rfl rfl)
theorem dX0_init_35 : decode cX0_init 35 = .ok (.new 23, 3) := dk_187 0 23 (dk_at dksX0_init_1 12 rfl rfl)
theorem dX0_init_38 : decode cX0_init 38 = .ok (.dup, 1) := dk_89 (dk_at dksX0_init_1 15 rfl rfl)
theorem dX0_init_39 : decode cX0_init 39 = .ok (.invokespecial 25, 3) := dk_183 0 25 (dk_at dksX0_init_1 16 rfl rfl)
theorem dX0_init_42 : decode cX0_init 42 = .ok (.putfield 26, 3) := dk_181 0 26 (dk_at dksX0_init_1 19 rfl rfl)
theorem dX0_init_45 : decode cX0_init 45 = .ok (.aload_n 0, 1) := dk_42 (dk_at dksX0_init_1 22 rfl rfl)
theorem dX0_init_46 : decode cX0_init 46 = .ok (.sipush 150, 3) := dk_17 0 150 (dk_at dksX0_init_2 0 rfl rfl)
theorem dX0_init_49 : decode cX0_init 49 = .ok (.newarray .byte, 2) := dk_188_8 (dk_at dksX0_init_2 3 rfl rfl)
theorem dX0_init_51 : decode cX0_init 51 = .ok (.putfield 30, 3) := dk_181 0 30 (dk_at dksX0_init_2 5 rfl rfl)
theorem dX0_init_54 : decode cX0_init 54 = .ok (.aload_n 0, 1) := dk_42 (dk_at dksX0_init_2 8 rfl rfl)
theorem dX0_init_55 : decode cX0_init 55 = .ok (.iconst 3, 1) := dk_6 (dk_at dksX0_init_2 9 rfl rfl)
theorem dX0_init_56 : decode cX0_init 56 = .ok (.newarray .int, 2) := dk_188_10 (dk_at dksX0_init_2 10 rfl rfl)
theorem dX0_init_58 : decode cX0_init 58 = .ok (.putfield 34, 3) := dk_181 0 34 (dk_at dksX0_init_2 12 rfl rfl)
theorem dX0_init_61 : decode cX0_init 61 = .ok (.aload_n 0, 1) := dk_42 (dk_at dksX0_init_2 15 rfl rfl)
theorem dX0_init_62 : decode cX0_init 62 = .ok (.lconst 1, 1) := dk_10 (dk_at dksX0_init_2 16 rfl rfl)
theorem dX0_init_63 : decode cX0_init 63 = .ok (.putfield 38, 3) := dk_181 0 38 (dk_at dksX0_init_2 17 rfl rfl)
theorem dX0_init_66 : decode cX0_init 66 = .ok (.aload_n 0, 1) := dk_42 (dk_at dksX0_init_2 20 rfl rfl)
theorem dX0_init_67 : decode cX0_init 67 = .ok (.new 42, 3) := dk_187 0 42 (dk_at dksX0_init_2 21 rfl rfl)
theorem dX0_init_70 : decode cX0_init 70 = .ok (.dup, 1) := dk_89 (dk_at dksX0_init_3 0 rfl rfl)
theorem dX0_init_71 : decode cX0_init 71 = .ok (.aload_n 0, 1) := dk_42 (dk_at dksX0_init_3 1 rfl rfl)
theorem dX0_init_72 : decode cX0_init 72 = .ok (.invokespecial 44, 3) := dk_183 0 44 (dk_at dksX0_init_3 2 rfl rfl)
theorem dX0_init_75 : decode cX0_init 75 = .ok (.putfield 47, 3) := dk_181 0 47 (dk_at dksX0_init_3 5 rfl rfl)
theorem dX0_init_78 : decode cX0_init 78 = .ok (.aload_n 0, 1) := dk_42 (dk_at dksX0_init_3 8 rfl rfl)
theorem dX0_init_79 : decode cX0_init 79 = .ok (.new 51, 3) := dk_187 0 51 (dk_at dksX0_init_3 9 rfl rfl)
theorem dX0_init_82 : decode cX0_init 82 = .ok (.dup, 1) := dk_89 (dk_at dksX0_init_3 12 rfl rfl)
theorem dX0_init_83 : decode cX0_init 83 = .ok (.aload_n 0, 1) := dk_42 (dk_at dksX0_init_3 13 rfl rfl)
theorem dX0_init_84 : decode cX0_init 84 = .ok (.invokespecial 53, 3) := dk_183 0 53 (dk_at dksX0_init_3 14 rfl rfl)
theorem dX0_init_87 : decode cX0_init 87 = .ok (.putfield 54, 3) := dk_181 0 54 (dk_at dksX0_init_3 17 rfl rfl)
theorem dX0_init_90 : decode cX0_init 90 = .ok (.aload_n 0, 1) := dk_42 (dk_at dksX0_init_3 20 rfl rfl)
theorem dX0_init_91 : decode cX0_init 91 = .ok (.bipush 20, 2) := dk_16 20 (dk_at dksX0_init_3 21 rfl rfl)
theorem dX0_init_93 : decode cX0_init 93 = .ok (.newarray .int, 2) := dk_188_10 (dk_at dksX0_init_4 0 rfl rfl)
theorem dX0_init_95 : decode cX0_init 95 = .ok (.putfield 58, 3) := dk_181 0 58 (dk_at dksX0_init_4 2 rfl rfl)
theorem dX0_init_98 : decode cX0_init 98 = .ok (.aload_n 0, 1) := dk_42 (dk_at dksX0_init_4 5 rfl rfl)
theorem dX0_init_99 : decode cX0_init 99 = .ok (.getfield 10, 3) := dk_180 0 10 (dk_at dksX0_init_4 6 rfl rfl)
theorem dX0_init_102 : decode cX0_init 102 = .ok (.bipush 12, 2) := dk_16 12 (dk_at dksX0_init_4 9 rfl rfl)
theorem dX0_init_104 : decode cX0_init 104 = .ok (.invokevirtual 61, 3) := dk_182 0 61 (dk_at dksX0_init_4 11 rfl rfl)
theorem dX0_init_107 : decode cX0_init 107 = .ok (.return_, 1) := dk_177 (dk_at dksX0_init_4 14 rfl rfl)
abbrev cX0_lane : ByteArray := prog_1_method_16_code
def yX0_lane : MethodName := ⟨RX0, "lane", "(I)I"⟩
def dkwX0_lane_1 : List UInt8 := [27, 182, 0, 61, 28, 172]
abbrev dktX0_lane_1 : List UInt8 := dkwX0_lane_1 ++ []
def dkwX0_lane_0 : List UInt8 := [27, 184, 0, 94, 154, 0, 8, 42, 182, 0, 98, 172, 42, 180, 0, 10, 180, 0, 87, 61, 42, 180, 0, 10]
abbrev dktX0_lane_0 : List UInt8 := dkwX0_lane_0 ++ dktX0_lane_1
theorem dksX0_lane_0 : cX0_lane.data.toList.drop 0 = dktX0_lane_0 := by decide +kernel
theorem dksX0_lane_1 : cX0_lane.data.toList.drop 24 = dktX0_lane_1 := dk_seg dksX0_lane_0 24 rfl rfl
theorem dX0_lane_0 : decode cX0_lane 0 = .ok (.iload_n 1, 1) := dk_27 (dk_at dksX0_lane_0 0 rfl rfl)
theorem dX0_lane_1 : decode cX0_lane 1 = .ok (.invokestatic 94, 3) := dk_184 0 94 (dk_at dksX0_lane_0 1 rfl rfl)
theorem dX0_lane_4 : decode cX0_lane 4 = .ok (.ifCond .ne 8, 3) := dk_154 0 8 (dk_at dksX0_lane_0 4 rfl rfl)
theorem dX0_lane_7 : decode cX0_lane 7 = .ok (.aload_n 0, 1) := dk_42 (dk_at dksX0_lane_0 7 rfl rfl)
theorem dX0_lane_8 : decode cX0_lane 8 = .ok (.invokevirtual 98, 3) := dk_182 0 98 (dk_at dksX0_lane_0 8 rfl rfl)
theorem dX0_lane_11 : decode cX0_lane 11 = .ok (.ireturn, 1) := dk_172 (dk_at dksX0_lane_0 11 rfl rfl)
theorem dX0_lane_12 : decode cX0_lane 12 = .ok (.aload_n 0, 1) := dk_42 (dk_at dksX0_lane_0 12 rfl rfl)
theorem dX0_lane_13 : decode cX0_lane 13 = .ok (.getfield 10, 3) := dk_180 0 10 (dk_at dksX0_lane_0 13 rfl rfl)
theorem dX0_lane_16 : decode cX0_lane 16 = .ok (.getfield 87, 3) := dk_180 0 87 (dk_at dksX0_lane_0 16 rfl rfl)
theorem dX0_lane_19 : decode cX0_lane 19 = .ok (.istore_n 2, 1) := dk_61 (dk_at dksX0_lane_0 19 rfl rfl)
theorem dX0_lane_20 : decode cX0_lane 20 = .ok (.aload_n 0, 1) := dk_42 (dk_at dksX0_lane_0 20 rfl rfl)
theorem dX0_lane_21 : decode cX0_lane 21 = .ok (.getfield 10, 3) := dk_180 0 10 (dk_at dksX0_lane_0 21 rfl rfl)
theorem dX0_lane_24 : decode cX0_lane 24 = .ok (.iload_n 1, 1) := dk_27 (dk_at dksX0_lane_1 0 rfl rfl)
theorem dX0_lane_25 : decode cX0_lane 25 = .ok (.invokevirtual 61, 3) := dk_182 0 61 (dk_at dksX0_lane_1 1 rfl rfl)
theorem dX0_lane_28 : decode cX0_lane 28 = .ok (.iload_n 2, 1) := dk_28 (dk_at dksX0_lane_1 4 rfl rfl)
theorem dX0_lane_29 : decode cX0_lane 29 = .ok (.ireturn, 1) := dk_172 (dk_at dksX0_lane_1 5 rfl rfl)
abbrev cX0_isWide : ByteArray := prog_1_method_11_code
def yX0_isWide : MethodName := ⟨RX0, "isWide", "(I)Z"⟩
def dkwX0_isWide_0 : List UInt8 := [26, 133, 20, 0, 77, 20, 0, 79, 184, 0, 71, 172]
abbrev dktX0_isWide_0 : List UInt8 := dkwX0_isWide_0 ++ []
theorem dksX0_isWide_0 : cX0_isWide.data.toList.drop 0 = dktX0_isWide_0 := by decide +kernel
theorem dX0_isWide_0 : decode cX0_isWide 0 = .ok (.iload_n 0, 1) := dk_26 (dk_at dksX0_isWide_0 0 rfl rfl)
theorem dX0_isWide_1 : decode cX0_isWide 1 = .ok (.i2l, 1) := dk_133 (dk_at dksX0_isWide_0 1 rfl rfl)
theorem dX0_isWide_2 : decode cX0_isWide 2 = .ok (.ldc2_w 77, 3) := dk_20 0 77 (dk_at dksX0_isWide_0 2 rfl rfl)
theorem dX0_isWide_5 : decode cX0_isWide 5 = .ok (.ldc2_w 79, 3) := dk_20 0 79 (dk_at dksX0_isWide_0 5 rfl rfl)
theorem dX0_isWide_8 : decode cX0_isWide 8 = .ok (.invokestatic 71, 3) := dk_184 0 71 (dk_at dksX0_isWide_0 8 rfl rfl)
theorem dX0_isWide_11 : decode cX0_isWide 11 = .ok (.ireturn, 1) := dk_172 (dk_at dksX0_isWide_0 11 rfl rfl)
abbrev cX0_in : ByteArray := prog_1_method_1_code
def yX0_in : MethodName := ⟨RX0, "in", "(JJJ)Z"⟩
def dkwX0_in_0 : List UInt8 := [30, 32, 148, 155, 0, 14, 30, 22, 4, 148, 157, 0, 7, 4, 167, 0, 4, 3, 172]
abbrev dktX0_in_0 : List UInt8 := dkwX0_in_0 ++ []
theorem dksX0_in_0 : cX0_in.data.toList.drop 0 = dktX0_in_0 := by decide +kernel
theorem dX0_in_0 : decode cX0_in 0 = .ok (.lload_n 0, 1) := dk_30 (dk_at dksX0_in_0 0 rfl rfl)
theorem dX0_in_1 : decode cX0_in 1 = .ok (.lload_n 2, 1) := dk_32 (dk_at dksX0_in_0 1 rfl rfl)
theorem dX0_in_2 : decode cX0_in 2 = .ok (.lcmp, 1) := dk_148 (dk_at dksX0_in_0 2 rfl rfl)
theorem dX0_in_3 : decode cX0_in 3 = .ok (.ifCond .lt 14, 3) := dk_155 0 14 (dk_at dksX0_in_0 3 rfl rfl)
theorem dX0_in_6 : decode cX0_in 6 = .ok (.lload_n 0, 1) := dk_30 (dk_at dksX0_in_0 6 rfl rfl)
theorem dX0_in_7 : decode cX0_in 7 = .ok (.lload 4, 2) := dk_22 4 (dk_at dksX0_in_0 7 rfl rfl)
theorem dX0_in_9 : decode cX0_in 9 = .ok (.lcmp, 1) := dk_148 (dk_at dksX0_in_0 9 rfl rfl)
theorem dX0_in_10 : decode cX0_in 10 = .ok (.ifCond .gt 7, 3) := dk_157 0 7 (dk_at dksX0_in_0 10 rfl rfl)
theorem dX0_in_13 : decode cX0_in 13 = .ok (.iconst 1, 1) := dk_4 (dk_at dksX0_in_0 13 rfl rfl)
theorem dX0_in_14 : decode cX0_in 14 = .ok (.goto 4, 3) := dk_167 0 4 (dk_at dksX0_in_0 14 rfl rfl)
theorem dX0_in_17 : decode cX0_in 17 = .ok (.iconst 0, 1) := dk_3 (dk_at dksX0_in_0 17 rfl rfl)
theorem dX0_in_18 : decode cX0_in 18 = .ok (.ireturn, 1) := dk_172 (dk_at dksX0_in_0 18 rfl rfl)
abbrev cX0_bad : ByteArray := prog_1_method_4_code
def yX0_bad : MethodName := ⟨RX0, "bad", "()I"⟩
def dkwX0_bad_0 : List UInt8 := [42, 3, 16, 254, 182, 0, 65, 172]
abbrev dktX0_bad_0 : List UInt8 := dkwX0_bad_0 ++ []
theorem dksX0_bad_0 : cX0_bad.data.toList.drop 0 = dktX0_bad_0 := by decide +kernel
theorem dX0_bad_0 : decode cX0_bad 0 = .ok (.aload_n 0, 1) := dk_42 (dk_at dksX0_bad_0 0 rfl rfl)
theorem dX0_bad_1 : decode cX0_bad 1 = .ok (.iconst 0, 1) := dk_3 (dk_at dksX0_bad_0 1 rfl rfl)
theorem dX0_bad_2 : decode cX0_bad 2 = .ok (.bipush (-2), 2) := dk_16 254 (dk_at dksX0_bad_0 2 rfl rfl)
theorem dX0_bad_4 : decode cX0_bad 4 = .ok (.invokevirtual 65, 3) := dk_182 0 65 (dk_at dksX0_bad_0 4 rfl rfl)
theorem dX0_bad_7 : decode cX0_bad 7 = .ok (.ireturn, 1) := dk_172 (dk_at dksX0_bad_0 7 rfl rfl)
abbrev cX0_refuses : ByteArray := prog_1_method_3_code
def yX0_refuses : MethodName := ⟨RX0, "refuses", "(II)I"⟩
def dkwX0_refuses_0 : List UInt8 := [42, 180, 0, 34, 27, 92, 46, 4, 96, 79, 28, 172]
abbrev dktX0_refuses_0 : List UInt8 := dkwX0_refuses_0 ++ []
theorem dksX0_refuses_0 : cX0_refuses.data.toList.drop 0 = dktX0_refuses_0 := by decide +kernel
theorem dX0_refuses_0 : decode cX0_refuses 0 = .ok (.aload_n 0, 1) := dk_42 (dk_at dksX0_refuses_0 0 rfl rfl)
theorem dX0_refuses_1 : decode cX0_refuses 1 = .ok (.getfield 34, 3) := dk_180 0 34 (dk_at dksX0_refuses_0 1 rfl rfl)
theorem dX0_refuses_4 : decode cX0_refuses 4 = .ok (.iload_n 1, 1) := dk_27 (dk_at dksX0_refuses_0 4 rfl rfl)
theorem dX0_refuses_5 : decode cX0_refuses 5 = .ok (.dup2, 1) := dk_92 (dk_at dksX0_refuses_0 5 rfl rfl)
theorem dX0_refuses_6 : decode cX0_refuses 6 = .ok (.iaload, 1) := dk_46 (dk_at dksX0_refuses_0 6 rfl rfl)
theorem dX0_refuses_7 : decode cX0_refuses 7 = .ok (.iconst 1, 1) := dk_4 (dk_at dksX0_refuses_0 7 rfl rfl)
theorem dX0_refuses_8 : decode cX0_refuses 8 = .ok (.iadd, 1) := dk_96 (dk_at dksX0_refuses_0 8 rfl rfl)
theorem dX0_refuses_9 : decode cX0_refuses 9 = .ok (.iastore, 1) := dk_79 (dk_at dksX0_refuses_0 9 rfl rfl)
theorem dX0_refuses_10 : decode cX0_refuses 10 = .ok (.iload_n 2, 1) := dk_28 (dk_at dksX0_refuses_0 10 rfl rfl)
theorem dX0_refuses_11 : decode cX0_refuses 11 = .ok (.ireturn, 1) := dk_172 (dk_at dksX0_refuses_0 11 rfl rfl)
abbrev cX0_wide : ByteArray := prog_1_method_17_code
def yX0_wide : MethodName := ⟨RX0, "wide", "(I)I"⟩
def dkwX0_wide_1 : List UInt8 := [27, 181, 0, 102, 42, 180, 0, 10, 3, 181, 0, 105, 28, 172]
abbrev dktX0_wide_1 : List UInt8 := dkwX0_wide_1 ++ []
def dkwX0_wide_0 : List UInt8 := [27, 184, 0, 94, 154, 0, 8, 42, 182, 0, 98, 172, 42, 180, 0, 10, 180, 0, 102, 61, 42, 180, 0, 10]
abbrev dktX0_wide_0 : List UInt8 := dkwX0_wide_0 ++ dktX0_wide_1
theorem dksX0_wide_0 : cX0_wide.data.toList.drop 0 = dktX0_wide_0 := by decide +kernel
theorem dksX0_wide_1 : cX0_wide.data.toList.drop 24 = dktX0_wide_1 := dk_seg dksX0_wide_0 24 rfl rfl
theorem dX0_wide_0 : decode cX0_wide 0 = .ok (.iload_n 1, 1) := dk_27 (dk_at dksX0_wide_0 0 rfl rfl)
theorem dX0_wide_1 : decode cX0_wide 1 = .ok (.invokestatic 94, 3) := dk_184 0 94 (dk_at dksX0_wide_0 1 rfl rfl)
theorem dX0_wide_4 : decode cX0_wide 4 = .ok (.ifCond .ne 8, 3) := dk_154 0 8 (dk_at dksX0_wide_0 4 rfl rfl)
theorem dX0_wide_7 : decode cX0_wide 7 = .ok (.aload_n 0, 1) := dk_42 (dk_at dksX0_wide_0 7 rfl rfl)
theorem dX0_wide_8 : decode cX0_wide 8 = .ok (.invokevirtual 98, 3) := dk_182 0 98 (dk_at dksX0_wide_0 8 rfl rfl)
theorem dX0_wide_11 : decode cX0_wide 11 = .ok (.ireturn, 1) := dk_172 (dk_at dksX0_wide_0 11 rfl rfl)
theorem dX0_wide_12 : decode cX0_wide 12 = .ok (.aload_n 0, 1) := dk_42 (dk_at dksX0_wide_0 12 rfl rfl)
theorem dX0_wide_13 : decode cX0_wide 13 = .ok (.getfield 10, 3) := dk_180 0 10 (dk_at dksX0_wide_0 13 rfl rfl)
theorem dX0_wide_16 : decode cX0_wide 16 = .ok (.getfield 102, 3) := dk_180 0 102 (dk_at dksX0_wide_0 16 rfl rfl)
theorem dX0_wide_19 : decode cX0_wide 19 = .ok (.istore_n 2, 1) := dk_61 (dk_at dksX0_wide_0 19 rfl rfl)
theorem dX0_wide_20 : decode cX0_wide 20 = .ok (.aload_n 0, 1) := dk_42 (dk_at dksX0_wide_0 20 rfl rfl)
theorem dX0_wide_21 : decode cX0_wide 21 = .ok (.getfield 10, 3) := dk_180 0 10 (dk_at dksX0_wide_0 21 rfl rfl)
theorem dX0_wide_24 : decode cX0_wide 24 = .ok (.iload_n 1, 1) := dk_27 (dk_at dksX0_wide_1 0 rfl rfl)
theorem dX0_wide_25 : decode cX0_wide 25 = .ok (.putfield 102, 3) := dk_181 0 102 (dk_at dksX0_wide_1 1 rfl rfl)
theorem dX0_wide_28 : decode cX0_wide 28 = .ok (.aload_n 0, 1) := dk_42 (dk_at dksX0_wide_1 4 rfl rfl)
theorem dX0_wide_29 : decode cX0_wide 29 = .ok (.getfield 10, 3) := dk_180 0 10 (dk_at dksX0_wide_1 5 rfl rfl)
theorem dX0_wide_32 : decode cX0_wide 32 = .ok (.iconst 0, 1) := dk_3 (dk_at dksX0_wide_1 8 rfl rfl)
theorem dX0_wide_33 : decode cX0_wide 33 = .ok (.putfield 105, 3) := dk_181 0 105 (dk_at dksX0_wide_1 9 rfl rfl)
theorem dX0_wide_36 : decode cX0_wide 36 = .ok (.iload_n 2, 1) := dk_28 (dk_at dksX0_wide_1 12 rfl rfl)
theorem dX0_wide_37 : decode cX0_wide 37 = .ok (.ireturn, 1) := dk_172 (dk_at dksX0_wide_1 13 rfl rfl)
abbrev cX0_one : ByteArray := prog_1_method_18_code
def yX0_one : MethodName := ⟨RX0, "one", "(III)I"⟩
def dkwX0_one_2 : List UInt8 := [180, 0, 10, 27, 28, 29, 182, 0, 120, 42, 180, 0, 10, 180, 0, 87, 4, 100, 172]
abbrev dktX0_one_2 : List UInt8 := dkwX0_one_2 ++ []
def dkwX0_one_1 : List UInt8 := [182, 0, 98, 172, 42, 180, 0, 10, 180, 0, 87, 16, 7, 160, 0, 8, 42, 182, 0, 117, 172, 42]
abbrev dktX0_one_1 : List UInt8 := dkwX0_one_1 ++ dktX0_one_2
def dkwX0_one_0 : List UInt8 := [27, 184, 0, 108, 153, 0, 17, 28, 184, 0, 111, 153, 0, 10, 29, 184, 0, 114, 154, 0, 8, 42]
abbrev dktX0_one_0 : List UInt8 := dkwX0_one_0 ++ dktX0_one_1
theorem dksX0_one_0 : cX0_one.data.toList.drop 0 = dktX0_one_0 := by decide +kernel
theorem dksX0_one_1 : cX0_one.data.toList.drop 22 = dktX0_one_1 := dk_seg dksX0_one_0 22 rfl rfl
theorem dksX0_one_2 : cX0_one.data.toList.drop 44 = dktX0_one_2 := dk_seg dksX0_one_1 22 rfl rfl
theorem dX0_one_0 : decode cX0_one 0 = .ok (.iload_n 1, 1) := dk_27 (dk_at dksX0_one_0 0 rfl rfl)
theorem dX0_one_1 : decode cX0_one 1 = .ok (.invokestatic 108, 3) := dk_184 0 108 (dk_at dksX0_one_0 1 rfl rfl)
theorem dX0_one_4 : decode cX0_one 4 = .ok (.ifCond .eq 17, 3) := dk_153 0 17 (dk_at dksX0_one_0 4 rfl rfl)
theorem dX0_one_7 : decode cX0_one 7 = .ok (.iload_n 2, 1) := dk_28 (dk_at dksX0_one_0 7 rfl rfl)
theorem dX0_one_8 : decode cX0_one 8 = .ok (.invokestatic 111, 3) := dk_184 0 111 (dk_at dksX0_one_0 8 rfl rfl)
theorem dX0_one_11 : decode cX0_one 11 = .ok (.ifCond .eq 10, 3) := dk_153 0 10 (dk_at dksX0_one_0 11 rfl rfl)
theorem dX0_one_14 : decode cX0_one 14 = .ok (.iload_n 3, 1) := dk_29 (dk_at dksX0_one_0 14 rfl rfl)
theorem dX0_one_15 : decode cX0_one 15 = .ok (.invokestatic 114, 3) := dk_184 0 114 (dk_at dksX0_one_0 15 rfl rfl)
theorem dX0_one_18 : decode cX0_one 18 = .ok (.ifCond .ne 8, 3) := dk_154 0 8 (dk_at dksX0_one_0 18 rfl rfl)
theorem dX0_one_21 : decode cX0_one 21 = .ok (.aload_n 0, 1) := dk_42 (dk_at dksX0_one_0 21 rfl rfl)
theorem dX0_one_22 : decode cX0_one 22 = .ok (.invokevirtual 98, 3) := dk_182 0 98 (dk_at dksX0_one_1 0 rfl rfl)
theorem dX0_one_25 : decode cX0_one 25 = .ok (.ireturn, 1) := dk_172 (dk_at dksX0_one_1 3 rfl rfl)
theorem dX0_one_26 : decode cX0_one 26 = .ok (.aload_n 0, 1) := dk_42 (dk_at dksX0_one_1 4 rfl rfl)
theorem dX0_one_27 : decode cX0_one 27 = .ok (.getfield 10, 3) := dk_180 0 10 (dk_at dksX0_one_1 5 rfl rfl)
theorem dX0_one_30 : decode cX0_one 30 = .ok (.getfield 87, 3) := dk_180 0 87 (dk_at dksX0_one_1 8 rfl rfl)
theorem dX0_one_33 : decode cX0_one 33 = .ok (.bipush 7, 2) := dk_16 7 (dk_at dksX0_one_1 11 rfl rfl)
theorem dX0_one_35 : decode cX0_one 35 = .ok (.if_icmp .ne 8, 3) := dk_160 0 8 (dk_at dksX0_one_1 13 rfl rfl)
theorem dX0_one_38 : decode cX0_one 38 = .ok (.aload_n 0, 1) := dk_42 (dk_at dksX0_one_1 16 rfl rfl)
theorem dX0_one_39 : decode cX0_one 39 = .ok (.invokevirtual 117, 3) := dk_182 0 117 (dk_at dksX0_one_1 17 rfl rfl)
theorem dX0_one_42 : decode cX0_one 42 = .ok (.ireturn, 1) := dk_172 (dk_at dksX0_one_1 20 rfl rfl)
theorem dX0_one_43 : decode cX0_one 43 = .ok (.aload_n 0, 1) := dk_42 (dk_at dksX0_one_1 21 rfl rfl)
theorem dX0_one_44 : decode cX0_one 44 = .ok (.getfield 10, 3) := dk_180 0 10 (dk_at dksX0_one_2 0 rfl rfl)
theorem dX0_one_47 : decode cX0_one 47 = .ok (.iload_n 1, 1) := dk_27 (dk_at dksX0_one_2 3 rfl rfl)
theorem dX0_one_48 : decode cX0_one 48 = .ok (.iload_n 2, 1) := dk_28 (dk_at dksX0_one_2 4 rfl rfl)
theorem dX0_one_49 : decode cX0_one 49 = .ok (.iload_n 3, 1) := dk_29 (dk_at dksX0_one_2 5 rfl rfl)
theorem dX0_one_50 : decode cX0_one 50 = .ok (.invokevirtual 120, 3) := dk_182 0 120 (dk_at dksX0_one_2 6 rfl rfl)
theorem dX0_one_53 : decode cX0_one 53 = .ok (.aload_n 0, 1) := dk_42 (dk_at dksX0_one_2 9 rfl rfl)
theorem dX0_one_54 : decode cX0_one 54 = .ok (.getfield 10, 3) := dk_180 0 10 (dk_at dksX0_one_2 10 rfl rfl)
theorem dX0_one_57 : decode cX0_one 57 = .ok (.getfield 87, 3) := dk_180 0 87 (dk_at dksX0_one_2 13 rfl rfl)
theorem dX0_one_60 : decode cX0_one 60 = .ok (.iconst 1, 1) := dk_4 (dk_at dksX0_one_2 16 rfl rfl)
theorem dX0_one_61 : decode cX0_one 61 = .ok (.isub, 1) := dk_100 (dk_at dksX0_one_2 17 rfl rfl)
theorem dX0_one_62 : decode cX0_one 62 = .ok (.ireturn, 1) := dk_172 (dk_at dksX0_one_2 18 rfl rfl)
abbrev cX0_isKind : ByteArray := prog_1_method_8_code
def yX0_isKind : MethodName := ⟨RX0, "isKind", "(I)Z"⟩
def dkwX0_isKind_0 : List UInt8 := [26, 133, 9, 20, 0, 69, 184, 0, 71, 172]
abbrev dktX0_isKind_0 : List UInt8 := dkwX0_isKind_0 ++ []
theorem dksX0_isKind_0 : cX0_isKind.data.toList.drop 0 = dktX0_isKind_0 := by decide +kernel
theorem dX0_isKind_0 : decode cX0_isKind 0 = .ok (.iload_n 0, 1) := dk_26 (dk_at dksX0_isKind_0 0 rfl rfl)
theorem dX0_isKind_1 : decode cX0_isKind 1 = .ok (.i2l, 1) := dk_133 (dk_at dksX0_isKind_0 1 rfl rfl)
theorem dX0_isKind_2 : decode cX0_isKind 2 = .ok (.lconst 0, 1) := dk_9 (dk_at dksX0_isKind_0 2 rfl rfl)
theorem dX0_isKind_3 : decode cX0_isKind 3 = .ok (.ldc2_w 69, 3) := dk_20 0 69 (dk_at dksX0_isKind_0 3 rfl rfl)
theorem dX0_isKind_6 : decode cX0_isKind 6 = .ok (.invokestatic 71, 3) := dk_184 0 71 (dk_at dksX0_isKind_0 6 rfl rfl)
theorem dX0_isKind_9 : decode cX0_isKind 9 = .ok (.ireturn, 1) := dk_172 (dk_at dksX0_isKind_0 9 rfl rfl)
abbrev cX0_isHouse : ByteArray := prog_1_method_9_code
def yX0_isHouse : MethodName := ⟨RX0, "isHouse", "(I)Z"⟩
def dkwX0_isHouse_0 : List UInt8 := [26, 133, 9, 10, 184, 0, 71, 172]
abbrev dktX0_isHouse_0 : List UInt8 := dkwX0_isHouse_0 ++ []
theorem dksX0_isHouse_0 : cX0_isHouse.data.toList.drop 0 = dktX0_isHouse_0 := by decide +kernel
theorem dX0_isHouse_0 : decode cX0_isHouse 0 = .ok (.iload_n 0, 1) := dk_26 (dk_at dksX0_isHouse_0 0 rfl rfl)
theorem dX0_isHouse_1 : decode cX0_isHouse 1 = .ok (.i2l, 1) := dk_133 (dk_at dksX0_isHouse_0 1 rfl rfl)
theorem dX0_isHouse_2 : decode cX0_isHouse 2 = .ok (.lconst 0, 1) := dk_9 (dk_at dksX0_isHouse_0 2 rfl rfl)
theorem dX0_isHouse_3 : decode cX0_isHouse 3 = .ok (.lconst 1, 1) := dk_10 (dk_at dksX0_isHouse_0 3 rfl rfl)
theorem dX0_isHouse_4 : decode cX0_isHouse 4 = .ok (.invokestatic 71, 3) := dk_184 0 71 (dk_at dksX0_isHouse_0 4 rfl rfl)
theorem dX0_isHouse_7 : decode cX0_isHouse 7 = .ok (.ireturn, 1) := dk_172 (dk_at dksX0_isHouse_0 7 rfl rfl)
abbrev cX0_isSwing : ByteArray := prog_1_method_10_code
def yX0_isSwing : MethodName := ⟨RX0, "isSwing", "(I)Z"⟩
def dkwX0_isSwing_0 : List UInt8 := [26, 133, 9, 20, 0, 75, 184, 0, 71, 172]
abbrev dktX0_isSwing_0 : List UInt8 := dkwX0_isSwing_0 ++ []
theorem dksX0_isSwing_0 : cX0_isSwing.data.toList.drop 0 = dktX0_isSwing_0 := by decide +kernel
theorem dX0_isSwing_0 : decode cX0_isSwing 0 = .ok (.iload_n 0, 1) := dk_26 (dk_at dksX0_isSwing_0 0 rfl rfl)
theorem dX0_isSwing_1 : decode cX0_isSwing 1 = .ok (.i2l, 1) := dk_133 (dk_at dksX0_isSwing_0 1 rfl rfl)
theorem dX0_isSwing_2 : decode cX0_isSwing 2 = .ok (.lconst 0, 1) := dk_9 (dk_at dksX0_isSwing_0 2 rfl rfl)
theorem dX0_isSwing_3 : decode cX0_isSwing 3 = .ok (.ldc2_w 75, 3) := dk_20 0 75 (dk_at dksX0_isSwing_0 3 rfl rfl)
theorem dX0_isSwing_6 : decode cX0_isSwing 6 = .ok (.invokestatic 71, 3) := dk_184 0 71 (dk_at dksX0_isSwing_0 6 rfl rfl)
theorem dX0_isSwing_9 : decode cX0_isSwing 9 = .ok (.ireturn, 1) := dk_172 (dk_at dksX0_isSwing_0 9 rfl rfl)
abbrev cX0_full : ByteArray := prog_1_method_6_code
def yX0_full : MethodName := ⟨RX0, "full", "()I"⟩
def dkwX0_full_0 : List UInt8 := [42, 5, 16, 252, 182, 0, 65, 172]
abbrev dktX0_full_0 : List UInt8 := dkwX0_full_0 ++ []
theorem dksX0_full_0 : cX0_full.data.toList.drop 0 = dktX0_full_0 := by decide +kernel
theorem dX0_full_0 : decode cX0_full 0 = .ok (.aload_n 0, 1) := dk_42 (dk_at dksX0_full_0 0 rfl rfl)
theorem dX0_full_1 : decode cX0_full 1 = .ok (.iconst 2, 1) := dk_5 (dk_at dksX0_full_0 1 rfl rfl)
theorem dX0_full_2 : decode cX0_full 2 = .ok (.bipush (-4), 2) := dk_16 252 (dk_at dksX0_full_0 2 rfl rfl)
theorem dX0_full_4 : decode cX0_full 4 = .ok (.invokevirtual 65, 3) := dk_182 0 65 (dk_at dksX0_full_0 4 rfl rfl)
theorem dX0_full_7 : decode cX0_full 7 = .ok (.ireturn, 1) := dk_172 (dk_at dksX0_full_0 7 rfl rfl)
abbrev cX0_aunt : ByteArray := prog_1_method_19_code
def yX0_aunt : MethodName := ⟨RX0, "aunt", "(II)I"⟩
def dkwX0_aunt_2 : List UInt8 := [180, 0, 10, 180, 0, 91, 4, 100, 172]
abbrev dktX0_aunt_2 : List UInt8 := dkwX0_aunt_2 ++ []
def dkwX0_aunt_1 : List UInt8 := [180, 0, 91, 7, 160, 0, 8, 42, 182, 0, 117, 172, 42, 180, 0, 10, 27, 28, 182, 0, 124, 42]
abbrev dktX0_aunt_1 : List UInt8 := dkwX0_aunt_1 ++ dktX0_aunt_2
def dkwX0_aunt_0 : List UInt8 := [27, 184, 0, 108, 153, 0, 10, 28, 184, 0, 111, 154, 0, 8, 42, 182, 0, 98, 172, 42, 180, 0, 10]
abbrev dktX0_aunt_0 : List UInt8 := dkwX0_aunt_0 ++ dktX0_aunt_1
theorem dksX0_aunt_0 : cX0_aunt.data.toList.drop 0 = dktX0_aunt_0 := by decide +kernel
theorem dksX0_aunt_1 : cX0_aunt.data.toList.drop 23 = dktX0_aunt_1 := dk_seg dksX0_aunt_0 23 rfl rfl
theorem dksX0_aunt_2 : cX0_aunt.data.toList.drop 45 = dktX0_aunt_2 := dk_seg dksX0_aunt_1 22 rfl rfl
theorem dX0_aunt_0 : decode cX0_aunt 0 = .ok (.iload_n 1, 1) := dk_27 (dk_at dksX0_aunt_0 0 rfl rfl)
theorem dX0_aunt_1 : decode cX0_aunt 1 = .ok (.invokestatic 108, 3) := dk_184 0 108 (dk_at dksX0_aunt_0 1 rfl rfl)
theorem dX0_aunt_4 : decode cX0_aunt 4 = .ok (.ifCond .eq 10, 3) := dk_153 0 10 (dk_at dksX0_aunt_0 4 rfl rfl)
theorem dX0_aunt_7 : decode cX0_aunt 7 = .ok (.iload_n 2, 1) := dk_28 (dk_at dksX0_aunt_0 7 rfl rfl)
theorem dX0_aunt_8 : decode cX0_aunt 8 = .ok (.invokestatic 111, 3) := dk_184 0 111 (dk_at dksX0_aunt_0 8 rfl rfl)
theorem dX0_aunt_11 : decode cX0_aunt 11 = .ok (.ifCond .ne 8, 3) := dk_154 0 8 (dk_at dksX0_aunt_0 11 rfl rfl)
theorem dX0_aunt_14 : decode cX0_aunt 14 = .ok (.aload_n 0, 1) := dk_42 (dk_at dksX0_aunt_0 14 rfl rfl)
theorem dX0_aunt_15 : decode cX0_aunt 15 = .ok (.invokevirtual 98, 3) := dk_182 0 98 (dk_at dksX0_aunt_0 15 rfl rfl)
theorem dX0_aunt_18 : decode cX0_aunt 18 = .ok (.ireturn, 1) := dk_172 (dk_at dksX0_aunt_0 18 rfl rfl)
theorem dX0_aunt_19 : decode cX0_aunt 19 = .ok (.aload_n 0, 1) := dk_42 (dk_at dksX0_aunt_0 19 rfl rfl)
theorem dX0_aunt_20 : decode cX0_aunt 20 = .ok (.getfield 10, 3) := dk_180 0 10 (dk_at dksX0_aunt_0 20 rfl rfl)
theorem dX0_aunt_23 : decode cX0_aunt 23 = .ok (.getfield 91, 3) := dk_180 0 91 (dk_at dksX0_aunt_1 0 rfl rfl)
theorem dX0_aunt_26 : decode cX0_aunt 26 = .ok (.iconst 4, 1) := dk_7 (dk_at dksX0_aunt_1 3 rfl rfl)
theorem dX0_aunt_27 : decode cX0_aunt 27 = .ok (.if_icmp .ne 8, 3) := dk_160 0 8 (dk_at dksX0_aunt_1 4 rfl rfl)
theorem dX0_aunt_30 : decode cX0_aunt 30 = .ok (.aload_n 0, 1) := dk_42 (dk_at dksX0_aunt_1 7 rfl rfl)
theorem dX0_aunt_31 : decode cX0_aunt 31 = .ok (.invokevirtual 117, 3) := dk_182 0 117 (dk_at dksX0_aunt_1 8 rfl rfl)
theorem dX0_aunt_34 : decode cX0_aunt 34 = .ok (.ireturn, 1) := dk_172 (dk_at dksX0_aunt_1 11 rfl rfl)
theorem dX0_aunt_35 : decode cX0_aunt 35 = .ok (.aload_n 0, 1) := dk_42 (dk_at dksX0_aunt_1 12 rfl rfl)
theorem dX0_aunt_36 : decode cX0_aunt 36 = .ok (.getfield 10, 3) := dk_180 0 10 (dk_at dksX0_aunt_1 13 rfl rfl)
theorem dX0_aunt_39 : decode cX0_aunt 39 = .ok (.iload_n 1, 1) := dk_27 (dk_at dksX0_aunt_1 16 rfl rfl)
theorem dX0_aunt_40 : decode cX0_aunt 40 = .ok (.iload_n 2, 1) := dk_28 (dk_at dksX0_aunt_1 17 rfl rfl)
theorem dX0_aunt_41 : decode cX0_aunt 41 = .ok (.invokevirtual 124, 3) := dk_182 0 124 (dk_at dksX0_aunt_1 18 rfl rfl)
theorem dX0_aunt_44 : decode cX0_aunt 44 = .ok (.aload_n 0, 1) := dk_42 (dk_at dksX0_aunt_1 21 rfl rfl)
theorem dX0_aunt_45 : decode cX0_aunt 45 = .ok (.getfield 10, 3) := dk_180 0 10 (dk_at dksX0_aunt_2 0 rfl rfl)
theorem dX0_aunt_48 : decode cX0_aunt 48 = .ok (.getfield 91, 3) := dk_180 0 91 (dk_at dksX0_aunt_2 3 rfl rfl)
theorem dX0_aunt_51 : decode cX0_aunt 51 = .ok (.iconst 1, 1) := dk_4 (dk_at dksX0_aunt_2 6 rfl rfl)
theorem dX0_aunt_52 : decode cX0_aunt 52 = .ok (.isub, 1) := dk_100 (dk_at dksX0_aunt_2 7 rfl rfl)
theorem dX0_aunt_53 : decode cX0_aunt 53 = .ok (.ireturn, 1) := dk_172 (dk_at dksX0_aunt_2 8 rfl rfl)
abbrev cX0_type : ByteArray := prog_1_method_20_code
def yX0_type : MethodName := ⟨RX0, "type", "(I)I"⟩
def dkwX0_type_2 : List UInt8 := [4, 96, 181, 0, 130, 42, 180, 0, 130, 172]
abbrev dktX0_type_2 : List UInt8 := dkwX0_type_2 ++ []
def dkwX0_type_1 : List UInt8 := [160, 0, 8, 42, 182, 0, 117, 172, 42, 180, 0, 30, 42, 180, 0, 130, 27, 145, 84, 42, 89, 180, 0, 130]
abbrev dktX0_type_1 : List UInt8 := dkwX0_type_1 ++ dktX0_type_2
def dkwX0_type_0 : List UInt8 := [27, 133, 9, 20, 0, 128, 184, 0, 71, 154, 0, 8, 42, 182, 0, 98, 172, 42, 180, 0, 130, 17, 0, 150]
abbrev dktX0_type_0 : List UInt8 := dkwX0_type_0 ++ dktX0_type_1
theorem dksX0_type_0 : cX0_type.data.toList.drop 0 = dktX0_type_0 := by decide +kernel
theorem dksX0_type_1 : cX0_type.data.toList.drop 24 = dktX0_type_1 := dk_seg dksX0_type_0 24 rfl rfl
theorem dksX0_type_2 : cX0_type.data.toList.drop 48 = dktX0_type_2 := dk_seg dksX0_type_1 24 rfl rfl
theorem dX0_type_0 : decode cX0_type 0 = .ok (.iload_n 1, 1) := dk_27 (dk_at dksX0_type_0 0 rfl rfl)
theorem dX0_type_1 : decode cX0_type 1 = .ok (.i2l, 1) := dk_133 (dk_at dksX0_type_0 1 rfl rfl)
theorem dX0_type_2 : decode cX0_type 2 = .ok (.lconst 0, 1) := dk_9 (dk_at dksX0_type_0 2 rfl rfl)
theorem dX0_type_3 : decode cX0_type 3 = .ok (.ldc2_w 128, 3) := dk_20 0 128 (dk_at dksX0_type_0 3 rfl rfl)
theorem dX0_type_6 : decode cX0_type 6 = .ok (.invokestatic 71, 3) := dk_184 0 71 (dk_at dksX0_type_0 6 rfl rfl)
theorem dX0_type_9 : decode cX0_type 9 = .ok (.ifCond .ne 8, 3) := dk_154 0 8 (dk_at dksX0_type_0 9 rfl rfl)
theorem dX0_type_12 : decode cX0_type 12 = .ok (.aload_n 0, 1) := dk_42 (dk_at dksX0_type_0 12 rfl rfl)
theorem dX0_type_13 : decode cX0_type 13 = .ok (.invokevirtual 98, 3) := dk_182 0 98 (dk_at dksX0_type_0 13 rfl rfl)
theorem dX0_type_16 : decode cX0_type 16 = .ok (.ireturn, 1) := dk_172 (dk_at dksX0_type_0 16 rfl rfl)
theorem dX0_type_17 : decode cX0_type 17 = .ok (.aload_n 0, 1) := dk_42 (dk_at dksX0_type_0 17 rfl rfl)
theorem dX0_type_18 : decode cX0_type 18 = .ok (.getfield 130, 3) := dk_180 0 130 (dk_at dksX0_type_0 18 rfl rfl)
theorem dX0_type_21 : decode cX0_type 21 = .ok (.sipush 150, 3) := dk_17 0 150 (dk_at dksX0_type_0 21 rfl rfl)
theorem dX0_type_24 : decode cX0_type 24 = .ok (.if_icmp .ne 8, 3) := dk_160 0 8 (dk_at dksX0_type_1 0 rfl rfl)
theorem dX0_type_27 : decode cX0_type 27 = .ok (.aload_n 0, 1) := dk_42 (dk_at dksX0_type_1 3 rfl rfl)
theorem dX0_type_28 : decode cX0_type 28 = .ok (.invokevirtual 117, 3) := dk_182 0 117 (dk_at dksX0_type_1 4 rfl rfl)
theorem dX0_type_31 : decode cX0_type 31 = .ok (.ireturn, 1) := dk_172 (dk_at dksX0_type_1 7 rfl rfl)
theorem dX0_type_32 : decode cX0_type 32 = .ok (.aload_n 0, 1) := dk_42 (dk_at dksX0_type_1 8 rfl rfl)
theorem dX0_type_33 : decode cX0_type 33 = .ok (.getfield 30, 3) := dk_180 0 30 (dk_at dksX0_type_1 9 rfl rfl)
theorem dX0_type_36 : decode cX0_type 36 = .ok (.aload_n 0, 1) := dk_42 (dk_at dksX0_type_1 12 rfl rfl)
theorem dX0_type_37 : decode cX0_type 37 = .ok (.getfield 130, 3) := dk_180 0 130 (dk_at dksX0_type_1 13 rfl rfl)
theorem dX0_type_40 : decode cX0_type 40 = .ok (.iload_n 1, 1) := dk_27 (dk_at dksX0_type_1 16 rfl rfl)
theorem dX0_type_41 : decode cX0_type 41 = .ok (.i2b, 1) := dk_145 (dk_at dksX0_type_1 17 rfl rfl)
theorem dX0_type_42 : decode cX0_type 42 = .ok (.bastore, 1) := dk_84 (dk_at dksX0_type_1 18 rfl rfl)
theorem dX0_type_43 : decode cX0_type 43 = .ok (.aload_n 0, 1) := dk_42 (dk_at dksX0_type_1 19 rfl rfl)
theorem dX0_type_44 : decode cX0_type 44 = .ok (.dup, 1) := dk_89 (dk_at dksX0_type_1 20 rfl rfl)
theorem dX0_type_45 : decode cX0_type 45 = .ok (.getfield 130, 3) := dk_180 0 130 (dk_at dksX0_type_1 21 rfl rfl)
theorem dX0_type_48 : decode cX0_type 48 = .ok (.iconst 1, 1) := dk_4 (dk_at dksX0_type_2 0 rfl rfl)
theorem dX0_type_49 : decode cX0_type 49 = .ok (.iadd, 1) := dk_96 (dk_at dksX0_type_2 1 rfl rfl)
theorem dX0_type_50 : decode cX0_type 50 = .ok (.putfield 130, 3) := dk_181 0 130 (dk_at dksX0_type_2 2 rfl rfl)
theorem dX0_type_53 : decode cX0_type 53 = .ok (.aload_n 0, 1) := dk_42 (dk_at dksX0_type_2 5 rfl rfl)
theorem dX0_type_54 : decode cX0_type 54 = .ok (.getfield 130, 3) := dk_180 0 130 (dk_at dksX0_type_2 6 rfl rfl)
theorem dX0_type_57 : decode cX0_type 57 = .ok (.ireturn, 1) := dk_172 (dk_at dksX0_type_2 9 rfl rfl)
abbrev cX0_clear : ByteArray := prog_1_method_21_code
def yX0_clear : MethodName := ⟨RX0, "clear", "()I"⟩
def dkwX0_clear_0 : List UInt8 := [42, 180, 0, 130, 60, 42, 3, 181, 0, 130, 27, 172]
abbrev dktX0_clear_0 : List UInt8 := dkwX0_clear_0 ++ []
theorem dksX0_clear_0 : cX0_clear.data.toList.drop 0 = dktX0_clear_0 := by decide +kernel
theorem dX0_clear_0 : decode cX0_clear 0 = .ok (.aload_n 0, 1) := dk_42 (dk_at dksX0_clear_0 0 rfl rfl)
theorem dX0_clear_1 : decode cX0_clear 1 = .ok (.getfield 130, 3) := dk_180 0 130 (dk_at dksX0_clear_0 1 rfl rfl)
theorem dX0_clear_4 : decode cX0_clear 4 = .ok (.istore_n 1, 1) := dk_60 (dk_at dksX0_clear_0 4 rfl rfl)
theorem dX0_clear_5 : decode cX0_clear 5 = .ok (.aload_n 0, 1) := dk_42 (dk_at dksX0_clear_0 5 rfl rfl)
theorem dX0_clear_6 : decode cX0_clear 6 = .ok (.iconst 0, 1) := dk_3 (dk_at dksX0_clear_0 6 rfl rfl)
theorem dX0_clear_7 : decode cX0_clear 7 = .ok (.putfield 130, 3) := dk_181 0 130 (dk_at dksX0_clear_0 7 rfl rfl)
theorem dX0_clear_10 : decode cX0_clear 10 = .ok (.iload_n 1, 1) := dk_27 (dk_at dksX0_clear_0 10 rfl rfl)
theorem dX0_clear_11 : decode cX0_clear 11 = .ok (.ireturn, 1) := dk_172 (dk_at dksX0_clear_0 11 rfl rfl)
abbrev cX0_read : ByteArray := prog_1_method_22_code
def yX0_read : MethodName := ⟨RX0, "read", "()I"⟩
def dkwX0_read_1 : List UInt8 := [43, 180, 0, 142, 100, 172]
abbrev dktX0_read_1 : List UInt8 := dkwX0_read_1 ++ []
def dkwX0_read_0 : List UInt8 := [42, 180, 0, 47, 182, 0, 133, 60, 42, 180, 0, 10, 42, 180, 0, 16, 182, 0, 136, 27, 172, 76, 16, 246]
abbrev dktX0_read_0 : List UInt8 := dkwX0_read_0 ++ dktX0_read_1
theorem dksX0_read_0 : cX0_read.data.toList.drop 0 = dktX0_read_0 := by decide +kernel
theorem dksX0_read_1 : cX0_read.data.toList.drop 24 = dktX0_read_1 := dk_seg dksX0_read_0 24 rfl rfl
theorem dX0_read_0 : decode cX0_read 0 = .ok (.aload_n 0, 1) := dk_42 (dk_at dksX0_read_0 0 rfl rfl)
theorem dX0_read_1 : decode cX0_read 1 = .ok (.getfield 47, 3) := dk_180 0 47 (dk_at dksX0_read_0 1 rfl rfl)
theorem dX0_read_4 : decode cX0_read 4 = .ok (.invokevirtual 133, 3) := dk_182 0 133 (dk_at dksX0_read_0 4 rfl rfl)
theorem dX0_read_7 : decode cX0_read 7 = .ok (.istore_n 1, 1) := dk_60 (dk_at dksX0_read_0 7 rfl rfl)
theorem dX0_read_8 : decode cX0_read 8 = .ok (.aload_n 0, 1) := dk_42 (dk_at dksX0_read_0 8 rfl rfl)
theorem dX0_read_9 : decode cX0_read 9 = .ok (.getfield 10, 3) := dk_180 0 10 (dk_at dksX0_read_0 9 rfl rfl)
theorem dX0_read_12 : decode cX0_read 12 = .ok (.aload_n 0, 1) := dk_42 (dk_at dksX0_read_0 12 rfl rfl)
theorem dX0_read_13 : decode cX0_read 13 = .ok (.getfield 16, 3) := dk_180 0 16 (dk_at dksX0_read_0 13 rfl rfl)
theorem dX0_read_16 : decode cX0_read 16 = .ok (.invokevirtual 136, 3) := dk_182 0 136 (dk_at dksX0_read_0 16 rfl rfl)
theorem dX0_read_19 : decode cX0_read 19 = .ok (.iload_n 1, 1) := dk_27 (dk_at dksX0_read_0 19 rfl rfl)
theorem dX0_read_20 : decode cX0_read 20 = .ok (.ireturn, 1) := dk_172 (dk_at dksX0_read_0 20 rfl rfl)
theorem dX0_read_21 : decode cX0_read 21 = .ok (.astore_n 1, 1) := dk_76 (dk_at dksX0_read_0 21 rfl rfl)
theorem dX0_read_22 : decode cX0_read 22 = .ok (.bipush (-10), 2) := dk_16 246 (dk_at dksX0_read_0 22 rfl rfl)
theorem dX0_read_24 : decode cX0_read 24 = .ok (.aload_n 1, 1) := dk_43 (dk_at dksX0_read_1 0 rfl rfl)
theorem dX0_read_25 : decode cX0_read 25 = .ok (.getfield 142, 3) := dk_180 0 142 (dk_at dksX0_read_1 1 rfl rfl)
theorem dX0_read_28 : decode cX0_read 28 = .ok (.isub, 1) := dk_100 (dk_at dksX0_read_1 4 rfl rfl)
theorem dX0_read_29 : decode cX0_read 29 = .ok (.ireturn, 1) := dk_172 (dk_at dksX0_read_1 5 rfl rfl)
abbrev cX0_counts : ByteArray := prog_1_method_23_code
def yX0_counts : MethodName := ⟨RX0, "counts", "(I)I"⟩
def dkwX0_counts_3 : List UInt8 := [180, 0, 148, 180, 0, 158, 172]
abbrev dktX0_counts_3 : List UInt8 := dkwX0_counts_3 ++ []
def dkwX0_counts_2 : List UInt8 := [180, 0, 10, 42, 180, 0, 10, 180, 0, 148, 182, 0, 154, 132, 2, 1, 167, 255, 218, 42, 180, 0, 10]
abbrev dktX0_counts_2 : List UInt8 := dkwX0_counts_2 ++ dktX0_counts_3
def dkwX0_counts_1 : List UInt8 := [3, 61, 28, 27, 162, 0, 39, 42, 180, 0, 10, 180, 0, 148, 180, 0, 151, 17, 39, 15, 162, 0, 23, 42]
abbrev dktX0_counts_1 : List UInt8 := dkwX0_counts_1 ++ dktX0_counts_2
def dkwX0_counts_0 : List UInt8 := [27, 133, 10, 20, 0, 81, 184, 0, 71, 154, 0, 8, 42, 182, 0, 98, 172, 42, 180, 0, 10, 182, 0, 145]
abbrev dktX0_counts_0 : List UInt8 := dkwX0_counts_0 ++ dktX0_counts_1
theorem dksX0_counts_0 : cX0_counts.data.toList.drop 0 = dktX0_counts_0 := by decide +kernel
theorem dksX0_counts_1 : cX0_counts.data.toList.drop 24 = dktX0_counts_1 := dk_seg dksX0_counts_0 24 rfl rfl
theorem dksX0_counts_2 : cX0_counts.data.toList.drop 48 = dktX0_counts_2 := dk_seg dksX0_counts_1 24 rfl rfl
theorem dksX0_counts_3 : cX0_counts.data.toList.drop 71 = dktX0_counts_3 := dk_seg dksX0_counts_2 23 rfl rfl
theorem dX0_counts_0 : decode cX0_counts 0 = .ok (.iload_n 1, 1) := dk_27 (dk_at dksX0_counts_0 0 rfl rfl)
theorem dX0_counts_1 : decode cX0_counts 1 = .ok (.i2l, 1) := dk_133 (dk_at dksX0_counts_0 1 rfl rfl)
theorem dX0_counts_2 : decode cX0_counts 2 = .ok (.lconst 1, 1) := dk_10 (dk_at dksX0_counts_0 2 rfl rfl)
theorem dX0_counts_3 : decode cX0_counts 3 = .ok (.ldc2_w 81, 3) := dk_20 0 81 (dk_at dksX0_counts_0 3 rfl rfl)
theorem dX0_counts_6 : decode cX0_counts 6 = .ok (.invokestatic 71, 3) := dk_184 0 71 (dk_at dksX0_counts_0 6 rfl rfl)
theorem dX0_counts_9 : decode cX0_counts 9 = .ok (.ifCond .ne 8, 3) := dk_154 0 8 (dk_at dksX0_counts_0 9 rfl rfl)
theorem dX0_counts_12 : decode cX0_counts 12 = .ok (.aload_n 0, 1) := dk_42 (dk_at dksX0_counts_0 12 rfl rfl)
theorem dX0_counts_13 : decode cX0_counts 13 = .ok (.invokevirtual 98, 3) := dk_182 0 98 (dk_at dksX0_counts_0 13 rfl rfl)
theorem dX0_counts_16 : decode cX0_counts 16 = .ok (.ireturn, 1) := dk_172 (dk_at dksX0_counts_0 16 rfl rfl)
theorem dX0_counts_17 : decode cX0_counts 17 = .ok (.aload_n 0, 1) := dk_42 (dk_at dksX0_counts_0 17 rfl rfl)
theorem dX0_counts_18 : decode cX0_counts 18 = .ok (.getfield 10, 3) := dk_180 0 10 (dk_at dksX0_counts_0 18 rfl rfl)
theorem dX0_counts_21 : decode cX0_counts 21 = .ok (.invokevirtual 145, 3) := dk_182 0 145 (dk_at dksX0_counts_0 21 rfl rfl)
theorem dX0_counts_24 : decode cX0_counts 24 = .ok (.iconst 0, 1) := dk_3 (dk_at dksX0_counts_1 0 rfl rfl)
theorem dX0_counts_25 : decode cX0_counts 25 = .ok (.istore_n 2, 1) := dk_61 (dk_at dksX0_counts_1 1 rfl rfl)
theorem dX0_counts_26 : decode cX0_counts 26 = .ok (.iload_n 2, 1) := dk_28 (dk_at dksX0_counts_1 2 rfl rfl)
theorem dX0_counts_27 : decode cX0_counts 27 = .ok (.iload_n 1, 1) := dk_27 (dk_at dksX0_counts_1 3 rfl rfl)
theorem dX0_counts_28 : decode cX0_counts 28 = .ok (.if_icmp .ge 39, 3) := dk_162 0 39 (dk_at dksX0_counts_1 4 rfl rfl)
theorem dX0_counts_31 : decode cX0_counts 31 = .ok (.aload_n 0, 1) := dk_42 (dk_at dksX0_counts_1 7 rfl rfl)
theorem dX0_counts_32 : decode cX0_counts 32 = .ok (.getfield 10, 3) := dk_180 0 10 (dk_at dksX0_counts_1 8 rfl rfl)
theorem dX0_counts_35 : decode cX0_counts 35 = .ok (.getfield 148, 3) := dk_180 0 148 (dk_at dksX0_counts_1 11 rfl rfl)
theorem dX0_counts_38 : decode cX0_counts 38 = .ok (.getfield 151, 3) := dk_180 0 151 (dk_at dksX0_counts_1 14 rfl rfl)
theorem dX0_counts_41 : decode cX0_counts 41 = .ok (.sipush 9999, 3) := dk_17 39 15 (dk_at dksX0_counts_1 17 rfl rfl)
theorem dX0_counts_44 : decode cX0_counts 44 = .ok (.if_icmp .ge 23, 3) := dk_162 0 23 (dk_at dksX0_counts_1 20 rfl rfl)
theorem dX0_counts_47 : decode cX0_counts 47 = .ok (.aload_n 0, 1) := dk_42 (dk_at dksX0_counts_1 23 rfl rfl)
theorem dX0_counts_48 : decode cX0_counts 48 = .ok (.getfield 10, 3) := dk_180 0 10 (dk_at dksX0_counts_2 0 rfl rfl)
theorem dX0_counts_51 : decode cX0_counts 51 = .ok (.aload_n 0, 1) := dk_42 (dk_at dksX0_counts_2 3 rfl rfl)
theorem dX0_counts_52 : decode cX0_counts 52 = .ok (.getfield 10, 3) := dk_180 0 10 (dk_at dksX0_counts_2 4 rfl rfl)
theorem dX0_counts_55 : decode cX0_counts 55 = .ok (.getfield 148, 3) := dk_180 0 148 (dk_at dksX0_counts_2 7 rfl rfl)
theorem dX0_counts_58 : decode cX0_counts 58 = .ok (.invokevirtual 154, 3) := dk_182 0 154 (dk_at dksX0_counts_2 10 rfl rfl)
theorem dX0_counts_61 : decode cX0_counts 61 = .ok (.iinc 2 1, 3) := dk_132 2 1 (dk_at dksX0_counts_2 13 rfl rfl)
theorem dX0_counts_64 : decode cX0_counts 64 = .ok (.goto (-38), 3) := dk_167 255 218 (dk_at dksX0_counts_2 16 rfl rfl)
theorem dX0_counts_67 : decode cX0_counts 67 = .ok (.aload_n 0, 1) := dk_42 (dk_at dksX0_counts_2 19 rfl rfl)
theorem dX0_counts_68 : decode cX0_counts 68 = .ok (.getfield 10, 3) := dk_180 0 10 (dk_at dksX0_counts_2 20 rfl rfl)
theorem dX0_counts_71 : decode cX0_counts 71 = .ok (.getfield 148, 3) := dk_180 0 148 (dk_at dksX0_counts_3 0 rfl rfl)
theorem dX0_counts_74 : decode cX0_counts 74 = .ok (.getfield 158, 3) := dk_180 0 158 (dk_at dksX0_counts_3 3 rfl rfl)
theorem dX0_counts_77 : decode cX0_counts 77 = .ok (.ireturn, 1) := dk_172 (dk_at dksX0_counts_3 6 rfl rfl)
abbrev cX0_swings : ByteArray := prog_1_method_24_code
def yX0_swings : MethodName := ⟨RX0, "swings", "(II)I"⟩
def dkwX0_swings_2 : List UInt8 := [182, 0, 145, 42, 180, 0, 10, 180, 0, 148, 180, 0, 164, 27, 28, 79, 29, 172]
abbrev dktX0_swings_2 : List UInt8 := dkwX0_swings_2 ++ []
def dkwX0_swings_1 : List UInt8 := [180, 0, 148, 180, 0, 164, 27, 46, 62, 29, 28, 160, 0, 8, 42, 182, 0, 167, 172, 42, 180, 0, 10]
abbrev dktX0_swings_1 : List UInt8 := dkwX0_swings_1 ++ dktX0_swings_2
def dkwX0_swings_0 : List UInt8 := [42, 27, 182, 0, 161, 153, 0, 10, 28, 184, 0, 114, 154, 0, 8, 42, 182, 0, 98, 172, 42, 180, 0, 10]
abbrev dktX0_swings_0 : List UInt8 := dkwX0_swings_0 ++ dktX0_swings_1
theorem dksX0_swings_0 : cX0_swings.data.toList.drop 0 = dktX0_swings_0 := by decide +kernel
theorem dksX0_swings_1 : cX0_swings.data.toList.drop 24 = dktX0_swings_1 := dk_seg dksX0_swings_0 24 rfl rfl
theorem dksX0_swings_2 : cX0_swings.data.toList.drop 47 = dktX0_swings_2 := dk_seg dksX0_swings_1 23 rfl rfl
theorem dX0_swings_0 : decode cX0_swings 0 = .ok (.aload_n 0, 1) := dk_42 (dk_at dksX0_swings_0 0 rfl rfl)
theorem dX0_swings_1 : decode cX0_swings 1 = .ok (.iload_n 1, 1) := dk_27 (dk_at dksX0_swings_0 1 rfl rfl)
theorem dX0_swings_2 : decode cX0_swings 2 = .ok (.invokevirtual 161, 3) := dk_182 0 161 (dk_at dksX0_swings_0 2 rfl rfl)
theorem dX0_swings_5 : decode cX0_swings 5 = .ok (.ifCond .eq 10, 3) := dk_153 0 10 (dk_at dksX0_swings_0 5 rfl rfl)
theorem dX0_swings_8 : decode cX0_swings 8 = .ok (.iload_n 2, 1) := dk_28 (dk_at dksX0_swings_0 8 rfl rfl)
theorem dX0_swings_9 : decode cX0_swings 9 = .ok (.invokestatic 114, 3) := dk_184 0 114 (dk_at dksX0_swings_0 9 rfl rfl)
theorem dX0_swings_12 : decode cX0_swings 12 = .ok (.ifCond .ne 8, 3) := dk_154 0 8 (dk_at dksX0_swings_0 12 rfl rfl)
theorem dX0_swings_15 : decode cX0_swings 15 = .ok (.aload_n 0, 1) := dk_42 (dk_at dksX0_swings_0 15 rfl rfl)
theorem dX0_swings_16 : decode cX0_swings 16 = .ok (.invokevirtual 98, 3) := dk_182 0 98 (dk_at dksX0_swings_0 16 rfl rfl)
theorem dX0_swings_19 : decode cX0_swings 19 = .ok (.ireturn, 1) := dk_172 (dk_at dksX0_swings_0 19 rfl rfl)
theorem dX0_swings_20 : decode cX0_swings 20 = .ok (.aload_n 0, 1) := dk_42 (dk_at dksX0_swings_0 20 rfl rfl)
theorem dX0_swings_21 : decode cX0_swings 21 = .ok (.getfield 10, 3) := dk_180 0 10 (dk_at dksX0_swings_0 21 rfl rfl)
theorem dX0_swings_24 : decode cX0_swings 24 = .ok (.getfield 148, 3) := dk_180 0 148 (dk_at dksX0_swings_1 0 rfl rfl)
theorem dX0_swings_27 : decode cX0_swings 27 = .ok (.getfield 164, 3) := dk_180 0 164 (dk_at dksX0_swings_1 3 rfl rfl)
theorem dX0_swings_30 : decode cX0_swings 30 = .ok (.iload_n 1, 1) := dk_27 (dk_at dksX0_swings_1 6 rfl rfl)
theorem dX0_swings_31 : decode cX0_swings 31 = .ok (.iaload, 1) := dk_46 (dk_at dksX0_swings_1 7 rfl rfl)
theorem dX0_swings_32 : decode cX0_swings 32 = .ok (.istore_n 3, 1) := dk_62 (dk_at dksX0_swings_1 8 rfl rfl)
theorem dX0_swings_33 : decode cX0_swings 33 = .ok (.iload_n 3, 1) := dk_29 (dk_at dksX0_swings_1 9 rfl rfl)
theorem dX0_swings_34 : decode cX0_swings 34 = .ok (.iload_n 2, 1) := dk_28 (dk_at dksX0_swings_1 10 rfl rfl)
theorem dX0_swings_35 : decode cX0_swings 35 = .ok (.if_icmp .ne 8, 3) := dk_160 0 8 (dk_at dksX0_swings_1 11 rfl rfl)
theorem dX0_swings_38 : decode cX0_swings 38 = .ok (.aload_n 0, 1) := dk_42 (dk_at dksX0_swings_1 14 rfl rfl)
theorem dX0_swings_39 : decode cX0_swings 39 = .ok (.invokevirtual 167, 3) := dk_182 0 167 (dk_at dksX0_swings_1 15 rfl rfl)
theorem dX0_swings_42 : decode cX0_swings 42 = .ok (.ireturn, 1) := dk_172 (dk_at dksX0_swings_1 18 rfl rfl)
theorem dX0_swings_43 : decode cX0_swings 43 = .ok (.aload_n 0, 1) := dk_42 (dk_at dksX0_swings_1 19 rfl rfl)
theorem dX0_swings_44 : decode cX0_swings 44 = .ok (.getfield 10, 3) := dk_180 0 10 (dk_at dksX0_swings_1 20 rfl rfl)
theorem dX0_swings_47 : decode cX0_swings 47 = .ok (.invokevirtual 145, 3) := dk_182 0 145 (dk_at dksX0_swings_2 0 rfl rfl)
theorem dX0_swings_50 : decode cX0_swings 50 = .ok (.aload_n 0, 1) := dk_42 (dk_at dksX0_swings_2 3 rfl rfl)
theorem dX0_swings_51 : decode cX0_swings 51 = .ok (.getfield 10, 3) := dk_180 0 10 (dk_at dksX0_swings_2 4 rfl rfl)
theorem dX0_swings_54 : decode cX0_swings 54 = .ok (.getfield 148, 3) := dk_180 0 148 (dk_at dksX0_swings_2 7 rfl rfl)
theorem dX0_swings_57 : decode cX0_swings 57 = .ok (.getfield 164, 3) := dk_180 0 164 (dk_at dksX0_swings_2 10 rfl rfl)
theorem dX0_swings_60 : decode cX0_swings 60 = .ok (.iload_n 1, 1) := dk_27 (dk_at dksX0_swings_2 13 rfl rfl)
theorem dX0_swings_61 : decode cX0_swings 61 = .ok (.iload_n 2, 1) := dk_28 (dk_at dksX0_swings_2 14 rfl rfl)
theorem dX0_swings_62 : decode cX0_swings 62 = .ok (.iastore, 1) := dk_79 (dk_at dksX0_swings_2 15 rfl rfl)
theorem dX0_swings_63 : decode cX0_swings 63 = .ok (.iload_n 3, 1) := dk_29 (dk_at dksX0_swings_2 16 rfl rfl)
theorem dX0_swings_64 : decode cX0_swings 64 = .ok (.ireturn, 1) := dk_172 (dk_at dksX0_swings_2 17 rfl rfl)
abbrev cX0_isOne : ByteArray := prog_1_method_14_code
def yX0_isOne : MethodName := ⟨RX0, "isOne", "(I)Z"⟩
def dkwX0_isOne_0 : List UInt8 := [27, 133, 9, 42, 180, 0, 10, 180, 0, 87, 4, 100, 133, 184, 0, 71, 172]
abbrev dktX0_isOne_0 : List UInt8 := dkwX0_isOne_0 ++ []
theorem dksX0_isOne_0 : cX0_isOne.data.toList.drop 0 = dktX0_isOne_0 := by decide +kernel
theorem dX0_isOne_0 : decode cX0_isOne 0 = .ok (.iload_n 1, 1) := dk_27 (dk_at dksX0_isOne_0 0 rfl rfl)
theorem dX0_isOne_1 : decode cX0_isOne 1 = .ok (.i2l, 1) := dk_133 (dk_at dksX0_isOne_0 1 rfl rfl)
theorem dX0_isOne_2 : decode cX0_isOne 2 = .ok (.lconst 0, 1) := dk_9 (dk_at dksX0_isOne_0 2 rfl rfl)
theorem dX0_isOne_3 : decode cX0_isOne 3 = .ok (.aload_n 0, 1) := dk_42 (dk_at dksX0_isOne_0 3 rfl rfl)
theorem dX0_isOne_4 : decode cX0_isOne 4 = .ok (.getfield 10, 3) := dk_180 0 10 (dk_at dksX0_isOne_0 4 rfl rfl)
theorem dX0_isOne_7 : decode cX0_isOne 7 = .ok (.getfield 87, 3) := dk_180 0 87 (dk_at dksX0_isOne_0 7 rfl rfl)
theorem dX0_isOne_10 : decode cX0_isOne 10 = .ok (.iconst 1, 1) := dk_4 (dk_at dksX0_isOne_0 10 rfl rfl)
theorem dX0_isOne_11 : decode cX0_isOne 11 = .ok (.isub, 1) := dk_100 (dk_at dksX0_isOne_0 11 rfl rfl)
theorem dX0_isOne_12 : decode cX0_isOne 12 = .ok (.i2l, 1) := dk_133 (dk_at dksX0_isOne_0 12 rfl rfl)
theorem dX0_isOne_13 : decode cX0_isOne 13 = .ok (.invokestatic 71, 3) := dk_184 0 71 (dk_at dksX0_isOne_0 13 rfl rfl)
theorem dX0_isOne_16 : decode cX0_isOne 16 = .ok (.ireturn, 1) := dk_172 (dk_at dksX0_isOne_0 16 rfl rfl)
abbrev cX0_no : ByteArray := prog_1_method_5_code
def yX0_no : MethodName := ⟨RX0, "no", "()I"⟩
def dkwX0_no_0 : List UInt8 := [42, 4, 16, 253, 182, 0, 65, 172]
abbrev dktX0_no_0 : List UInt8 := dkwX0_no_0 ++ []
theorem dksX0_no_0 : cX0_no.data.toList.drop 0 = dktX0_no_0 := by decide +kernel
theorem dX0_no_0 : decode cX0_no 0 = .ok (.aload_n 0, 1) := dk_42 (dk_at dksX0_no_0 0 rfl rfl)
theorem dX0_no_1 : decode cX0_no 1 = .ok (.iconst 1, 1) := dk_4 (dk_at dksX0_no_0 1 rfl rfl)
theorem dX0_no_2 : decode cX0_no 2 = .ok (.bipush (-3), 2) := dk_16 253 (dk_at dksX0_no_0 2 rfl rfl)
theorem dX0_no_4 : decode cX0_no 4 = .ok (.invokevirtual 65, 3) := dk_182 0 65 (dk_at dksX0_no_0 4 rfl rfl)
theorem dX0_no_7 : decode cX0_no 7 = .ok (.ireturn, 1) := dk_172 (dk_at dksX0_no_0 7 rfl rfl)
abbrev cX0_sends : ByteArray := prog_1_method_25_code
def yX0_sends : MethodName := ⟨RX0, "sends", "(II)I"⟩
def dkwX0_sends_3 : List UInt8 := [181, 0, 173, 29, 172]
abbrev dktX0_sends_3 : List UInt8 := dkwX0_sends_3 ++ []
def dkwX0_sends_2 : List UInt8 := [42, 180, 0, 10, 182, 0, 145, 42, 180, 0, 10, 180, 0, 148, 89, 180, 0, 173, 4, 27, 120, 130]
abbrev dktX0_sends_2 : List UInt8 := dkwX0_sends_2 ++ dktX0_sends_3
def dkwX0_sends_1 : List UInt8 := [180, 0, 10, 180, 0, 148, 180, 0, 173, 27, 122, 4, 126, 62, 29, 28, 160, 0, 8, 42, 182, 0, 167, 172]
abbrev dktX0_sends_1 : List UInt8 := dkwX0_sends_1 ++ dktX0_sends_2
def dkwX0_sends_0 : List UInt8 := [42, 27, 182, 0, 170, 153, 0, 13, 28, 133, 9, 10, 184, 0, 71, 154, 0, 8, 42, 182, 0, 98, 172, 42]
abbrev dktX0_sends_0 : List UInt8 := dkwX0_sends_0 ++ dktX0_sends_1
theorem dksX0_sends_0 : cX0_sends.data.toList.drop 0 = dktX0_sends_0 := by decide +kernel
theorem dksX0_sends_1 : cX0_sends.data.toList.drop 24 = dktX0_sends_1 := dk_seg dksX0_sends_0 24 rfl rfl
theorem dksX0_sends_2 : cX0_sends.data.toList.drop 48 = dktX0_sends_2 := dk_seg dksX0_sends_1 24 rfl rfl
theorem dksX0_sends_3 : cX0_sends.data.toList.drop 70 = dktX0_sends_3 := dk_seg dksX0_sends_2 22 rfl rfl
theorem dX0_sends_0 : decode cX0_sends 0 = .ok (.aload_n 0, 1) := dk_42 (dk_at dksX0_sends_0 0 rfl rfl)
theorem dX0_sends_1 : decode cX0_sends 1 = .ok (.iload_n 1, 1) := dk_27 (dk_at dksX0_sends_0 1 rfl rfl)
theorem dX0_sends_2 : decode cX0_sends 2 = .ok (.invokevirtual 170, 3) := dk_182 0 170 (dk_at dksX0_sends_0 2 rfl rfl)
theorem dX0_sends_5 : decode cX0_sends 5 = .ok (.ifCond .eq 13, 3) := dk_153 0 13 (dk_at dksX0_sends_0 5 rfl rfl)
theorem dX0_sends_8 : decode cX0_sends 8 = .ok (.iload_n 2, 1) := dk_28 (dk_at dksX0_sends_0 8 rfl rfl)
theorem dX0_sends_9 : decode cX0_sends 9 = .ok (.i2l, 1) := dk_133 (dk_at dksX0_sends_0 9 rfl rfl)
theorem dX0_sends_10 : decode cX0_sends 10 = .ok (.lconst 0, 1) := dk_9 (dk_at dksX0_sends_0 10 rfl rfl)
theorem dX0_sends_11 : decode cX0_sends 11 = .ok (.lconst 1, 1) := dk_10 (dk_at dksX0_sends_0 11 rfl rfl)
theorem dX0_sends_12 : decode cX0_sends 12 = .ok (.invokestatic 71, 3) := dk_184 0 71 (dk_at dksX0_sends_0 12 rfl rfl)
theorem dX0_sends_15 : decode cX0_sends 15 = .ok (.ifCond .ne 8, 3) := dk_154 0 8 (dk_at dksX0_sends_0 15 rfl rfl)
theorem dX0_sends_18 : decode cX0_sends 18 = .ok (.aload_n 0, 1) := dk_42 (dk_at dksX0_sends_0 18 rfl rfl)
theorem dX0_sends_19 : decode cX0_sends 19 = .ok (.invokevirtual 98, 3) := dk_182 0 98 (dk_at dksX0_sends_0 19 rfl rfl)
theorem dX0_sends_22 : decode cX0_sends 22 = .ok (.ireturn, 1) := dk_172 (dk_at dksX0_sends_0 22 rfl rfl)
theorem dX0_sends_23 : decode cX0_sends 23 = .ok (.aload_n 0, 1) := dk_42 (dk_at dksX0_sends_0 23 rfl rfl)
theorem dX0_sends_24 : decode cX0_sends 24 = .ok (.getfield 10, 3) := dk_180 0 10 (dk_at dksX0_sends_1 0 rfl rfl)
theorem dX0_sends_27 : decode cX0_sends 27 = .ok (.getfield 148, 3) := dk_180 0 148 (dk_at dksX0_sends_1 3 rfl rfl)
theorem dX0_sends_30 : decode cX0_sends 30 = .ok (.getfield 173, 3) := dk_180 0 173 (dk_at dksX0_sends_1 6 rfl rfl)
theorem dX0_sends_33 : decode cX0_sends 33 = .ok (.iload_n 1, 1) := dk_27 (dk_at dksX0_sends_1 9 rfl rfl)
theorem dX0_sends_34 : decode cX0_sends 34 = .ok (.ishr, 1) := dk_122 (dk_at dksX0_sends_1 10 rfl rfl)
theorem dX0_sends_35 : decode cX0_sends 35 = .ok (.iconst 1, 1) := dk_4 (dk_at dksX0_sends_1 11 rfl rfl)
theorem dX0_sends_36 : decode cX0_sends 36 = .ok (.iand, 1) := dk_126 (dk_at dksX0_sends_1 12 rfl rfl)
theorem dX0_sends_37 : decode cX0_sends 37 = .ok (.istore_n 3, 1) := dk_62 (dk_at dksX0_sends_1 13 rfl rfl)
theorem dX0_sends_38 : decode cX0_sends 38 = .ok (.iload_n 3, 1) := dk_29 (dk_at dksX0_sends_1 14 rfl rfl)
theorem dX0_sends_39 : decode cX0_sends 39 = .ok (.iload_n 2, 1) := dk_28 (dk_at dksX0_sends_1 15 rfl rfl)
theorem dX0_sends_40 : decode cX0_sends 40 = .ok (.if_icmp .ne 8, 3) := dk_160 0 8 (dk_at dksX0_sends_1 16 rfl rfl)
theorem dX0_sends_43 : decode cX0_sends 43 = .ok (.aload_n 0, 1) := dk_42 (dk_at dksX0_sends_1 19 rfl rfl)
theorem dX0_sends_44 : decode cX0_sends 44 = .ok (.invokevirtual 167, 3) := dk_182 0 167 (dk_at dksX0_sends_1 20 rfl rfl)
theorem dX0_sends_47 : decode cX0_sends 47 = .ok (.ireturn, 1) := dk_172 (dk_at dksX0_sends_1 23 rfl rfl)
theorem dX0_sends_48 : decode cX0_sends 48 = .ok (.aload_n 0, 1) := dk_42 (dk_at dksX0_sends_2 0 rfl rfl)
theorem dX0_sends_49 : decode cX0_sends 49 = .ok (.getfield 10, 3) := dk_180 0 10 (dk_at dksX0_sends_2 1 rfl rfl)
theorem dX0_sends_52 : decode cX0_sends 52 = .ok (.invokevirtual 145, 3) := dk_182 0 145 (dk_at dksX0_sends_2 4 rfl rfl)
theorem dX0_sends_55 : decode cX0_sends 55 = .ok (.aload_n 0, 1) := dk_42 (dk_at dksX0_sends_2 7 rfl rfl)
theorem dX0_sends_56 : decode cX0_sends 56 = .ok (.getfield 10, 3) := dk_180 0 10 (dk_at dksX0_sends_2 8 rfl rfl)
theorem dX0_sends_59 : decode cX0_sends 59 = .ok (.getfield 148, 3) := dk_180 0 148 (dk_at dksX0_sends_2 11 rfl rfl)
theorem dX0_sends_62 : decode cX0_sends 62 = .ok (.dup, 1) := dk_89 (dk_at dksX0_sends_2 14 rfl rfl)
theorem dX0_sends_63 : decode cX0_sends 63 = .ok (.getfield 173, 3) := dk_180 0 173 (dk_at dksX0_sends_2 15 rfl rfl)
theorem dX0_sends_66 : decode cX0_sends 66 = .ok (.iconst 1, 1) := dk_4 (dk_at dksX0_sends_2 18 rfl rfl)
theorem dX0_sends_67 : decode cX0_sends 67 = .ok (.iload_n 1, 1) := dk_27 (dk_at dksX0_sends_2 19 rfl rfl)
theorem dX0_sends_68 : decode cX0_sends 68 = .ok (.ishl, 1) := dk_120 (dk_at dksX0_sends_2 20 rfl rfl)
theorem dX0_sends_69 : decode cX0_sends 69 = .ok (.ixor, 1) := dk_130 (dk_at dksX0_sends_2 21 rfl rfl)
theorem dX0_sends_70 : decode cX0_sends 70 = .ok (.putfield 173, 3) := dk_181 0 173 (dk_at dksX0_sends_3 0 rfl rfl)
theorem dX0_sends_73 : decode cX0_sends 73 = .ok (.iload_n 3, 1) := dk_29 (dk_at dksX0_sends_3 3 rfl rfl)
theorem dX0_sends_74 : decode cX0_sends 74 = .ok (.ireturn, 1) := dk_172 (dk_at dksX0_sends_3 4 rfl rfl)
abbrev cX0_isAunt : ByteArray := prog_1_method_15_code
def yX0_isAunt : MethodName := ⟨RX0, "isAunt", "(I)Z"⟩
def dkwX0_isAunt_0 : List UInt8 := [27, 133, 9, 42, 180, 0, 10, 180, 0, 91, 4, 100, 133, 184, 0, 71, 172]
abbrev dktX0_isAunt_0 : List UInt8 := dkwX0_isAunt_0 ++ []
theorem dksX0_isAunt_0 : cX0_isAunt.data.toList.drop 0 = dktX0_isAunt_0 := by decide +kernel
theorem dX0_isAunt_0 : decode cX0_isAunt 0 = .ok (.iload_n 1, 1) := dk_27 (dk_at dksX0_isAunt_0 0 rfl rfl)
theorem dX0_isAunt_1 : decode cX0_isAunt 1 = .ok (.i2l, 1) := dk_133 (dk_at dksX0_isAunt_0 1 rfl rfl)
theorem dX0_isAunt_2 : decode cX0_isAunt 2 = .ok (.lconst 0, 1) := dk_9 (dk_at dksX0_isAunt_0 2 rfl rfl)
theorem dX0_isAunt_3 : decode cX0_isAunt 3 = .ok (.aload_n 0, 1) := dk_42 (dk_at dksX0_isAunt_0 3 rfl rfl)
theorem dX0_isAunt_4 : decode cX0_isAunt 4 = .ok (.getfield 10, 3) := dk_180 0 10 (dk_at dksX0_isAunt_0 4 rfl rfl)
theorem dX0_isAunt_7 : decode cX0_isAunt 7 = .ok (.getfield 91, 3) := dk_180 0 91 (dk_at dksX0_isAunt_0 7 rfl rfl)
theorem dX0_isAunt_10 : decode cX0_isAunt 10 = .ok (.iconst 1, 1) := dk_4 (dk_at dksX0_isAunt_0 10 rfl rfl)
theorem dX0_isAunt_11 : decode cX0_isAunt 11 = .ok (.isub, 1) := dk_100 (dk_at dksX0_isAunt_0 11 rfl rfl)
theorem dX0_isAunt_12 : decode cX0_isAunt 12 = .ok (.i2l, 1) := dk_133 (dk_at dksX0_isAunt_0 12 rfl rfl)
theorem dX0_isAunt_13 : decode cX0_isAunt 13 = .ok (.invokestatic 71, 3) := dk_184 0 71 (dk_at dksX0_isAunt_0 13 rfl rfl)
theorem dX0_isAunt_16 : decode cX0_isAunt 16 = .ok (.ireturn, 1) := dk_172 (dk_at dksX0_isAunt_0 16 rfl rfl)
abbrev cX0_undo : ByteArray := prog_1_method_26_code
def yX0_undo : MethodName := ⟨RX0, "undo", "()I"⟩
def dkwX0_undo_2 : List UInt8 := [180, 0, 105, 50, 182, 0, 180, 42, 180, 0, 10, 180, 0, 148, 180, 0, 151, 172]
abbrev dktX0_undo_2 : List UInt8 := dkwX0_undo_2 ++ []
def dkwX0_undo_1 : List UInt8 := [100, 181, 0, 105, 42, 180, 0, 10, 180, 0, 148, 42, 180, 0, 10, 180, 0, 176, 42, 180, 0, 10]
abbrev dktX0_undo_1 : List UInt8 := dkwX0_undo_1 ++ dktX0_undo_2
def dkwX0_undo_0 : List UInt8 := [42, 180, 0, 10, 180, 0, 105, 154, 0, 8, 42, 182, 0, 167, 172, 42, 180, 0, 10, 89, 180, 0, 105, 4]
abbrev dktX0_undo_0 : List UInt8 := dkwX0_undo_0 ++ dktX0_undo_1
theorem dksX0_undo_0 : cX0_undo.data.toList.drop 0 = dktX0_undo_0 := by decide +kernel
theorem dksX0_undo_1 : cX0_undo.data.toList.drop 24 = dktX0_undo_1 := dk_seg dksX0_undo_0 24 rfl rfl
theorem dksX0_undo_2 : cX0_undo.data.toList.drop 46 = dktX0_undo_2 := dk_seg dksX0_undo_1 22 rfl rfl
theorem dX0_undo_0 : decode cX0_undo 0 = .ok (.aload_n 0, 1) := dk_42 (dk_at dksX0_undo_0 0 rfl rfl)
theorem dX0_undo_1 : decode cX0_undo 1 = .ok (.getfield 10, 3) := dk_180 0 10 (dk_at dksX0_undo_0 1 rfl rfl)
theorem dX0_undo_4 : decode cX0_undo 4 = .ok (.getfield 105, 3) := dk_180 0 105 (dk_at dksX0_undo_0 4 rfl rfl)
theorem dX0_undo_7 : decode cX0_undo 7 = .ok (.ifCond .ne 8, 3) := dk_154 0 8 (dk_at dksX0_undo_0 7 rfl rfl)
theorem dX0_undo_10 : decode cX0_undo 10 = .ok (.aload_n 0, 1) := dk_42 (dk_at dksX0_undo_0 10 rfl rfl)
theorem dX0_undo_11 : decode cX0_undo 11 = .ok (.invokevirtual 167, 3) := dk_182 0 167 (dk_at dksX0_undo_0 11 rfl rfl)
theorem dX0_undo_14 : decode cX0_undo 14 = .ok (.ireturn, 1) := dk_172 (dk_at dksX0_undo_0 14 rfl rfl)
theorem dX0_undo_15 : decode cX0_undo 15 = .ok (.aload_n 0, 1) := dk_42 (dk_at dksX0_undo_0 15 rfl rfl)
theorem dX0_undo_16 : decode cX0_undo 16 = .ok (.getfield 10, 3) := dk_180 0 10 (dk_at dksX0_undo_0 16 rfl rfl)
theorem dX0_undo_19 : decode cX0_undo 19 = .ok (.dup, 1) := dk_89 (dk_at dksX0_undo_0 19 rfl rfl)
theorem dX0_undo_20 : decode cX0_undo 20 = .ok (.getfield 105, 3) := dk_180 0 105 (dk_at dksX0_undo_0 20 rfl rfl)
theorem dX0_undo_23 : decode cX0_undo 23 = .ok (.iconst 1, 1) := dk_4 (dk_at dksX0_undo_0 23 rfl rfl)
theorem dX0_undo_24 : decode cX0_undo 24 = .ok (.isub, 1) := dk_100 (dk_at dksX0_undo_1 0 rfl rfl)
theorem dX0_undo_25 : decode cX0_undo 25 = .ok (.putfield 105, 3) := dk_181 0 105 (dk_at dksX0_undo_1 1 rfl rfl)
theorem dX0_undo_28 : decode cX0_undo 28 = .ok (.aload_n 0, 1) := dk_42 (dk_at dksX0_undo_1 4 rfl rfl)
theorem dX0_undo_29 : decode cX0_undo 29 = .ok (.getfield 10, 3) := dk_180 0 10 (dk_at dksX0_undo_1 5 rfl rfl)
theorem dX0_undo_32 : decode cX0_undo 32 = .ok (.getfield 148, 3) := dk_180 0 148 (dk_at dksX0_undo_1 8 rfl rfl)
theorem dX0_undo_35 : decode cX0_undo 35 = .ok (.aload_n 0, 1) := dk_42 (dk_at dksX0_undo_1 11 rfl rfl)
theorem dX0_undo_36 : decode cX0_undo 36 = .ok (.getfield 10, 3) := dk_180 0 10 (dk_at dksX0_undo_1 12 rfl rfl)
theorem dX0_undo_39 : decode cX0_undo 39 = .ok (.getfield 176, 3) := dk_180 0 176 (dk_at dksX0_undo_1 15 rfl rfl)
theorem dX0_undo_42 : decode cX0_undo 42 = .ok (.aload_n 0, 1) := dk_42 (dk_at dksX0_undo_1 18 rfl rfl)
theorem dX0_undo_43 : decode cX0_undo 43 = .ok (.getfield 10, 3) := dk_180 0 10 (dk_at dksX0_undo_1 19 rfl rfl)
theorem dX0_undo_46 : decode cX0_undo 46 = .ok (.getfield 105, 3) := dk_180 0 105 (dk_at dksX0_undo_2 0 rfl rfl)
theorem dX0_undo_49 : decode cX0_undo 49 = .ok (.aaload, 1) := dk_50 (dk_at dksX0_undo_2 3 rfl rfl)
theorem dX0_undo_50 : decode cX0_undo 50 = .ok (.invokevirtual 180, 3) := dk_182 0 180 (dk_at dksX0_undo_2 4 rfl rfl)
theorem dX0_undo_53 : decode cX0_undo 53 = .ok (.aload_n 0, 1) := dk_42 (dk_at dksX0_undo_2 7 rfl rfl)
theorem dX0_undo_54 : decode cX0_undo 54 = .ok (.getfield 10, 3) := dk_180 0 10 (dk_at dksX0_undo_2 8 rfl rfl)
theorem dX0_undo_57 : decode cX0_undo 57 = .ok (.getfield 148, 3) := dk_180 0 148 (dk_at dksX0_undo_2 11 rfl rfl)
theorem dX0_undo_60 : decode cX0_undo 60 = .ok (.getfield 151, 3) := dk_180 0 151 (dk_at dksX0_undo_2 14 rfl rfl)
theorem dX0_undo_63 : decode cX0_undo 63 = .ok (.ireturn, 1) := dk_172 (dk_at dksX0_undo_2 17 rfl rfl)
abbrev cX0_of : ByteArray := prog_1_method_27_code
def yX0_of : MethodName := ⟨RX0, "of", "(II)I"⟩
def dkwX0_of_3 : List UInt8 := [180, 0, 164, 27, 46, 172]
abbrev dktX0_of_3 : List UInt8 := dkwX0_of_3 ++ []
def dkwX0_of_2 : List UInt8 := [160, 0, 15, 42, 180, 0, 10, 180, 0, 193, 27, 46, 167, 0, 15, 42, 180, 0, 10, 180, 0, 148]
abbrev dktX0_of_2 : List UInt8 := dkwX0_of_2 ++ dktX0_of_3
def dkwX0_of_1 : List UInt8 := [172, 28, 154, 0, 18, 42, 180, 0, 10, 180, 0, 184, 27, 50, 182, 0, 188, 167, 0, 32, 28, 4]
abbrev dktX0_of_1 : List UInt8 := dkwX0_of_1 ++ dktX0_of_2
def dkwX0_of_0 : List UInt8 := [42, 27, 182, 0, 161, 153, 0, 15, 28, 133, 9, 20, 0, 182, 184, 0, 71, 154, 0, 8, 42, 182, 0, 98]
abbrev dktX0_of_0 : List UInt8 := dkwX0_of_0 ++ dktX0_of_1
theorem dksX0_of_0 : cX0_of.data.toList.drop 0 = dktX0_of_0 := by decide +kernel
theorem dksX0_of_1 : cX0_of.data.toList.drop 24 = dktX0_of_1 := dk_seg dksX0_of_0 24 rfl rfl
theorem dksX0_of_2 : cX0_of.data.toList.drop 46 = dktX0_of_2 := dk_seg dksX0_of_1 22 rfl rfl
theorem dksX0_of_3 : cX0_of.data.toList.drop 68 = dktX0_of_3 := dk_seg dksX0_of_2 22 rfl rfl
theorem dX0_of_0 : decode cX0_of 0 = .ok (.aload_n 0, 1) := dk_42 (dk_at dksX0_of_0 0 rfl rfl)
theorem dX0_of_1 : decode cX0_of 1 = .ok (.iload_n 1, 1) := dk_27 (dk_at dksX0_of_0 1 rfl rfl)
theorem dX0_of_2 : decode cX0_of 2 = .ok (.invokevirtual 161, 3) := dk_182 0 161 (dk_at dksX0_of_0 2 rfl rfl)
theorem dX0_of_5 : decode cX0_of 5 = .ok (.ifCond .eq 15, 3) := dk_153 0 15 (dk_at dksX0_of_0 5 rfl rfl)
theorem dX0_of_8 : decode cX0_of 8 = .ok (.iload_n 2, 1) := dk_28 (dk_at dksX0_of_0 8 rfl rfl)
theorem dX0_of_9 : decode cX0_of 9 = .ok (.i2l, 1) := dk_133 (dk_at dksX0_of_0 9 rfl rfl)
theorem dX0_of_10 : decode cX0_of 10 = .ok (.lconst 0, 1) := dk_9 (dk_at dksX0_of_0 10 rfl rfl)
theorem dX0_of_11 : decode cX0_of 11 = .ok (.ldc2_w 182, 3) := dk_20 0 182 (dk_at dksX0_of_0 11 rfl rfl)
theorem dX0_of_14 : decode cX0_of 14 = .ok (.invokestatic 71, 3) := dk_184 0 71 (dk_at dksX0_of_0 14 rfl rfl)
theorem dX0_of_17 : decode cX0_of 17 = .ok (.ifCond .ne 8, 3) := dk_154 0 8 (dk_at dksX0_of_0 17 rfl rfl)
theorem dX0_of_20 : decode cX0_of 20 = .ok (.aload_n 0, 1) := dk_42 (dk_at dksX0_of_0 20 rfl rfl)
theorem dX0_of_21 : decode cX0_of 21 = .ok (.invokevirtual 98, 3) := dk_182 0 98 (dk_at dksX0_of_0 21 rfl rfl)
theorem dX0_of_24 : decode cX0_of 24 = .ok (.ireturn, 1) := dk_172 (dk_at dksX0_of_1 0 rfl rfl)
theorem dX0_of_25 : decode cX0_of 25 = .ok (.iload_n 2, 1) := dk_28 (dk_at dksX0_of_1 1 rfl rfl)
theorem dX0_of_26 : decode cX0_of 26 = .ok (.ifCond .ne 18, 3) := dk_154 0 18 (dk_at dksX0_of_1 2 rfl rfl)
theorem dX0_of_29 : decode cX0_of 29 = .ok (.aload_n 0, 1) := dk_42 (dk_at dksX0_of_1 5 rfl rfl)
theorem dX0_of_30 : decode cX0_of 30 = .ok (.getfield 10, 3) := dk_180 0 10 (dk_at dksX0_of_1 6 rfl rfl)
theorem dX0_of_33 : decode cX0_of 33 = .ok (.getfield 184, 3) := dk_180 0 184 (dk_at dksX0_of_1 9 rfl rfl)
theorem dX0_of_36 : decode cX0_of 36 = .ok (.iload_n 1, 1) := dk_27 (dk_at dksX0_of_1 12 rfl rfl)
theorem dX0_of_37 : decode cX0_of 37 = .ok (.aaload, 1) := dk_50 (dk_at dksX0_of_1 13 rfl rfl)
theorem dX0_of_38 : decode cX0_of 38 = .ok (.invokevirtual 188, 3) := dk_182 0 188 (dk_at dksX0_of_1 14 rfl rfl)
theorem dX0_of_41 : decode cX0_of 41 = .ok (.goto 32, 3) := dk_167 0 32 (dk_at dksX0_of_1 17 rfl rfl)
theorem dX0_of_44 : decode cX0_of 44 = .ok (.iload_n 2, 1) := dk_28 (dk_at dksX0_of_1 20 rfl rfl)
theorem dX0_of_45 : decode cX0_of 45 = .ok (.iconst 1, 1) := dk_4 (dk_at dksX0_of_1 21 rfl rfl)
theorem dX0_of_46 : decode cX0_of 46 = .ok (.if_icmp .ne 15, 3) := dk_160 0 15 (dk_at dksX0_of_2 0 rfl rfl)
theorem dX0_of_49 : decode cX0_of 49 = .ok (.aload_n 0, 1) := dk_42 (dk_at dksX0_of_2 3 rfl rfl)
theorem dX0_of_50 : decode cX0_of 50 = .ok (.getfield 10, 3) := dk_180 0 10 (dk_at dksX0_of_2 4 rfl rfl)
theorem dX0_of_53 : decode cX0_of 53 = .ok (.getfield 193, 3) := dk_180 0 193 (dk_at dksX0_of_2 7 rfl rfl)
theorem dX0_of_56 : decode cX0_of 56 = .ok (.iload_n 1, 1) := dk_27 (dk_at dksX0_of_2 10 rfl rfl)
theorem dX0_of_57 : decode cX0_of 57 = .ok (.iaload, 1) := dk_46 (dk_at dksX0_of_2 11 rfl rfl)
theorem dX0_of_58 : decode cX0_of 58 = .ok (.goto 15, 3) := dk_167 0 15 (dk_at dksX0_of_2 12 rfl rfl)
theorem dX0_of_61 : decode cX0_of 61 = .ok (.aload_n 0, 1) := dk_42 (dk_at dksX0_of_2 15 rfl rfl)
theorem dX0_of_62 : decode cX0_of 62 = .ok (.getfield 10, 3) := dk_180 0 10 (dk_at dksX0_of_2 16 rfl rfl)
theorem dX0_of_65 : decode cX0_of 65 = .ok (.getfield 148, 3) := dk_180 0 148 (dk_at dksX0_of_2 19 rfl rfl)
theorem dX0_of_68 : decode cX0_of 68 = .ok (.getfield 164, 3) := dk_180 0 164 (dk_at dksX0_of_3 0 rfl rfl)
theorem dX0_of_71 : decode cX0_of 71 = .ok (.iload_n 1, 1) := dk_27 (dk_at dksX0_of_3 3 rfl rfl)
theorem dX0_of_72 : decode cX0_of 72 = .ok (.iaload, 1) := dk_46 (dk_at dksX0_of_3 4 rfl rfl)
theorem dX0_of_73 : decode cX0_of 73 = .ok (.ireturn, 1) := dk_172 (dk_at dksX0_of_3 5 rfl rfl)
abbrev cX0_about : ByteArray := prog_1_method_28_code
def yX0_about : MethodName := ⟨RX0, "about", "(II)I"⟩
def dkwX0_about_3 : List UInt8 := [180, 0, 173, 27, 122, 4, 126, 172]
abbrev dktX0_about_3 : List UInt8 := dkwX0_about_3 ++ []
def dkwX0_about_2 : List UInt8 := [160, 0, 15, 42, 180, 0, 10, 180, 0, 203, 27, 46, 167, 0, 17, 42, 180, 0, 10, 180, 0, 148]
abbrev dktX0_about_2 : List UInt8 := dkwX0_about_2 ++ dktX0_about_3
def dkwX0_about_1 : List UInt8 := [172, 28, 154, 0, 18, 42, 180, 0, 10, 180, 0, 196, 27, 50, 182, 0, 200, 167, 0, 34, 28, 4]
abbrev dktX0_about_1 : List UInt8 := dkwX0_about_1 ++ dktX0_about_2
def dkwX0_about_0 : List UInt8 := [42, 27, 182, 0, 170, 153, 0, 15, 28, 133, 9, 20, 0, 182, 184, 0, 71, 154, 0, 8, 42, 182, 0, 98]
abbrev dktX0_about_0 : List UInt8 := dkwX0_about_0 ++ dktX0_about_1
theorem dksX0_about_0 : cX0_about.data.toList.drop 0 = dktX0_about_0 := by decide +kernel
theorem dksX0_about_1 : cX0_about.data.toList.drop 24 = dktX0_about_1 := dk_seg dksX0_about_0 24 rfl rfl
theorem dksX0_about_2 : cX0_about.data.toList.drop 46 = dktX0_about_2 := dk_seg dksX0_about_1 22 rfl rfl
theorem dksX0_about_3 : cX0_about.data.toList.drop 68 = dktX0_about_3 := dk_seg dksX0_about_2 22 rfl rfl
theorem dX0_about_0 : decode cX0_about 0 = .ok (.aload_n 0, 1) := dk_42 (dk_at dksX0_about_0 0 rfl rfl)
theorem dX0_about_1 : decode cX0_about 1 = .ok (.iload_n 1, 1) := dk_27 (dk_at dksX0_about_0 1 rfl rfl)
theorem dX0_about_2 : decode cX0_about 2 = .ok (.invokevirtual 170, 3) := dk_182 0 170 (dk_at dksX0_about_0 2 rfl rfl)
theorem dX0_about_5 : decode cX0_about 5 = .ok (.ifCond .eq 15, 3) := dk_153 0 15 (dk_at dksX0_about_0 5 rfl rfl)
theorem dX0_about_8 : decode cX0_about 8 = .ok (.iload_n 2, 1) := dk_28 (dk_at dksX0_about_0 8 rfl rfl)
theorem dX0_about_9 : decode cX0_about 9 = .ok (.i2l, 1) := dk_133 (dk_at dksX0_about_0 9 rfl rfl)
theorem dX0_about_10 : decode cX0_about 10 = .ok (.lconst 0, 1) := dk_9 (dk_at dksX0_about_0 10 rfl rfl)
theorem dX0_about_11 : decode cX0_about 11 = .ok (.ldc2_w 182, 3) := dk_20 0 182 (dk_at dksX0_about_0 11 rfl rfl)
theorem dX0_about_14 : decode cX0_about 14 = .ok (.invokestatic 71, 3) := dk_184 0 71 (dk_at dksX0_about_0 14 rfl rfl)
theorem dX0_about_17 : decode cX0_about 17 = .ok (.ifCond .ne 8, 3) := dk_154 0 8 (dk_at dksX0_about_0 17 rfl rfl)
theorem dX0_about_20 : decode cX0_about 20 = .ok (.aload_n 0, 1) := dk_42 (dk_at dksX0_about_0 20 rfl rfl)
theorem dX0_about_21 : decode cX0_about 21 = .ok (.invokevirtual 98, 3) := dk_182 0 98 (dk_at dksX0_about_0 21 rfl rfl)
theorem dX0_about_24 : decode cX0_about 24 = .ok (.ireturn, 1) := dk_172 (dk_at dksX0_about_1 0 rfl rfl)
theorem dX0_about_25 : decode cX0_about 25 = .ok (.iload_n 2, 1) := dk_28 (dk_at dksX0_about_1 1 rfl rfl)
theorem dX0_about_26 : decode cX0_about 26 = .ok (.ifCond .ne 18, 3) := dk_154 0 18 (dk_at dksX0_about_1 2 rfl rfl)
theorem dX0_about_29 : decode cX0_about 29 = .ok (.aload_n 0, 1) := dk_42 (dk_at dksX0_about_1 5 rfl rfl)
theorem dX0_about_30 : decode cX0_about 30 = .ok (.getfield 10, 3) := dk_180 0 10 (dk_at dksX0_about_1 6 rfl rfl)
theorem dX0_about_33 : decode cX0_about 33 = .ok (.getfield 196, 3) := dk_180 0 196 (dk_at dksX0_about_1 9 rfl rfl)
theorem dX0_about_36 : decode cX0_about 36 = .ok (.iload_n 1, 1) := dk_27 (dk_at dksX0_about_1 12 rfl rfl)
theorem dX0_about_37 : decode cX0_about 37 = .ok (.aaload, 1) := dk_50 (dk_at dksX0_about_1 13 rfl rfl)
theorem dX0_about_38 : decode cX0_about 38 = .ok (.invokevirtual 200, 3) := dk_182 0 200 (dk_at dksX0_about_1 14 rfl rfl)
theorem dX0_about_41 : decode cX0_about 41 = .ok (.goto 34, 3) := dk_167 0 34 (dk_at dksX0_about_1 17 rfl rfl)
theorem dX0_about_44 : decode cX0_about 44 = .ok (.iload_n 2, 1) := dk_28 (dk_at dksX0_about_1 20 rfl rfl)
theorem dX0_about_45 : decode cX0_about 45 = .ok (.iconst 1, 1) := dk_4 (dk_at dksX0_about_1 21 rfl rfl)
theorem dX0_about_46 : decode cX0_about 46 = .ok (.if_icmp .ne 15, 3) := dk_160 0 15 (dk_at dksX0_about_2 0 rfl rfl)
theorem dX0_about_49 : decode cX0_about 49 = .ok (.aload_n 0, 1) := dk_42 (dk_at dksX0_about_2 3 rfl rfl)
theorem dX0_about_50 : decode cX0_about 50 = .ok (.getfield 10, 3) := dk_180 0 10 (dk_at dksX0_about_2 4 rfl rfl)
theorem dX0_about_53 : decode cX0_about 53 = .ok (.getfield 203, 3) := dk_180 0 203 (dk_at dksX0_about_2 7 rfl rfl)
theorem dX0_about_56 : decode cX0_about 56 = .ok (.iload_n 1, 1) := dk_27 (dk_at dksX0_about_2 10 rfl rfl)
theorem dX0_about_57 : decode cX0_about 57 = .ok (.iaload, 1) := dk_46 (dk_at dksX0_about_2 11 rfl rfl)
theorem dX0_about_58 : decode cX0_about 58 = .ok (.goto 17, 3) := dk_167 0 17 (dk_at dksX0_about_2 12 rfl rfl)
theorem dX0_about_61 : decode cX0_about 61 = .ok (.aload_n 0, 1) := dk_42 (dk_at dksX0_about_2 15 rfl rfl)
theorem dX0_about_62 : decode cX0_about 62 = .ok (.getfield 10, 3) := dk_180 0 10 (dk_at dksX0_about_2 16 rfl rfl)
theorem dX0_about_65 : decode cX0_about 65 = .ok (.getfield 148, 3) := dk_180 0 148 (dk_at dksX0_about_2 19 rfl rfl)
theorem dX0_about_68 : decode cX0_about 68 = .ok (.getfield 173, 3) := dk_180 0 173 (dk_at dksX0_about_3 0 rfl rfl)
theorem dX0_about_71 : decode cX0_about 71 = .ok (.iload_n 1, 1) := dk_27 (dk_at dksX0_about_3 3 rfl rfl)
theorem dX0_about_72 : decode cX0_about 72 = .ok (.ishr, 1) := dk_122 (dk_at dksX0_about_3 4 rfl rfl)
theorem dX0_about_73 : decode cX0_about 73 = .ok (.iconst 1, 1) := dk_4 (dk_at dksX0_about_3 5 rfl rfl)
theorem dX0_about_74 : decode cX0_about 74 = .ok (.iand, 1) := dk_126 (dk_at dksX0_about_3 6 rfl rfl)
theorem dX0_about_75 : decode cX0_about 75 = .ok (.ireturn, 1) := dk_172 (dk_at dksX0_about_3 7 rfl rfl)
abbrev cX0_leans : ByteArray := prog_1_method_29_code
def yX0_leans : MethodName := ⟨RX0, "leans", "(III)I"⟩
def dkwX0_leans_3 : List UInt8 := [182, 0, 213, 172]
abbrev dktX0_leans_3 : List UInt8 := dkwX0_leans_3 ++ []
def dkwX0_leans_2 : List UInt8 := [180, 0, 148, 27, 28, 182, 0, 209, 167, 0, 19, 42, 180, 0, 10, 42, 180, 0, 10, 180, 0, 148, 27, 28]
abbrev dktX0_leans_2 : List UInt8 := dkwX0_leans_2 ++ dktX0_leans_3
def dkwX0_leans_1 : List UInt8 := [154, 0, 12, 42, 3, 17, 252, 24, 182, 0, 65, 172, 29, 154, 0, 22, 42, 180, 0, 10, 42, 180, 0, 10]
abbrev dktX0_leans_1 : List UInt8 := dkwX0_leans_1 ++ dktX0_leans_2
def dkwX0_leans_0 : List UInt8 := [42, 27, 182, 0, 161, 153, 0, 20, 28, 184, 0, 206, 153, 0, 13, 29, 133, 9, 10, 184, 0, 71]
abbrev dktX0_leans_0 : List UInt8 := dkwX0_leans_0 ++ dktX0_leans_1
theorem dksX0_leans_0 : cX0_leans.data.toList.drop 0 = dktX0_leans_0 := by decide +kernel
theorem dksX0_leans_1 : cX0_leans.data.toList.drop 22 = dktX0_leans_1 := dk_seg dksX0_leans_0 22 rfl rfl
theorem dksX0_leans_2 : cX0_leans.data.toList.drop 46 = dktX0_leans_2 := dk_seg dksX0_leans_1 24 rfl rfl
theorem dksX0_leans_3 : cX0_leans.data.toList.drop 70 = dktX0_leans_3 := dk_seg dksX0_leans_2 24 rfl rfl
theorem dX0_leans_0 : decode cX0_leans 0 = .ok (.aload_n 0, 1) := dk_42 (dk_at dksX0_leans_0 0 rfl rfl)
theorem dX0_leans_1 : decode cX0_leans 1 = .ok (.iload_n 1, 1) := dk_27 (dk_at dksX0_leans_0 1 rfl rfl)
theorem dX0_leans_2 : decode cX0_leans 2 = .ok (.invokevirtual 161, 3) := dk_182 0 161 (dk_at dksX0_leans_0 2 rfl rfl)
theorem dX0_leans_5 : decode cX0_leans 5 = .ok (.ifCond .eq 20, 3) := dk_153 0 20 (dk_at dksX0_leans_0 5 rfl rfl)
theorem dX0_leans_8 : decode cX0_leans 8 = .ok (.iload_n 2, 1) := dk_28 (dk_at dksX0_leans_0 8 rfl rfl)
theorem dX0_leans_9 : decode cX0_leans 9 = .ok (.invokestatic 206, 3) := dk_184 0 206 (dk_at dksX0_leans_0 9 rfl rfl)
theorem dX0_leans_12 : decode cX0_leans 12 = .ok (.ifCond .eq 13, 3) := dk_153 0 13 (dk_at dksX0_leans_0 12 rfl rfl)
theorem dX0_leans_15 : decode cX0_leans 15 = .ok (.iload_n 3, 1) := dk_29 (dk_at dksX0_leans_0 15 rfl rfl)
theorem dX0_leans_16 : decode cX0_leans 16 = .ok (.i2l, 1) := dk_133 (dk_at dksX0_leans_0 16 rfl rfl)
theorem dX0_leans_17 : decode cX0_leans 17 = .ok (.lconst 0, 1) := dk_9 (dk_at dksX0_leans_0 17 rfl rfl)
theorem dX0_leans_18 : decode cX0_leans 18 = .ok (.lconst 1, 1) := dk_10 (dk_at dksX0_leans_0 18 rfl rfl)
theorem dX0_leans_19 : decode cX0_leans 19 = .ok (.invokestatic 71, 3) := dk_184 0 71 (dk_at dksX0_leans_0 19 rfl rfl)
theorem dX0_leans_22 : decode cX0_leans 22 = .ok (.ifCond .ne 12, 3) := dk_154 0 12 (dk_at dksX0_leans_1 0 rfl rfl)
theorem dX0_leans_25 : decode cX0_leans 25 = .ok (.aload_n 0, 1) := dk_42 (dk_at dksX0_leans_1 3 rfl rfl)
theorem dX0_leans_26 : decode cX0_leans 26 = .ok (.iconst 0, 1) := dk_3 (dk_at dksX0_leans_1 4 rfl rfl)
theorem dX0_leans_27 : decode cX0_leans 27 = .ok (.sipush (-1000), 3) := dk_17 252 24 (dk_at dksX0_leans_1 5 rfl rfl)
theorem dX0_leans_30 : decode cX0_leans 30 = .ok (.invokevirtual 65, 3) := dk_182 0 65 (dk_at dksX0_leans_1 8 rfl rfl)
theorem dX0_leans_33 : decode cX0_leans 33 = .ok (.ireturn, 1) := dk_172 (dk_at dksX0_leans_1 11 rfl rfl)
theorem dX0_leans_34 : decode cX0_leans 34 = .ok (.iload_n 3, 1) := dk_29 (dk_at dksX0_leans_1 12 rfl rfl)
theorem dX0_leans_35 : decode cX0_leans 35 = .ok (.ifCond .ne 22, 3) := dk_154 0 22 (dk_at dksX0_leans_1 13 rfl rfl)
theorem dX0_leans_38 : decode cX0_leans 38 = .ok (.aload_n 0, 1) := dk_42 (dk_at dksX0_leans_1 16 rfl rfl)
theorem dX0_leans_39 : decode cX0_leans 39 = .ok (.getfield 10, 3) := dk_180 0 10 (dk_at dksX0_leans_1 17 rfl rfl)
theorem dX0_leans_42 : decode cX0_leans 42 = .ok (.aload_n 0, 1) := dk_42 (dk_at dksX0_leans_1 20 rfl rfl)
theorem dX0_leans_43 : decode cX0_leans 43 = .ok (.getfield 10, 3) := dk_180 0 10 (dk_at dksX0_leans_1 21 rfl rfl)
theorem dX0_leans_46 : decode cX0_leans 46 = .ok (.getfield 148, 3) := dk_180 0 148 (dk_at dksX0_leans_2 0 rfl rfl)
theorem dX0_leans_49 : decode cX0_leans 49 = .ok (.iload_n 1, 1) := dk_27 (dk_at dksX0_leans_2 3 rfl rfl)
theorem dX0_leans_50 : decode cX0_leans 50 = .ok (.iload_n 2, 1) := dk_28 (dk_at dksX0_leans_2 4 rfl rfl)
theorem dX0_leans_51 : decode cX0_leans 51 = .ok (.invokevirtual 209, 3) := dk_182 0 209 (dk_at dksX0_leans_2 5 rfl rfl)
theorem dX0_leans_54 : decode cX0_leans 54 = .ok (.goto 19, 3) := dk_167 0 19 (dk_at dksX0_leans_2 8 rfl rfl)
theorem dX0_leans_57 : decode cX0_leans 57 = .ok (.aload_n 0, 1) := dk_42 (dk_at dksX0_leans_2 11 rfl rfl)
theorem dX0_leans_58 : decode cX0_leans 58 = .ok (.getfield 10, 3) := dk_180 0 10 (dk_at dksX0_leans_2 12 rfl rfl)
theorem dX0_leans_61 : decode cX0_leans 61 = .ok (.aload_n 0, 1) := dk_42 (dk_at dksX0_leans_2 15 rfl rfl)
theorem dX0_leans_62 : decode cX0_leans 62 = .ok (.getfield 10, 3) := dk_180 0 10 (dk_at dksX0_leans_2 16 rfl rfl)
theorem dX0_leans_65 : decode cX0_leans 65 = .ok (.getfield 148, 3) := dk_180 0 148 (dk_at dksX0_leans_2 19 rfl rfl)
theorem dX0_leans_68 : decode cX0_leans 68 = .ok (.iload_n 1, 1) := dk_27 (dk_at dksX0_leans_2 22 rfl rfl)
theorem dX0_leans_69 : decode cX0_leans 69 = .ok (.iload_n 2, 1) := dk_28 (dk_at dksX0_leans_2 23 rfl rfl)
theorem dX0_leans_70 : decode cX0_leans 70 = .ok (.invokevirtual 213, 3) := dk_182 0 213 (dk_at dksX0_leans_3 0 rfl rfl)
theorem dX0_leans_73 : decode cX0_leans 73 = .ok (.ireturn, 1) := dk_172 (dk_at dksX0_leans_3 3 rfl rfl)
abbrev cX0_isCount : ByteArray := prog_1_method_12_code
def yX0_isCount : MethodName := ⟨RX0, "isCount", "(I)Z"⟩
def dkwX0_isCount_0 : List UInt8 := [26, 133, 9, 20, 0, 81, 184, 0, 71, 172]
abbrev dktX0_isCount_0 : List UInt8 := dkwX0_isCount_0 ++ []
theorem dksX0_isCount_0 : cX0_isCount.data.toList.drop 0 = dktX0_isCount_0 := by decide +kernel
theorem dX0_isCount_0 : decode cX0_isCount 0 = .ok (.iload_n 0, 1) := dk_26 (dk_at dksX0_isCount_0 0 rfl rfl)
theorem dX0_isCount_1 : decode cX0_isCount 1 = .ok (.i2l, 1) := dk_133 (dk_at dksX0_isCount_0 1 rfl rfl)
theorem dX0_isCount_2 : decode cX0_isCount 2 = .ok (.lconst 0, 1) := dk_9 (dk_at dksX0_isCount_0 2 rfl rfl)
theorem dX0_isCount_3 : decode cX0_isCount 3 = .ok (.ldc2_w 81, 3) := dk_20 0 81 (dk_at dksX0_isCount_0 3 rfl rfl)
theorem dX0_isCount_6 : decode cX0_isCount 6 = .ok (.invokestatic 71, 3) := dk_184 0 71 (dk_at dksX0_isCount_0 6 rfl rfl)
theorem dX0_isCount_9 : decode cX0_isCount 9 = .ok (.ireturn, 1) := dk_172 (dk_at dksX0_isCount_0 9 rfl rfl)
abbrev cX0_sound : ByteArray := prog_1_method_30_code
def yX0_sound : MethodName := ⟨RX0, "sound", "(I)I"⟩
def dkwX0_sound_1 : List UInt8 := [167, 0, 7, 42, 182, 0, 98, 172]
abbrev dktX0_sound_1 : List UInt8 := dkwX0_sound_1 ++ []
def dkwX0_sound_0 : List UInt8 := [27, 184, 0, 206, 153, 0, 21, 42, 180, 0, 10, 42, 180, 0, 10, 180, 0, 148, 27, 182, 0, 216]
abbrev dktX0_sound_0 : List UInt8 := dkwX0_sound_0 ++ dktX0_sound_1
theorem dksX0_sound_0 : cX0_sound.data.toList.drop 0 = dktX0_sound_0 := by decide +kernel
theorem dksX0_sound_1 : cX0_sound.data.toList.drop 22 = dktX0_sound_1 := dk_seg dksX0_sound_0 22 rfl rfl
theorem dX0_sound_0 : decode cX0_sound 0 = .ok (.iload_n 1, 1) := dk_27 (dk_at dksX0_sound_0 0 rfl rfl)
theorem dX0_sound_1 : decode cX0_sound 1 = .ok (.invokestatic 206, 3) := dk_184 0 206 (dk_at dksX0_sound_0 1 rfl rfl)
theorem dX0_sound_4 : decode cX0_sound 4 = .ok (.ifCond .eq 21, 3) := dk_153 0 21 (dk_at dksX0_sound_0 4 rfl rfl)
theorem dX0_sound_7 : decode cX0_sound 7 = .ok (.aload_n 0, 1) := dk_42 (dk_at dksX0_sound_0 7 rfl rfl)
theorem dX0_sound_8 : decode cX0_sound 8 = .ok (.getfield 10, 3) := dk_180 0 10 (dk_at dksX0_sound_0 8 rfl rfl)
theorem dX0_sound_11 : decode cX0_sound 11 = .ok (.aload_n 0, 1) := dk_42 (dk_at dksX0_sound_0 11 rfl rfl)
theorem dX0_sound_12 : decode cX0_sound 12 = .ok (.getfield 10, 3) := dk_180 0 10 (dk_at dksX0_sound_0 12 rfl rfl)
theorem dX0_sound_15 : decode cX0_sound 15 = .ok (.getfield 148, 3) := dk_180 0 148 (dk_at dksX0_sound_0 15 rfl rfl)
theorem dX0_sound_18 : decode cX0_sound 18 = .ok (.iload_n 1, 1) := dk_27 (dk_at dksX0_sound_0 18 rfl rfl)
theorem dX0_sound_19 : decode cX0_sound 19 = .ok (.invokevirtual 216, 3) := dk_182 0 216 (dk_at dksX0_sound_0 19 rfl rfl)
theorem dX0_sound_22 : decode cX0_sound 22 = .ok (.goto 7, 3) := dk_167 0 7 (dk_at dksX0_sound_1 0 rfl rfl)
theorem dX0_sound_25 : decode cX0_sound 25 = .ok (.aload_n 0, 1) := dk_42 (dk_at dksX0_sound_1 3 rfl rfl)
theorem dX0_sound_26 : decode cX0_sound 26 = .ok (.invokevirtual 98, 3) := dk_182 0 98 (dk_at dksX0_sound_1 4 rfl rfl)
theorem dX0_sound_29 : decode cX0_sound 29 = .ok (.ireturn, 1) := dk_172 (dk_at dksX0_sound_1 7 rfl rfl)
abbrev cX0_entry : ByteArray := prog_1_method_31_code
def yX0_entry : MethodName := ⟨RX0, "entry", "()I"⟩
def dkwX0_entry_1 : List UInt8 := [180, 0, 148, 180, 0, 151, 27, 96, 182, 0, 216, 158, 0, 5, 27, 172, 132, 1, 1, 167, 255, 216, 2, 172]
abbrev dktX0_entry_1 : List UInt8 := dkwX0_entry_1 ++ []
def dkwX0_entry_0 : List UInt8 := [3, 60, 27, 16, 60, 163, 0, 40, 42, 180, 0, 10, 42, 180, 0, 10, 180, 0, 148, 42, 180, 0, 10]
abbrev dktX0_entry_0 : List UInt8 := dkwX0_entry_0 ++ dktX0_entry_1
theorem dksX0_entry_0 : cX0_entry.data.toList.drop 0 = dktX0_entry_0 := by decide +kernel
theorem dksX0_entry_1 : cX0_entry.data.toList.drop 23 = dktX0_entry_1 := dk_seg dksX0_entry_0 23 rfl rfl
theorem dX0_entry_0 : decode cX0_entry 0 = .ok (.iconst 0, 1) := dk_3 (dk_at dksX0_entry_0 0 rfl rfl)
theorem dX0_entry_1 : decode cX0_entry 1 = .ok (.istore_n 1, 1) := dk_60 (dk_at dksX0_entry_0 1 rfl rfl)
theorem dX0_entry_2 : decode cX0_entry 2 = .ok (.iload_n 1, 1) := dk_27 (dk_at dksX0_entry_0 2 rfl rfl)
theorem dX0_entry_3 : decode cX0_entry 3 = .ok (.bipush 60, 2) := dk_16 60 (dk_at dksX0_entry_0 3 rfl rfl)
theorem dX0_entry_5 : decode cX0_entry 5 = .ok (.if_icmp .gt 40, 3) := dk_163 0 40 (dk_at dksX0_entry_0 5 rfl rfl)
theorem dX0_entry_8 : decode cX0_entry 8 = .ok (.aload_n 0, 1) := dk_42 (dk_at dksX0_entry_0 8 rfl rfl)
theorem dX0_entry_9 : decode cX0_entry 9 = .ok (.getfield 10, 3) := dk_180 0 10 (dk_at dksX0_entry_0 9 rfl rfl)
theorem dX0_entry_12 : decode cX0_entry 12 = .ok (.aload_n 0, 1) := dk_42 (dk_at dksX0_entry_0 12 rfl rfl)
theorem dX0_entry_13 : decode cX0_entry 13 = .ok (.getfield 10, 3) := dk_180 0 10 (dk_at dksX0_entry_0 13 rfl rfl)
theorem dX0_entry_16 : decode cX0_entry 16 = .ok (.getfield 148, 3) := dk_180 0 148 (dk_at dksX0_entry_0 16 rfl rfl)
theorem dX0_entry_19 : decode cX0_entry 19 = .ok (.aload_n 0, 1) := dk_42 (dk_at dksX0_entry_0 19 rfl rfl)
theorem dX0_entry_20 : decode cX0_entry 20 = .ok (.getfield 10, 3) := dk_180 0 10 (dk_at dksX0_entry_0 20 rfl rfl)
theorem dX0_entry_23 : decode cX0_entry 23 = .ok (.getfield 148, 3) := dk_180 0 148 (dk_at dksX0_entry_1 0 rfl rfl)
theorem dX0_entry_26 : decode cX0_entry 26 = .ok (.getfield 151, 3) := dk_180 0 151 (dk_at dksX0_entry_1 3 rfl rfl)
theorem dX0_entry_29 : decode cX0_entry 29 = .ok (.iload_n 1, 1) := dk_27 (dk_at dksX0_entry_1 6 rfl rfl)
theorem dX0_entry_30 : decode cX0_entry 30 = .ok (.iadd, 1) := dk_96 (dk_at dksX0_entry_1 7 rfl rfl)
theorem dX0_entry_31 : decode cX0_entry 31 = .ok (.invokevirtual 216, 3) := dk_182 0 216 (dk_at dksX0_entry_1 8 rfl rfl)
theorem dX0_entry_34 : decode cX0_entry 34 = .ok (.ifCond .le 5, 3) := dk_158 0 5 (dk_at dksX0_entry_1 11 rfl rfl)
theorem dX0_entry_37 : decode cX0_entry 37 = .ok (.iload_n 1, 1) := dk_27 (dk_at dksX0_entry_1 14 rfl rfl)
theorem dX0_entry_38 : decode cX0_entry 38 = .ok (.ireturn, 1) := dk_172 (dk_at dksX0_entry_1 15 rfl rfl)
theorem dX0_entry_39 : decode cX0_entry 39 = .ok (.iinc 1 1, 3) := dk_132 1 1 (dk_at dksX0_entry_1 16 rfl rfl)
theorem dX0_entry_42 : decode cX0_entry 42 = .ok (.goto (-40), 3) := dk_167 255 216 (dk_at dksX0_entry_1 19 rfl rfl)
theorem dX0_entry_45 : decode cX0_entry 45 = .ok (.iconst (-1), 1) := dk_2 (dk_at dksX0_entry_1 22 rfl rfl)
theorem dX0_entry_46 : decode cX0_entry 46 = .ok (.ireturn, 1) := dk_172 (dk_at dksX0_entry_1 23 rfl rfl)
abbrev cX0_then : ByteArray := prog_1_method_32_code
def yX0_then : MethodName := ⟨RX0, "then", "(I)I"⟩
def dkwX0_then_2 : List UInt8 := [182, 0, 154, 132, 2, 1, 167, 255, 237, 42, 180, 0, 26, 180, 0, 158, 172]
abbrev dktX0_then_2 : List UInt8 := dkwX0_then_2 ++ []
def dkwX0_then_1 : List UInt8 := [180, 0, 10, 180, 0, 148, 182, 0, 180, 3, 61, 28, 27, 162, 0, 20, 42, 180, 0, 10, 42, 180, 0, 26]
abbrev dktX0_then_1 : List UInt8 := dkwX0_then_1 ++ dktX0_then_2
def dkwX0_then_0 : List UInt8 := [27, 133, 9, 20, 0, 220, 184, 0, 71, 154, 0, 8, 42, 182, 0, 98, 172, 42, 180, 0, 26, 42]
abbrev dktX0_then_0 : List UInt8 := dkwX0_then_0 ++ dktX0_then_1
theorem dksX0_then_0 : cX0_then.data.toList.drop 0 = dktX0_then_0 := by decide +kernel
theorem dksX0_then_1 : cX0_then.data.toList.drop 22 = dktX0_then_1 := dk_seg dksX0_then_0 22 rfl rfl
theorem dksX0_then_2 : cX0_then.data.toList.drop 46 = dktX0_then_2 := dk_seg dksX0_then_1 24 rfl rfl
theorem dX0_then_0 : decode cX0_then 0 = .ok (.iload_n 1, 1) := dk_27 (dk_at dksX0_then_0 0 rfl rfl)
theorem dX0_then_1 : decode cX0_then 1 = .ok (.i2l, 1) := dk_133 (dk_at dksX0_then_0 1 rfl rfl)
theorem dX0_then_2 : decode cX0_then 2 = .ok (.lconst 0, 1) := dk_9 (dk_at dksX0_then_0 2 rfl rfl)
theorem dX0_then_3 : decode cX0_then 3 = .ok (.ldc2_w 220, 3) := dk_20 0 220 (dk_at dksX0_then_0 3 rfl rfl)
theorem dX0_then_6 : decode cX0_then 6 = .ok (.invokestatic 71, 3) := dk_184 0 71 (dk_at dksX0_then_0 6 rfl rfl)
theorem dX0_then_9 : decode cX0_then 9 = .ok (.ifCond .ne 8, 3) := dk_154 0 8 (dk_at dksX0_then_0 9 rfl rfl)
theorem dX0_then_12 : decode cX0_then 12 = .ok (.aload_n 0, 1) := dk_42 (dk_at dksX0_then_0 12 rfl rfl)
theorem dX0_then_13 : decode cX0_then 13 = .ok (.invokevirtual 98, 3) := dk_182 0 98 (dk_at dksX0_then_0 13 rfl rfl)
theorem dX0_then_16 : decode cX0_then 16 = .ok (.ireturn, 1) := dk_172 (dk_at dksX0_then_0 16 rfl rfl)
theorem dX0_then_17 : decode cX0_then 17 = .ok (.aload_n 0, 1) := dk_42 (dk_at dksX0_then_0 17 rfl rfl)
theorem dX0_then_18 : decode cX0_then 18 = .ok (.getfield 26, 3) := dk_180 0 26 (dk_at dksX0_then_0 18 rfl rfl)
theorem dX0_then_21 : decode cX0_then 21 = .ok (.aload_n 0, 1) := dk_42 (dk_at dksX0_then_0 21 rfl rfl)
theorem dX0_then_22 : decode cX0_then 22 = .ok (.getfield 10, 3) := dk_180 0 10 (dk_at dksX0_then_1 0 rfl rfl)
theorem dX0_then_25 : decode cX0_then 25 = .ok (.getfield 148, 3) := dk_180 0 148 (dk_at dksX0_then_1 3 rfl rfl)
theorem dX0_then_28 : decode cX0_then 28 = .ok (.invokevirtual 180, 3) := dk_182 0 180 (dk_at dksX0_then_1 6 rfl rfl)
theorem dX0_then_31 : decode cX0_then 31 = .ok (.iconst 0, 1) := dk_3 (dk_at dksX0_then_1 9 rfl rfl)
theorem dX0_then_32 : decode cX0_then 32 = .ok (.istore_n 2, 1) := dk_61 (dk_at dksX0_then_1 10 rfl rfl)
theorem dX0_then_33 : decode cX0_then 33 = .ok (.iload_n 2, 1) := dk_28 (dk_at dksX0_then_1 11 rfl rfl)
theorem dX0_then_34 : decode cX0_then 34 = .ok (.iload_n 1, 1) := dk_27 (dk_at dksX0_then_1 12 rfl rfl)
theorem dX0_then_35 : decode cX0_then 35 = .ok (.if_icmp .ge 20, 3) := dk_162 0 20 (dk_at dksX0_then_1 13 rfl rfl)
theorem dX0_then_38 : decode cX0_then 38 = .ok (.aload_n 0, 1) := dk_42 (dk_at dksX0_then_1 16 rfl rfl)
theorem dX0_then_39 : decode cX0_then 39 = .ok (.getfield 10, 3) := dk_180 0 10 (dk_at dksX0_then_1 17 rfl rfl)
theorem dX0_then_42 : decode cX0_then 42 = .ok (.aload_n 0, 1) := dk_42 (dk_at dksX0_then_1 20 rfl rfl)
theorem dX0_then_43 : decode cX0_then 43 = .ok (.getfield 26, 3) := dk_180 0 26 (dk_at dksX0_then_1 21 rfl rfl)
theorem dX0_then_46 : decode cX0_then 46 = .ok (.invokevirtual 154, 3) := dk_182 0 154 (dk_at dksX0_then_2 0 rfl rfl)
theorem dX0_then_49 : decode cX0_then 49 = .ok (.iinc 2 1, 3) := dk_132 2 1 (dk_at dksX0_then_2 3 rfl rfl)
theorem dX0_then_52 : decode cX0_then 52 = .ok (.goto (-19), 3) := dk_167 255 237 (dk_at dksX0_then_2 6 rfl rfl)
theorem dX0_then_55 : decode cX0_then 55 = .ok (.aload_n 0, 1) := dk_42 (dk_at dksX0_then_2 9 rfl rfl)
theorem dX0_then_56 : decode cX0_then 56 = .ok (.getfield 26, 3) := dk_180 0 26 (dk_at dksX0_then_2 10 rfl rfl)
theorem dX0_then_59 : decode cX0_then 59 = .ok (.getfield 158, 3) := dk_180 0 158 (dk_at dksX0_then_2 13 rfl rfl)
theorem dX0_then_62 : decode cX0_then 62 = .ok (.ireturn, 1) := dk_172 (dk_at dksX0_then_2 16 rfl rfl)
abbrev cX0_still : ByteArray := prog_1_method_34_code
def yX0_still : MethodName := ⟨RX0, "still", "(I)I"⟩
def dkwX0_still_4 : List UInt8 := [180, 0, 102, 182, 0, 232, 153, 0, 7, 29, 167, 0, 4, 28, 61, 132, 3, 1, 167, 255, 179, 28, 172]
abbrev dktX0_still_4 : List UInt8 := dkwX0_still_4 ++ []
def dkwX0_still_3 : List UInt8 := [4, 167, 0, 4, 3, 54, 4, 21, 4, 153, 0, 26, 42, 42, 180, 0, 26, 27, 42, 180, 0, 10]
abbrev dktX0_still_3 : List UInt8 := dkwX0_still_3 ++ dktX0_still_4
def dkwX0_still_2 : List UInt8 := [42, 180, 0, 26, 29, 181, 0, 173, 28, 2, 159, 0, 14, 29, 184, 0, 226, 28, 184, 0, 226, 162, 0, 7]
abbrev dktX0_still_2 : List UInt8 := dkwX0_still_2 ++ dktX0_still_3
def dkwX0_still_1 : List UInt8 := [180, 0, 10, 180, 0, 148, 182, 0, 180, 3, 62, 29, 4, 42, 180, 0, 10, 180, 0, 91, 120, 162, 0, 70]
abbrev dktX0_still_1 : List UInt8 := dkwX0_still_1 ++ dktX0_still_2
def dkwX0_still_0 : List UInt8 := [27, 133, 10, 20, 0, 220, 184, 0, 71, 154, 0, 8, 42, 182, 0, 98, 172, 2, 61, 42, 180, 0, 26, 42]
abbrev dktX0_still_0 : List UInt8 := dkwX0_still_0 ++ dktX0_still_1
theorem dksX0_still_0 : cX0_still.data.toList.drop 0 = dktX0_still_0 := by decide +kernel
theorem dksX0_still_1 : cX0_still.data.toList.drop 24 = dktX0_still_1 := dk_seg dksX0_still_0 24 rfl rfl
theorem dksX0_still_2 : cX0_still.data.toList.drop 48 = dktX0_still_2 := dk_seg dksX0_still_1 24 rfl rfl
theorem dksX0_still_3 : cX0_still.data.toList.drop 72 = dktX0_still_3 := dk_seg dksX0_still_2 24 rfl rfl
theorem dksX0_still_4 : cX0_still.data.toList.drop 94 = dktX0_still_4 := dk_seg dksX0_still_3 22 rfl rfl
theorem dX0_still_0 : decode cX0_still 0 = .ok (.iload_n 1, 1) := dk_27 (dk_at dksX0_still_0 0 rfl rfl)
theorem dX0_still_1 : decode cX0_still 1 = .ok (.i2l, 1) := dk_133 (dk_at dksX0_still_0 1 rfl rfl)
theorem dX0_still_2 : decode cX0_still 2 = .ok (.lconst 1, 1) := dk_10 (dk_at dksX0_still_0 2 rfl rfl)
theorem dX0_still_3 : decode cX0_still 3 = .ok (.ldc2_w 220, 3) := dk_20 0 220 (dk_at dksX0_still_0 3 rfl rfl)
theorem dX0_still_6 : decode cX0_still 6 = .ok (.invokestatic 71, 3) := dk_184 0 71 (dk_at dksX0_still_0 6 rfl rfl)
theorem dX0_still_9 : decode cX0_still 9 = .ok (.ifCond .ne 8, 3) := dk_154 0 8 (dk_at dksX0_still_0 9 rfl rfl)
theorem dX0_still_12 : decode cX0_still 12 = .ok (.aload_n 0, 1) := dk_42 (dk_at dksX0_still_0 12 rfl rfl)
theorem dX0_still_13 : decode cX0_still 13 = .ok (.invokevirtual 98, 3) := dk_182 0 98 (dk_at dksX0_still_0 13 rfl rfl)
theorem dX0_still_16 : decode cX0_still 16 = .ok (.ireturn, 1) := dk_172 (dk_at dksX0_still_0 16 rfl rfl)
theorem dX0_still_17 : decode cX0_still 17 = .ok (.iconst (-1), 1) := dk_2 (dk_at dksX0_still_0 17 rfl rfl)
theorem dX0_still_18 : decode cX0_still 18 = .ok (.istore_n 2, 1) := dk_61 (dk_at dksX0_still_0 18 rfl rfl)
theorem dX0_still_19 : decode cX0_still 19 = .ok (.aload_n 0, 1) := dk_42 (dk_at dksX0_still_0 19 rfl rfl)
theorem dX0_still_20 : decode cX0_still 20 = .ok (.getfield 26, 3) := dk_180 0 26 (dk_at dksX0_still_0 20 rfl rfl)
theorem dX0_still_23 : decode cX0_still 23 = .ok (.aload_n 0, 1) := dk_42 (dk_at dksX0_still_0 23 rfl rfl)
theorem dX0_still_24 : decode cX0_still 24 = .ok (.getfield 10, 3) := dk_180 0 10 (dk_at dksX0_still_1 0 rfl rfl)
theorem dX0_still_27 : decode cX0_still 27 = .ok (.getfield 148, 3) := dk_180 0 148 (dk_at dksX0_still_1 3 rfl rfl)
theorem dX0_still_30 : decode cX0_still 30 = .ok (.invokevirtual 180, 3) := dk_182 0 180 (dk_at dksX0_still_1 6 rfl rfl)
theorem dX0_still_33 : decode cX0_still 33 = .ok (.iconst 0, 1) := dk_3 (dk_at dksX0_still_1 9 rfl rfl)
theorem dX0_still_34 : decode cX0_still 34 = .ok (.istore_n 3, 1) := dk_62 (dk_at dksX0_still_1 10 rfl rfl)
theorem dX0_still_35 : decode cX0_still 35 = .ok (.iload_n 3, 1) := dk_29 (dk_at dksX0_still_1 11 rfl rfl)
theorem dX0_still_36 : decode cX0_still 36 = .ok (.iconst 1, 1) := dk_4 (dk_at dksX0_still_1 12 rfl rfl)
theorem dX0_still_37 : decode cX0_still 37 = .ok (.aload_n 0, 1) := dk_42 (dk_at dksX0_still_1 13 rfl rfl)
theorem dX0_still_38 : decode cX0_still 38 = .ok (.getfield 10, 3) := dk_180 0 10 (dk_at dksX0_still_1 14 rfl rfl)
theorem dX0_still_41 : decode cX0_still 41 = .ok (.getfield 91, 3) := dk_180 0 91 (dk_at dksX0_still_1 17 rfl rfl)
theorem dX0_still_44 : decode cX0_still 44 = .ok (.ishl, 1) := dk_120 (dk_at dksX0_still_1 20 rfl rfl)
theorem dX0_still_45 : decode cX0_still 45 = .ok (.if_icmp .ge 70, 3) := dk_162 0 70 (dk_at dksX0_still_1 21 rfl rfl)
theorem dX0_still_48 : decode cX0_still 48 = .ok (.aload_n 0, 1) := dk_42 (dk_at dksX0_still_2 0 rfl rfl)
theorem dX0_still_49 : decode cX0_still 49 = .ok (.getfield 26, 3) := dk_180 0 26 (dk_at dksX0_still_2 1 rfl rfl)
theorem dX0_still_52 : decode cX0_still 52 = .ok (.iload_n 3, 1) := dk_29 (dk_at dksX0_still_2 4 rfl rfl)
theorem dX0_still_53 : decode cX0_still 53 = .ok (.putfield 173, 3) := dk_181 0 173 (dk_at dksX0_still_2 5 rfl rfl)
theorem dX0_still_56 : decode cX0_still 56 = .ok (.iload_n 2, 1) := dk_28 (dk_at dksX0_still_2 8 rfl rfl)
theorem dX0_still_57 : decode cX0_still 57 = .ok (.iconst (-1), 1) := dk_2 (dk_at dksX0_still_2 9 rfl rfl)
theorem dX0_still_58 : decode cX0_still 58 = .ok (.if_icmp .eq 14, 3) := dk_159 0 14 (dk_at dksX0_still_2 10 rfl rfl)
theorem dX0_still_61 : decode cX0_still 61 = .ok (.iload_n 3, 1) := dk_29 (dk_at dksX0_still_2 13 rfl rfl)
theorem dX0_still_62 : decode cX0_still 62 = .ok (.invokestatic 226, 3) := dk_184 0 226 (dk_at dksX0_still_2 14 rfl rfl)
theorem dX0_still_65 : decode cX0_still 65 = .ok (.iload_n 2, 1) := dk_28 (dk_at dksX0_still_2 17 rfl rfl)
theorem dX0_still_66 : decode cX0_still 66 = .ok (.invokestatic 226, 3) := dk_184 0 226 (dk_at dksX0_still_2 18 rfl rfl)
theorem dX0_still_69 : decode cX0_still 69 = .ok (.if_icmp .ge 7, 3) := dk_162 0 7 (dk_at dksX0_still_2 21 rfl rfl)
theorem dX0_still_72 : decode cX0_still 72 = .ok (.iconst 1, 1) := dk_4 (dk_at dksX0_still_3 0 rfl rfl)
theorem dX0_still_73 : decode cX0_still 73 = .ok (.goto 4, 3) := dk_167 0 4 (dk_at dksX0_still_3 1 rfl rfl)
theorem dX0_still_76 : decode cX0_still 76 = .ok (.iconst 0, 1) := dk_3 (dk_at dksX0_still_3 4 rfl rfl)
theorem dX0_still_77 : decode cX0_still 77 = .ok (.istore 4, 2) := dk_54 4 (dk_at dksX0_still_3 5 rfl rfl)
theorem dX0_still_79 : decode cX0_still 79 = .ok (.iload 4, 2) := dk_21 4 (dk_at dksX0_still_3 7 rfl rfl)
theorem dX0_still_81 : decode cX0_still 81 = .ok (.ifCond .eq 26, 3) := dk_153 0 26 (dk_at dksX0_still_3 9 rfl rfl)
theorem dX0_still_84 : decode cX0_still 84 = .ok (.aload_n 0, 1) := dk_42 (dk_at dksX0_still_3 12 rfl rfl)
theorem dX0_still_85 : decode cX0_still 85 = .ok (.aload_n 0, 1) := dk_42 (dk_at dksX0_still_3 13 rfl rfl)
theorem dX0_still_86 : decode cX0_still 86 = .ok (.getfield 26, 3) := dk_180 0 26 (dk_at dksX0_still_3 14 rfl rfl)
theorem dX0_still_89 : decode cX0_still 89 = .ok (.iload_n 1, 1) := dk_27 (dk_at dksX0_still_3 17 rfl rfl)
theorem dX0_still_90 : decode cX0_still 90 = .ok (.aload_n 0, 1) := dk_42 (dk_at dksX0_still_3 18 rfl rfl)
theorem dX0_still_91 : decode cX0_still 91 = .ok (.getfield 10, 3) := dk_180 0 10 (dk_at dksX0_still_3 19 rfl rfl)
theorem dX0_still_94 : decode cX0_still 94 = .ok (.getfield 102, 3) := dk_180 0 102 (dk_at dksX0_still_4 0 rfl rfl)
theorem dX0_still_97 : decode cX0_still 97 = .ok (.invokevirtual 232, 3) := dk_182 0 232 (dk_at dksX0_still_4 3 rfl rfl)
theorem dX0_still_100 : decode cX0_still 100 = .ok (.ifCond .eq 7, 3) := dk_153 0 7 (dk_at dksX0_still_4 6 rfl rfl)
theorem dX0_still_103 : decode cX0_still 103 = .ok (.iload_n 3, 1) := dk_29 (dk_at dksX0_still_4 9 rfl rfl)
theorem dX0_still_104 : decode cX0_still 104 = .ok (.goto 4, 3) := dk_167 0 4 (dk_at dksX0_still_4 10 rfl rfl)
theorem dX0_still_107 : decode cX0_still 107 = .ok (.iload_n 2, 1) := dk_28 (dk_at dksX0_still_4 13 rfl rfl)
theorem dX0_still_108 : decode cX0_still 108 = .ok (.istore_n 2, 1) := dk_61 (dk_at dksX0_still_4 14 rfl rfl)
theorem dX0_still_109 : decode cX0_still 109 = .ok (.iinc 3 1, 3) := dk_132 3 1 (dk_at dksX0_still_4 15 rfl rfl)
theorem dX0_still_112 : decode cX0_still 112 = .ok (.goto (-77), 3) := dk_167 255 179 (dk_at dksX0_still_4 18 rfl rfl)
theorem dX0_still_115 : decode cX0_still 115 = .ok (.iload_n 2, 1) := dk_28 (dk_at dksX0_still_4 21 rfl rfl)
theorem dX0_still_116 : decode cX0_still 116 = .ok (.ireturn, 1) := dk_172 (dk_at dksX0_still_4 22 rfl rfl)
abbrev cX0_isStill : ByteArray := prog_1_method_33_code
def yX0_isStill : MethodName := ⟨RX0, "isStill", "(LLaneCymbals$State;II)Z"⟩
def dkwX0_isStill_2 : List UInt8 := [3, 54, 4, 132, 5, 1, 167, 255, 209, 21, 4, 172]
abbrev dktX0_isStill_2 : List UInt8 := dkwX0_isStill_2 ++ []
def dkwX0_isStill_1 : List UInt8 := [180, 0, 10, 180, 0, 148, 180, 0, 151, 21, 5, 96, 29, 2, 182, 0, 222, 154, 0, 7, 4, 167, 0, 4]
abbrev dktX0_isStill_1 : List UInt8 := dkwX0_isStill_1 ++ dktX0_isStill_2
def dkwX0_isStill_0 : List UInt8 := [4, 54, 4, 3, 54, 5, 21, 5, 28, 162, 0, 47, 21, 4, 153, 0, 42, 42, 180, 0, 10, 43, 42]
abbrev dktX0_isStill_0 : List UInt8 := dkwX0_isStill_0 ++ dktX0_isStill_1
theorem dksX0_isStill_0 : cX0_isStill.data.toList.drop 0 = dktX0_isStill_0 := by decide +kernel
theorem dksX0_isStill_1 : cX0_isStill.data.toList.drop 23 = dktX0_isStill_1 := dk_seg dksX0_isStill_0 23 rfl rfl
theorem dksX0_isStill_2 : cX0_isStill.data.toList.drop 47 = dktX0_isStill_2 := dk_seg dksX0_isStill_1 24 rfl rfl
theorem dX0_isStill_0 : decode cX0_isStill 0 = .ok (.iconst 1, 1) := dk_4 (dk_at dksX0_isStill_0 0 rfl rfl)
theorem dX0_isStill_1 : decode cX0_isStill 1 = .ok (.istore 4, 2) := dk_54 4 (dk_at dksX0_isStill_0 1 rfl rfl)
theorem dX0_isStill_3 : decode cX0_isStill 3 = .ok (.iconst 0, 1) := dk_3 (dk_at dksX0_isStill_0 3 rfl rfl)
theorem dX0_isStill_4 : decode cX0_isStill 4 = .ok (.istore 5, 2) := dk_54 5 (dk_at dksX0_isStill_0 4 rfl rfl)
theorem dX0_isStill_6 : decode cX0_isStill 6 = .ok (.iload 5, 2) := dk_21 5 (dk_at dksX0_isStill_0 6 rfl rfl)
theorem dX0_isStill_8 : decode cX0_isStill 8 = .ok (.iload_n 2, 1) := dk_28 (dk_at dksX0_isStill_0 8 rfl rfl)
theorem dX0_isStill_9 : decode cX0_isStill 9 = .ok (.if_icmp .ge 47, 3) := dk_162 0 47 (dk_at dksX0_isStill_0 9 rfl rfl)
theorem dX0_isStill_12 : decode cX0_isStill 12 = .ok (.iload 4, 2) := dk_21 4 (dk_at dksX0_isStill_0 12 rfl rfl)
theorem dX0_isStill_14 : decode cX0_isStill 14 = .ok (.ifCond .eq 42, 3) := dk_153 0 42 (dk_at dksX0_isStill_0 14 rfl rfl)
theorem dX0_isStill_17 : decode cX0_isStill 17 = .ok (.aload_n 0, 1) := dk_42 (dk_at dksX0_isStill_0 17 rfl rfl)
theorem dX0_isStill_18 : decode cX0_isStill 18 = .ok (.getfield 10, 3) := dk_180 0 10 (dk_at dksX0_isStill_0 18 rfl rfl)
theorem dX0_isStill_21 : decode cX0_isStill 21 = .ok (.aload_n 1, 1) := dk_43 (dk_at dksX0_isStill_0 21 rfl rfl)
theorem dX0_isStill_22 : decode cX0_isStill 22 = .ok (.aload_n 0, 1) := dk_42 (dk_at dksX0_isStill_0 22 rfl rfl)
theorem dX0_isStill_23 : decode cX0_isStill 23 = .ok (.getfield 10, 3) := dk_180 0 10 (dk_at dksX0_isStill_1 0 rfl rfl)
theorem dX0_isStill_26 : decode cX0_isStill 26 = .ok (.getfield 148, 3) := dk_180 0 148 (dk_at dksX0_isStill_1 3 rfl rfl)
theorem dX0_isStill_29 : decode cX0_isStill 29 = .ok (.getfield 151, 3) := dk_180 0 151 (dk_at dksX0_isStill_1 6 rfl rfl)
theorem dX0_isStill_32 : decode cX0_isStill 32 = .ok (.iload 5, 2) := dk_21 5 (dk_at dksX0_isStill_1 9 rfl rfl)
theorem dX0_isStill_34 : decode cX0_isStill 34 = .ok (.iadd, 1) := dk_96 (dk_at dksX0_isStill_1 11 rfl rfl)
theorem dX0_isStill_35 : decode cX0_isStill 35 = .ok (.iload_n 3, 1) := dk_29 (dk_at dksX0_isStill_1 12 rfl rfl)
theorem dX0_isStill_36 : decode cX0_isStill 36 = .ok (.iconst (-1), 1) := dk_2 (dk_at dksX0_isStill_1 13 rfl rfl)
theorem dX0_isStill_37 : decode cX0_isStill 37 = .ok (.invokevirtual 222, 3) := dk_182 0 222 (dk_at dksX0_isStill_1 14 rfl rfl)
theorem dX0_isStill_40 : decode cX0_isStill 40 = .ok (.ifCond .ne 7, 3) := dk_154 0 7 (dk_at dksX0_isStill_1 17 rfl rfl)
theorem dX0_isStill_43 : decode cX0_isStill 43 = .ok (.iconst 1, 1) := dk_4 (dk_at dksX0_isStill_1 20 rfl rfl)
theorem dX0_isStill_44 : decode cX0_isStill 44 = .ok (.goto 4, 3) := dk_167 0 4 (dk_at dksX0_isStill_1 21 rfl rfl)
theorem dX0_isStill_47 : decode cX0_isStill 47 = .ok (.iconst 0, 1) := dk_3 (dk_at dksX0_isStill_2 0 rfl rfl)
theorem dX0_isStill_48 : decode cX0_isStill 48 = .ok (.istore 4, 2) := dk_54 4 (dk_at dksX0_isStill_2 1 rfl rfl)
theorem dX0_isStill_50 : decode cX0_isStill 50 = .ok (.iinc 5 1, 3) := dk_132 5 1 (dk_at dksX0_isStill_2 3 rfl rfl)
theorem dX0_isStill_53 : decode cX0_isStill 53 = .ok (.goto (-47), 3) := dk_167 255 209 (dk_at dksX0_isStill_2 6 rfl rfl)
theorem dX0_isStill_56 : decode cX0_isStill 56 = .ok (.iload 4, 2) := dk_21 4 (dk_at dksX0_isStill_2 9 rfl rfl)
theorem dX0_isStill_58 : decode cX0_isStill 58 = .ok (.ireturn, 1) := dk_172 (dk_at dksX0_isStill_2 11 rfl rfl)
abbrev cX0_push : ByteArray := prog_1_method_35_code
def yX0_push : MethodName := ⟨RX0, "push", "(II)I"⟩
def dkwX0_push_3 : List UInt8 := [132, 3, 1, 167, 255, 220, 2, 172]
abbrev dktX0_push_3 : List UInt8 := dkwX0_push_3 ++ []
def dkwX0_push_2 : List UInt8 := [180, 0, 164, 27, 29, 79, 42, 180, 0, 10, 42, 180, 0, 26, 28, 182, 0, 216, 158, 0, 5, 29, 172]
abbrev dktX0_push_2 : List UInt8 := dkwX0_push_2 ++ dktX0_push_3
def dkwX0_push_1 : List UInt8 := [42, 180, 0, 10, 180, 0, 148, 182, 0, 180, 3, 62, 29, 16, 9, 163, 0, 36, 42, 180, 0, 26]
abbrev dktX0_push_1 : List UInt8 := dkwX0_push_1 ++ dktX0_push_2
def dkwX0_push_0 : List UInt8 := [42, 27, 182, 0, 161, 153, 0, 10, 28, 184, 0, 206, 154, 0, 8, 42, 182, 0, 98, 172, 42, 180, 0, 26]
abbrev dktX0_push_0 : List UInt8 := dkwX0_push_0 ++ dktX0_push_1
theorem dksX0_push_0 : cX0_push.data.toList.drop 0 = dktX0_push_0 := by decide +kernel
theorem dksX0_push_1 : cX0_push.data.toList.drop 24 = dktX0_push_1 := dk_seg dksX0_push_0 24 rfl rfl
theorem dksX0_push_2 : cX0_push.data.toList.drop 46 = dktX0_push_2 := dk_seg dksX0_push_1 22 rfl rfl
theorem dksX0_push_3 : cX0_push.data.toList.drop 69 = dktX0_push_3 := dk_seg dksX0_push_2 23 rfl rfl
theorem dX0_push_0 : decode cX0_push 0 = .ok (.aload_n 0, 1) := dk_42 (dk_at dksX0_push_0 0 rfl rfl)
theorem dX0_push_1 : decode cX0_push 1 = .ok (.iload_n 1, 1) := dk_27 (dk_at dksX0_push_0 1 rfl rfl)
theorem dX0_push_2 : decode cX0_push 2 = .ok (.invokevirtual 161, 3) := dk_182 0 161 (dk_at dksX0_push_0 2 rfl rfl)
theorem dX0_push_5 : decode cX0_push 5 = .ok (.ifCond .eq 10, 3) := dk_153 0 10 (dk_at dksX0_push_0 5 rfl rfl)
theorem dX0_push_8 : decode cX0_push 8 = .ok (.iload_n 2, 1) := dk_28 (dk_at dksX0_push_0 8 rfl rfl)
theorem dX0_push_9 : decode cX0_push 9 = .ok (.invokestatic 206, 3) := dk_184 0 206 (dk_at dksX0_push_0 9 rfl rfl)
theorem dX0_push_12 : decode cX0_push 12 = .ok (.ifCond .ne 8, 3) := dk_154 0 8 (dk_at dksX0_push_0 12 rfl rfl)
theorem dX0_push_15 : decode cX0_push 15 = .ok (.aload_n 0, 1) := dk_42 (dk_at dksX0_push_0 15 rfl rfl)
theorem dX0_push_16 : decode cX0_push 16 = .ok (.invokevirtual 98, 3) := dk_182 0 98 (dk_at dksX0_push_0 16 rfl rfl)
theorem dX0_push_19 : decode cX0_push 19 = .ok (.ireturn, 1) := dk_172 (dk_at dksX0_push_0 19 rfl rfl)
theorem dX0_push_20 : decode cX0_push 20 = .ok (.aload_n 0, 1) := dk_42 (dk_at dksX0_push_0 20 rfl rfl)
theorem dX0_push_21 : decode cX0_push 21 = .ok (.getfield 26, 3) := dk_180 0 26 (dk_at dksX0_push_0 21 rfl rfl)
theorem dX0_push_24 : decode cX0_push 24 = .ok (.aload_n 0, 1) := dk_42 (dk_at dksX0_push_1 0 rfl rfl)
theorem dX0_push_25 : decode cX0_push 25 = .ok (.getfield 10, 3) := dk_180 0 10 (dk_at dksX0_push_1 1 rfl rfl)
theorem dX0_push_28 : decode cX0_push 28 = .ok (.getfield 148, 3) := dk_180 0 148 (dk_at dksX0_push_1 4 rfl rfl)
theorem dX0_push_31 : decode cX0_push 31 = .ok (.invokevirtual 180, 3) := dk_182 0 180 (dk_at dksX0_push_1 7 rfl rfl)
theorem dX0_push_34 : decode cX0_push 34 = .ok (.iconst 0, 1) := dk_3 (dk_at dksX0_push_1 10 rfl rfl)
theorem dX0_push_35 : decode cX0_push 35 = .ok (.istore_n 3, 1) := dk_62 (dk_at dksX0_push_1 11 rfl rfl)
theorem dX0_push_36 : decode cX0_push 36 = .ok (.iload_n 3, 1) := dk_29 (dk_at dksX0_push_1 12 rfl rfl)
theorem dX0_push_37 : decode cX0_push 37 = .ok (.bipush 9, 2) := dk_16 9 (dk_at dksX0_push_1 13 rfl rfl)
theorem dX0_push_39 : decode cX0_push 39 = .ok (.if_icmp .gt 36, 3) := dk_163 0 36 (dk_at dksX0_push_1 15 rfl rfl)
theorem dX0_push_42 : decode cX0_push 42 = .ok (.aload_n 0, 1) := dk_42 (dk_at dksX0_push_1 18 rfl rfl)
theorem dX0_push_43 : decode cX0_push 43 = .ok (.getfield 26, 3) := dk_180 0 26 (dk_at dksX0_push_1 19 rfl rfl)
theorem dX0_push_46 : decode cX0_push 46 = .ok (.getfield 164, 3) := dk_180 0 164 (dk_at dksX0_push_2 0 rfl rfl)
theorem dX0_push_49 : decode cX0_push 49 = .ok (.iload_n 1, 1) := dk_27 (dk_at dksX0_push_2 3 rfl rfl)
theorem dX0_push_50 : decode cX0_push 50 = .ok (.iload_n 3, 1) := dk_29 (dk_at dksX0_push_2 4 rfl rfl)
theorem dX0_push_51 : decode cX0_push 51 = .ok (.iastore, 1) := dk_79 (dk_at dksX0_push_2 5 rfl rfl)
theorem dX0_push_52 : decode cX0_push 52 = .ok (.aload_n 0, 1) := dk_42 (dk_at dksX0_push_2 6 rfl rfl)
theorem dX0_push_53 : decode cX0_push 53 = .ok (.getfield 10, 3) := dk_180 0 10 (dk_at dksX0_push_2 7 rfl rfl)
theorem dX0_push_56 : decode cX0_push 56 = .ok (.aload_n 0, 1) := dk_42 (dk_at dksX0_push_2 10 rfl rfl)
theorem dX0_push_57 : decode cX0_push 57 = .ok (.getfield 26, 3) := dk_180 0 26 (dk_at dksX0_push_2 11 rfl rfl)
theorem dX0_push_60 : decode cX0_push 60 = .ok (.iload_n 2, 1) := dk_28 (dk_at dksX0_push_2 14 rfl rfl)
theorem dX0_push_61 : decode cX0_push 61 = .ok (.invokevirtual 216, 3) := dk_182 0 216 (dk_at dksX0_push_2 15 rfl rfl)
theorem dX0_push_64 : decode cX0_push 64 = .ok (.ifCond .le 5, 3) := dk_158 0 5 (dk_at dksX0_push_2 18 rfl rfl)
theorem dX0_push_67 : decode cX0_push 67 = .ok (.iload_n 3, 1) := dk_29 (dk_at dksX0_push_2 21 rfl rfl)
theorem dX0_push_68 : decode cX0_push 68 = .ok (.ireturn, 1) := dk_172 (dk_at dksX0_push_2 22 rfl rfl)
theorem dX0_push_69 : decode cX0_push 69 = .ok (.iinc 3 1, 3) := dk_132 3 1 (dk_at dksX0_push_3 0 rfl rfl)
theorem dX0_push_72 : decode cX0_push 72 = .ok (.goto (-36), 3) := dk_167 255 220 (dk_at dksX0_push_3 3 rfl rfl)
theorem dX0_push_75 : decode cX0_push 75 = .ok (.iconst (-1), 1) := dk_2 (dk_at dksX0_push_3 6 rfl rfl)
theorem dX0_push_76 : decode cX0_push 76 = .ok (.ireturn, 1) := dk_172 (dk_at dksX0_push_3 7 rfl rfl)
abbrev cX0_widest : ByteArray := prog_1_method_36_code
def yX0_widest : MethodName := ⟨RX0, "widest", "()I"⟩
def dkwX0_widest_1 : List UInt8 := [154, 0, 5, 27, 172, 132, 1, 255, 167, 255, 229, 2, 172]
abbrev dktX0_widest_1 : List UInt8 := dkwX0_widest_1 ++ []
def dkwX0_widest_0 : List UInt8 := [16, 30, 60, 27, 7, 161, 0, 28, 42, 42, 180, 0, 10, 180, 0, 148, 16, 60, 27, 182, 0, 232]
abbrev dktX0_widest_0 : List UInt8 := dkwX0_widest_0 ++ dktX0_widest_1
theorem dksX0_widest_0 : cX0_widest.data.toList.drop 0 = dktX0_widest_0 := by decide +kernel
theorem dksX0_widest_1 : cX0_widest.data.toList.drop 22 = dktX0_widest_1 := dk_seg dksX0_widest_0 22 rfl rfl
theorem dX0_widest_0 : decode cX0_widest 0 = .ok (.bipush 30, 2) := dk_16 30 (dk_at dksX0_widest_0 0 rfl rfl)
theorem dX0_widest_2 : decode cX0_widest 2 = .ok (.istore_n 1, 1) := dk_60 (dk_at dksX0_widest_0 2 rfl rfl)
theorem dX0_widest_3 : decode cX0_widest 3 = .ok (.iload_n 1, 1) := dk_27 (dk_at dksX0_widest_0 3 rfl rfl)
theorem dX0_widest_4 : decode cX0_widest 4 = .ok (.iconst 4, 1) := dk_7 (dk_at dksX0_widest_0 4 rfl rfl)
theorem dX0_widest_5 : decode cX0_widest 5 = .ok (.if_icmp .lt 28, 3) := dk_161 0 28 (dk_at dksX0_widest_0 5 rfl rfl)
theorem dX0_widest_8 : decode cX0_widest 8 = .ok (.aload_n 0, 1) := dk_42 (dk_at dksX0_widest_0 8 rfl rfl)
theorem dX0_widest_9 : decode cX0_widest 9 = .ok (.aload_n 0, 1) := dk_42 (dk_at dksX0_widest_0 9 rfl rfl)
theorem dX0_widest_10 : decode cX0_widest 10 = .ok (.getfield 10, 3) := dk_180 0 10 (dk_at dksX0_widest_0 10 rfl rfl)
theorem dX0_widest_13 : decode cX0_widest 13 = .ok (.getfield 148, 3) := dk_180 0 148 (dk_at dksX0_widest_0 13 rfl rfl)
theorem dX0_widest_16 : decode cX0_widest 16 = .ok (.bipush 60, 2) := dk_16 60 (dk_at dksX0_widest_0 16 rfl rfl)
theorem dX0_widest_18 : decode cX0_widest 18 = .ok (.iload_n 1, 1) := dk_27 (dk_at dksX0_widest_0 18 rfl rfl)
theorem dX0_widest_19 : decode cX0_widest 19 = .ok (.invokevirtual 232, 3) := dk_182 0 232 (dk_at dksX0_widest_0 19 rfl rfl)
theorem dX0_widest_22 : decode cX0_widest 22 = .ok (.ifCond .ne 5, 3) := dk_154 0 5 (dk_at dksX0_widest_1 0 rfl rfl)
theorem dX0_widest_25 : decode cX0_widest 25 = .ok (.iload_n 1, 1) := dk_27 (dk_at dksX0_widest_1 3 rfl rfl)
theorem dX0_widest_26 : decode cX0_widest 26 = .ok (.ireturn, 1) := dk_172 (dk_at dksX0_widest_1 4 rfl rfl)
theorem dX0_widest_27 : decode cX0_widest 27 = .ok (.iinc 1 (-1), 3) := dk_132 1 255 (dk_at dksX0_widest_1 5 rfl rfl)
theorem dX0_widest_30 : decode cX0_widest 30 = .ok (.goto (-27), 3) := dk_167 255 229 (dk_at dksX0_widest_1 8 rfl rfl)
theorem dX0_widest_33 : decode cX0_widest 33 = .ok (.iconst (-1), 1) := dk_2 (dk_at dksX0_widest_1 11 rfl rfl)
theorem dX0_widest_34 : decode cX0_widest 34 = .ok (.ireturn, 1) := dk_172 (dk_at dksX0_widest_1 12 rfl rfl)
abbrev cX0_wrong : ByteArray := prog_1_method_37_code
def yX0_wrong : MethodName := ⟨RX0, "wrong", "(I)I"⟩
def dkwX0_wrong_4 : List UInt8 := [167, 0, 4, 3, 128, 61, 132, 4, 1, 167, 255, 199, 28, 172]
abbrev dktX0_wrong_4 : List UInt8 := dkwX0_wrong_4 ++ []
def dkwX0_wrong_3 : List UInt8 := [180, 0, 148, 27, 42, 180, 0, 10, 180, 0, 102, 21, 4, 182, 0, 222, 154, 0, 10, 4, 21, 4, 120]
abbrev dktX0_wrong_3 : List UInt8 := dkwX0_wrong_3 ++ dktX0_wrong_4
def dkwX0_wrong_2 : List UInt8 := [180, 0, 10, 180, 0, 87, 162, 0, 51, 29, 153, 0, 47, 28, 42, 180, 0, 10, 42, 180, 0, 10]
abbrev dktX0_wrong_2 : List UInt8 := dkwX0_wrong_2 ++ dktX0_wrong_3
def dkwX0_wrong_1 : List UInt8 := [180, 0, 148, 27, 182, 0, 216, 158, 0, 7, 4, 167, 0, 4, 3, 62, 3, 54, 4, 21, 4, 42]
abbrev dktX0_wrong_1 : List UInt8 := dkwX0_wrong_1 ++ dktX0_wrong_2
def dkwX0_wrong_0 : List UInt8 := [27, 184, 0, 206, 154, 0, 8, 42, 182, 0, 98, 172, 3, 61, 42, 180, 0, 10, 42, 180, 0, 10]
abbrev dktX0_wrong_0 : List UInt8 := dkwX0_wrong_0 ++ dktX0_wrong_1
theorem dksX0_wrong_0 : cX0_wrong.data.toList.drop 0 = dktX0_wrong_0 := by decide +kernel
theorem dksX0_wrong_1 : cX0_wrong.data.toList.drop 22 = dktX0_wrong_1 := dk_seg dksX0_wrong_0 22 rfl rfl
theorem dksX0_wrong_2 : cX0_wrong.data.toList.drop 44 = dktX0_wrong_2 := dk_seg dksX0_wrong_1 22 rfl rfl
theorem dksX0_wrong_3 : cX0_wrong.data.toList.drop 66 = dktX0_wrong_3 := dk_seg dksX0_wrong_2 22 rfl rfl
theorem dksX0_wrong_4 : cX0_wrong.data.toList.drop 89 = dktX0_wrong_4 := dk_seg dksX0_wrong_3 23 rfl rfl
theorem dX0_wrong_0 : decode cX0_wrong 0 = .ok (.iload_n 1, 1) := dk_27 (dk_at dksX0_wrong_0 0 rfl rfl)
theorem dX0_wrong_1 : decode cX0_wrong 1 = .ok (.invokestatic 206, 3) := dk_184 0 206 (dk_at dksX0_wrong_0 1 rfl rfl)
theorem dX0_wrong_4 : decode cX0_wrong 4 = .ok (.ifCond .ne 8, 3) := dk_154 0 8 (dk_at dksX0_wrong_0 4 rfl rfl)
theorem dX0_wrong_7 : decode cX0_wrong 7 = .ok (.aload_n 0, 1) := dk_42 (dk_at dksX0_wrong_0 7 rfl rfl)
theorem dX0_wrong_8 : decode cX0_wrong 8 = .ok (.invokevirtual 98, 3) := dk_182 0 98 (dk_at dksX0_wrong_0 8 rfl rfl)
theorem dX0_wrong_11 : decode cX0_wrong 11 = .ok (.ireturn, 1) := dk_172 (dk_at dksX0_wrong_0 11 rfl rfl)
theorem dX0_wrong_12 : decode cX0_wrong 12 = .ok (.iconst 0, 1) := dk_3 (dk_at dksX0_wrong_0 12 rfl rfl)
theorem dX0_wrong_13 : decode cX0_wrong 13 = .ok (.istore_n 2, 1) := dk_61 (dk_at dksX0_wrong_0 13 rfl rfl)
theorem dX0_wrong_14 : decode cX0_wrong 14 = .ok (.aload_n 0, 1) := dk_42 (dk_at dksX0_wrong_0 14 rfl rfl)
theorem dX0_wrong_15 : decode cX0_wrong 15 = .ok (.getfield 10, 3) := dk_180 0 10 (dk_at dksX0_wrong_0 15 rfl rfl)
theorem dX0_wrong_18 : decode cX0_wrong 18 = .ok (.aload_n 0, 1) := dk_42 (dk_at dksX0_wrong_0 18 rfl rfl)
theorem dX0_wrong_19 : decode cX0_wrong 19 = .ok (.getfield 10, 3) := dk_180 0 10 (dk_at dksX0_wrong_0 19 rfl rfl)
theorem dX0_wrong_22 : decode cX0_wrong 22 = .ok (.getfield 148, 3) := dk_180 0 148 (dk_at dksX0_wrong_1 0 rfl rfl)
theorem dX0_wrong_25 : decode cX0_wrong 25 = .ok (.iload_n 1, 1) := dk_27 (dk_at dksX0_wrong_1 3 rfl rfl)
theorem dX0_wrong_26 : decode cX0_wrong 26 = .ok (.invokevirtual 216, 3) := dk_182 0 216 (dk_at dksX0_wrong_1 4 rfl rfl)
theorem dX0_wrong_29 : decode cX0_wrong 29 = .ok (.ifCond .le 7, 3) := dk_158 0 7 (dk_at dksX0_wrong_1 7 rfl rfl)
theorem dX0_wrong_32 : decode cX0_wrong 32 = .ok (.iconst 1, 1) := dk_4 (dk_at dksX0_wrong_1 10 rfl rfl)
theorem dX0_wrong_33 : decode cX0_wrong 33 = .ok (.goto 4, 3) := dk_167 0 4 (dk_at dksX0_wrong_1 11 rfl rfl)
theorem dX0_wrong_36 : decode cX0_wrong 36 = .ok (.iconst 0, 1) := dk_3 (dk_at dksX0_wrong_1 14 rfl rfl)
theorem dX0_wrong_37 : decode cX0_wrong 37 = .ok (.istore_n 3, 1) := dk_62 (dk_at dksX0_wrong_1 15 rfl rfl)
theorem dX0_wrong_38 : decode cX0_wrong 38 = .ok (.iconst 0, 1) := dk_3 (dk_at dksX0_wrong_1 16 rfl rfl)
theorem dX0_wrong_39 : decode cX0_wrong 39 = .ok (.istore 4, 2) := dk_54 4 (dk_at dksX0_wrong_1 17 rfl rfl)
theorem dX0_wrong_41 : decode cX0_wrong 41 = .ok (.iload 4, 2) := dk_21 4 (dk_at dksX0_wrong_1 19 rfl rfl)
theorem dX0_wrong_43 : decode cX0_wrong 43 = .ok (.aload_n 0, 1) := dk_42 (dk_at dksX0_wrong_1 21 rfl rfl)
theorem dX0_wrong_44 : decode cX0_wrong 44 = .ok (.getfield 10, 3) := dk_180 0 10 (dk_at dksX0_wrong_2 0 rfl rfl)
theorem dX0_wrong_47 : decode cX0_wrong 47 = .ok (.getfield 87, 3) := dk_180 0 87 (dk_at dksX0_wrong_2 3 rfl rfl)
theorem dX0_wrong_50 : decode cX0_wrong 50 = .ok (.if_icmp .ge 51, 3) := dk_162 0 51 (dk_at dksX0_wrong_2 6 rfl rfl)
theorem dX0_wrong_53 : decode cX0_wrong 53 = .ok (.iload_n 3, 1) := dk_29 (dk_at dksX0_wrong_2 9 rfl rfl)
theorem dX0_wrong_54 : decode cX0_wrong 54 = .ok (.ifCond .eq 47, 3) := dk_153 0 47 (dk_at dksX0_wrong_2 10 rfl rfl)
theorem dX0_wrong_57 : decode cX0_wrong 57 = .ok (.iload_n 2, 1) := dk_28 (dk_at dksX0_wrong_2 13 rfl rfl)
theorem dX0_wrong_58 : decode cX0_wrong 58 = .ok (.aload_n 0, 1) := dk_42 (dk_at dksX0_wrong_2 14 rfl rfl)
theorem dX0_wrong_59 : decode cX0_wrong 59 = .ok (.getfield 10, 3) := dk_180 0 10 (dk_at dksX0_wrong_2 15 rfl rfl)
theorem dX0_wrong_62 : decode cX0_wrong 62 = .ok (.aload_n 0, 1) := dk_42 (dk_at dksX0_wrong_2 18 rfl rfl)
theorem dX0_wrong_63 : decode cX0_wrong 63 = .ok (.getfield 10, 3) := dk_180 0 10 (dk_at dksX0_wrong_2 19 rfl rfl)
theorem dX0_wrong_66 : decode cX0_wrong 66 = .ok (.getfield 148, 3) := dk_180 0 148 (dk_at dksX0_wrong_3 0 rfl rfl)
theorem dX0_wrong_69 : decode cX0_wrong 69 = .ok (.iload_n 1, 1) := dk_27 (dk_at dksX0_wrong_3 3 rfl rfl)
theorem dX0_wrong_70 : decode cX0_wrong 70 = .ok (.aload_n 0, 1) := dk_42 (dk_at dksX0_wrong_3 4 rfl rfl)
theorem dX0_wrong_71 : decode cX0_wrong 71 = .ok (.getfield 10, 3) := dk_180 0 10 (dk_at dksX0_wrong_3 5 rfl rfl)
theorem dX0_wrong_74 : decode cX0_wrong 74 = .ok (.getfield 102, 3) := dk_180 0 102 (dk_at dksX0_wrong_3 8 rfl rfl)
theorem dX0_wrong_77 : decode cX0_wrong 77 = .ok (.iload 4, 2) := dk_21 4 (dk_at dksX0_wrong_3 11 rfl rfl)
theorem dX0_wrong_79 : decode cX0_wrong 79 = .ok (.invokevirtual 222, 3) := dk_182 0 222 (dk_at dksX0_wrong_3 13 rfl rfl)
theorem dX0_wrong_82 : decode cX0_wrong 82 = .ok (.ifCond .ne 10, 3) := dk_154 0 10 (dk_at dksX0_wrong_3 16 rfl rfl)
theorem dX0_wrong_85 : decode cX0_wrong 85 = .ok (.iconst 1, 1) := dk_4 (dk_at dksX0_wrong_3 19 rfl rfl)
theorem dX0_wrong_86 : decode cX0_wrong 86 = .ok (.iload 4, 2) := dk_21 4 (dk_at dksX0_wrong_3 20 rfl rfl)
theorem dX0_wrong_88 : decode cX0_wrong 88 = .ok (.ishl, 1) := dk_120 (dk_at dksX0_wrong_3 22 rfl rfl)
theorem dX0_wrong_89 : decode cX0_wrong 89 = .ok (.goto 4, 3) := dk_167 0 4 (dk_at dksX0_wrong_4 0 rfl rfl)
theorem dX0_wrong_92 : decode cX0_wrong 92 = .ok (.iconst 0, 1) := dk_3 (dk_at dksX0_wrong_4 3 rfl rfl)
theorem dX0_wrong_93 : decode cX0_wrong 93 = .ok (.ior, 1) := dk_128 (dk_at dksX0_wrong_4 4 rfl rfl)
theorem dX0_wrong_94 : decode cX0_wrong 94 = .ok (.istore_n 2, 1) := dk_61 (dk_at dksX0_wrong_4 5 rfl rfl)
theorem dX0_wrong_95 : decode cX0_wrong 95 = .ok (.iinc 4 1, 3) := dk_132 4 1 (dk_at dksX0_wrong_4 6 rfl rfl)
theorem dX0_wrong_98 : decode cX0_wrong 98 = .ok (.goto (-57), 3) := dk_167 255 199 (dk_at dksX0_wrong_4 9 rfl rfl)
theorem dX0_wrong_101 : decode cX0_wrong 101 = .ok (.iload_n 2, 1) := dk_28 (dk_at dksX0_wrong_4 12 rfl rfl)
theorem dX0_wrong_102 : decode cX0_wrong 102 = .ok (.ireturn, 1) := dk_172 (dk_at dksX0_wrong_4 13 rfl rfl)
abbrev cX0_marry : ByteArray := prog_1_method_38_code
def yX0_marry : MethodName := ⟨RX0, "marry", "(I)I"⟩
def dkwX0_marry_2 : List UInt8 := [180, 0, 245, 27, 46, 172]
abbrev dktX0_marry_2 : List UInt8 := dkwX0_marry_2 ++ []
def dkwX0_marry_1 : List UInt8 := [182, 0, 239, 27, 2, 160, 0, 13, 42, 180, 0, 54, 180, 0, 242, 167, 0, 12, 42, 180, 0, 54]
abbrev dktX0_marry_1 : List UInt8 := dkwX0_marry_1 ++ dktX0_marry_2
def dkwX0_marry_0 : List UInt8 := [27, 2, 159, 0, 16, 42, 27, 182, 0, 161, 154, 0, 8, 42, 182, 0, 236, 172, 42, 180, 0, 54]
abbrev dktX0_marry_0 : List UInt8 := dkwX0_marry_0 ++ dktX0_marry_1
theorem dksX0_marry_0 : cX0_marry.data.toList.drop 0 = dktX0_marry_0 := by decide +kernel
theorem dksX0_marry_1 : cX0_marry.data.toList.drop 22 = dktX0_marry_1 := dk_seg dksX0_marry_0 22 rfl rfl
theorem dksX0_marry_2 : cX0_marry.data.toList.drop 44 = dktX0_marry_2 := dk_seg dksX0_marry_1 22 rfl rfl
theorem dX0_marry_0 : decode cX0_marry 0 = .ok (.iload_n 1, 1) := dk_27 (dk_at dksX0_marry_0 0 rfl rfl)
theorem dX0_marry_1 : decode cX0_marry 1 = .ok (.iconst (-1), 1) := dk_2 (dk_at dksX0_marry_0 1 rfl rfl)
theorem dX0_marry_2 : decode cX0_marry 2 = .ok (.if_icmp .eq 16, 3) := dk_159 0 16 (dk_at dksX0_marry_0 2 rfl rfl)
theorem dX0_marry_5 : decode cX0_marry 5 = .ok (.aload_n 0, 1) := dk_42 (dk_at dksX0_marry_0 5 rfl rfl)
theorem dX0_marry_6 : decode cX0_marry 6 = .ok (.iload_n 1, 1) := dk_27 (dk_at dksX0_marry_0 6 rfl rfl)
theorem dX0_marry_7 : decode cX0_marry 7 = .ok (.invokevirtual 161, 3) := dk_182 0 161 (dk_at dksX0_marry_0 7 rfl rfl)
theorem dX0_marry_10 : decode cX0_marry 10 = .ok (.ifCond .ne 8, 3) := dk_154 0 8 (dk_at dksX0_marry_0 10 rfl rfl)
theorem dX0_marry_13 : decode cX0_marry 13 = .ok (.aload_n 0, 1) := dk_42 (dk_at dksX0_marry_0 13 rfl rfl)
theorem dX0_marry_14 : decode cX0_marry 14 = .ok (.invokevirtual 236, 3) := dk_182 0 236 (dk_at dksX0_marry_0 14 rfl rfl)
theorem dX0_marry_17 : decode cX0_marry 17 = .ok (.ireturn, 1) := dk_172 (dk_at dksX0_marry_0 17 rfl rfl)
theorem dX0_marry_18 : decode cX0_marry 18 = .ok (.aload_n 0, 1) := dk_42 (dk_at dksX0_marry_0 18 rfl rfl)
theorem dX0_marry_19 : decode cX0_marry 19 = .ok (.getfield 54, 3) := dk_180 0 54 (dk_at dksX0_marry_0 19 rfl rfl)
theorem dX0_marry_22 : decode cX0_marry 22 = .ok (.invokevirtual 239, 3) := dk_182 0 239 (dk_at dksX0_marry_1 0 rfl rfl)
theorem dX0_marry_25 : decode cX0_marry 25 = .ok (.iload_n 1, 1) := dk_27 (dk_at dksX0_marry_1 3 rfl rfl)
theorem dX0_marry_26 : decode cX0_marry 26 = .ok (.iconst (-1), 1) := dk_2 (dk_at dksX0_marry_1 4 rfl rfl)
theorem dX0_marry_27 : decode cX0_marry 27 = .ok (.if_icmp .ne 13, 3) := dk_160 0 13 (dk_at dksX0_marry_1 5 rfl rfl)
theorem dX0_marry_30 : decode cX0_marry 30 = .ok (.aload_n 0, 1) := dk_42 (dk_at dksX0_marry_1 8 rfl rfl)
theorem dX0_marry_31 : decode cX0_marry 31 = .ok (.getfield 54, 3) := dk_180 0 54 (dk_at dksX0_marry_1 9 rfl rfl)
theorem dX0_marry_34 : decode cX0_marry 34 = .ok (.getfield 242, 3) := dk_180 0 242 (dk_at dksX0_marry_1 12 rfl rfl)
theorem dX0_marry_37 : decode cX0_marry 37 = .ok (.goto 12, 3) := dk_167 0 12 (dk_at dksX0_marry_1 15 rfl rfl)
theorem dX0_marry_40 : decode cX0_marry 40 = .ok (.aload_n 0, 1) := dk_42 (dk_at dksX0_marry_1 18 rfl rfl)
theorem dX0_marry_41 : decode cX0_marry 41 = .ok (.getfield 54, 3) := dk_180 0 54 (dk_at dksX0_marry_1 19 rfl rfl)
theorem dX0_marry_44 : decode cX0_marry 44 = .ok (.getfield 245, 3) := dk_180 0 245 (dk_at dksX0_marry_2 0 rfl rfl)
theorem dX0_marry_47 : decode cX0_marry 47 = .ok (.iload_n 1, 1) := dk_27 (dk_at dksX0_marry_2 3 rfl rfl)
theorem dX0_marry_48 : decode cX0_marry 48 = .ok (.iaload, 1) := dk_46 (dk_at dksX0_marry_2 4 rfl rfl)
theorem dX0_marry_49 : decode cX0_marry 49 = .ok (.ireturn, 1) := dk_172 (dk_at dksX0_marry_2 5 rfl rfl)
abbrev cX0_badAsk : ByteArray := prog_1_method_7_code
def yX0_badAsk : MethodName := ⟨RX0, "badAsk", "()I"⟩
def dkwX0_badAsk_0 : List UInt8 := [42, 3, 16, 246, 182, 0, 65, 172]
abbrev dktX0_badAsk_0 : List UInt8 := dkwX0_badAsk_0 ++ []
theorem dksX0_badAsk_0 : cX0_badAsk.data.toList.drop 0 = dktX0_badAsk_0 := by decide +kernel
theorem dX0_badAsk_0 : decode cX0_badAsk 0 = .ok (.aload_n 0, 1) := dk_42 (dk_at dksX0_badAsk_0 0 rfl rfl)
theorem dX0_badAsk_1 : decode cX0_badAsk 1 = .ok (.iconst 0, 1) := dk_3 (dk_at dksX0_badAsk_0 1 rfl rfl)
theorem dX0_badAsk_2 : decode cX0_badAsk 2 = .ok (.bipush (-10), 2) := dk_16 246 (dk_at dksX0_badAsk_0 2 rfl rfl)
theorem dX0_badAsk_4 : decode cX0_badAsk 4 = .ok (.invokevirtual 65, 3) := dk_182 0 65 (dk_at dksX0_badAsk_0 4 rfl rfl)
theorem dX0_badAsk_7 : decode cX0_badAsk 7 = .ok (.ireturn, 1) := dk_172 (dk_at dksX0_badAsk_0 7 rfl rfl)
abbrev cX0_heard : ByteArray := prog_1_method_39_code
def yX0_heard : MethodName := ⟨RX0, "heard", "(II)I"⟩
def dkwX0_heard_4 : List UInt8 := [180, 0, 10, 180, 0, 248, 172]
abbrev dktX0_heard_4 : List UInt8 := dkwX0_heard_4 ++ []
def dkwX0_heard_3 : List UInt8 := [180, 0, 248, 104, 4, 96, 28, 79, 42, 180, 0, 10, 89, 180, 0, 248, 4, 96, 181, 0, 248, 42]
abbrev dktX0_heard_3 : List UInt8 := dkwX0_heard_3 ++ dktX0_heard_4
def dkwX0_heard_2 : List UInt8 := [42, 180, 0, 10, 180, 0, 248, 104, 27, 79, 42, 180, 0, 10, 180, 0, 251, 5, 42, 180, 0, 10]
abbrev dktX0_heard_2 : List UInt8 := dkwX0_heard_2 ++ dktX0_heard_3
def dkwX0_heard_1 : List UInt8 := [180, 0, 10, 180, 0, 248, 16, 6, 160, 0, 8, 42, 182, 0, 117, 172, 42, 180, 0, 10, 180, 0, 251, 5]
abbrev dktX0_heard_1 : List UInt8 := dkwX0_heard_1 ++ dktX0_heard_2
def dkwX0_heard_0 : List UInt8 := [27, 184, 0, 206, 153, 0, 13, 28, 133, 9, 10, 184, 0, 71, 154, 0, 8, 42, 182, 0, 98, 172, 42]
abbrev dktX0_heard_0 : List UInt8 := dkwX0_heard_0 ++ dktX0_heard_1
theorem dksX0_heard_0 : cX0_heard.data.toList.drop 0 = dktX0_heard_0 := by decide +kernel
theorem dksX0_heard_1 : cX0_heard.data.toList.drop 23 = dktX0_heard_1 := dk_seg dksX0_heard_0 23 rfl rfl
theorem dksX0_heard_2 : cX0_heard.data.toList.drop 47 = dktX0_heard_2 := dk_seg dksX0_heard_1 24 rfl rfl
theorem dksX0_heard_3 : cX0_heard.data.toList.drop 69 = dktX0_heard_3 := dk_seg dksX0_heard_2 22 rfl rfl
theorem dksX0_heard_4 : cX0_heard.data.toList.drop 91 = dktX0_heard_4 := dk_seg dksX0_heard_3 22 rfl rfl
theorem dX0_heard_0 : decode cX0_heard 0 = .ok (.iload_n 1, 1) := dk_27 (dk_at dksX0_heard_0 0 rfl rfl)
theorem dX0_heard_1 : decode cX0_heard 1 = .ok (.invokestatic 206, 3) := dk_184 0 206 (dk_at dksX0_heard_0 1 rfl rfl)
theorem dX0_heard_4 : decode cX0_heard 4 = .ok (.ifCond .eq 13, 3) := dk_153 0 13 (dk_at dksX0_heard_0 4 rfl rfl)
theorem dX0_heard_7 : decode cX0_heard 7 = .ok (.iload_n 2, 1) := dk_28 (dk_at dksX0_heard_0 7 rfl rfl)
theorem dX0_heard_8 : decode cX0_heard 8 = .ok (.i2l, 1) := dk_133 (dk_at dksX0_heard_0 8 rfl rfl)
theorem dX0_heard_9 : decode cX0_heard 9 = .ok (.lconst 0, 1) := dk_9 (dk_at dksX0_heard_0 9 rfl rfl)
theorem dX0_heard_10 : decode cX0_heard 10 = .ok (.lconst 1, 1) := dk_10 (dk_at dksX0_heard_0 10 rfl rfl)
theorem dX0_heard_11 : decode cX0_heard 11 = .ok (.invokestatic 71, 3) := dk_184 0 71 (dk_at dksX0_heard_0 11 rfl rfl)
theorem dX0_heard_14 : decode cX0_heard 14 = .ok (.ifCond .ne 8, 3) := dk_154 0 8 (dk_at dksX0_heard_0 14 rfl rfl)
theorem dX0_heard_17 : decode cX0_heard 17 = .ok (.aload_n 0, 1) := dk_42 (dk_at dksX0_heard_0 17 rfl rfl)
theorem dX0_heard_18 : decode cX0_heard 18 = .ok (.invokevirtual 98, 3) := dk_182 0 98 (dk_at dksX0_heard_0 18 rfl rfl)
theorem dX0_heard_21 : decode cX0_heard 21 = .ok (.ireturn, 1) := dk_172 (dk_at dksX0_heard_0 21 rfl rfl)
theorem dX0_heard_22 : decode cX0_heard 22 = .ok (.aload_n 0, 1) := dk_42 (dk_at dksX0_heard_0 22 rfl rfl)
theorem dX0_heard_23 : decode cX0_heard 23 = .ok (.getfield 10, 3) := dk_180 0 10 (dk_at dksX0_heard_1 0 rfl rfl)
theorem dX0_heard_26 : decode cX0_heard 26 = .ok (.getfield 248, 3) := dk_180 0 248 (dk_at dksX0_heard_1 3 rfl rfl)
theorem dX0_heard_29 : decode cX0_heard 29 = .ok (.bipush 6, 2) := dk_16 6 (dk_at dksX0_heard_1 6 rfl rfl)
theorem dX0_heard_31 : decode cX0_heard 31 = .ok (.if_icmp .ne 8, 3) := dk_160 0 8 (dk_at dksX0_heard_1 8 rfl rfl)
theorem dX0_heard_34 : decode cX0_heard 34 = .ok (.aload_n 0, 1) := dk_42 (dk_at dksX0_heard_1 11 rfl rfl)
theorem dX0_heard_35 : decode cX0_heard 35 = .ok (.invokevirtual 117, 3) := dk_182 0 117 (dk_at dksX0_heard_1 12 rfl rfl)
theorem dX0_heard_38 : decode cX0_heard 38 = .ok (.ireturn, 1) := dk_172 (dk_at dksX0_heard_1 15 rfl rfl)
theorem dX0_heard_39 : decode cX0_heard 39 = .ok (.aload_n 0, 1) := dk_42 (dk_at dksX0_heard_1 16 rfl rfl)
theorem dX0_heard_40 : decode cX0_heard 40 = .ok (.getfield 10, 3) := dk_180 0 10 (dk_at dksX0_heard_1 17 rfl rfl)
theorem dX0_heard_43 : decode cX0_heard 43 = .ok (.getfield 251, 3) := dk_180 0 251 (dk_at dksX0_heard_1 20 rfl rfl)
theorem dX0_heard_46 : decode cX0_heard 46 = .ok (.iconst 2, 1) := dk_5 (dk_at dksX0_heard_1 23 rfl rfl)
theorem dX0_heard_47 : decode cX0_heard 47 = .ok (.aload_n 0, 1) := dk_42 (dk_at dksX0_heard_2 0 rfl rfl)
theorem dX0_heard_48 : decode cX0_heard 48 = .ok (.getfield 10, 3) := dk_180 0 10 (dk_at dksX0_heard_2 1 rfl rfl)
theorem dX0_heard_51 : decode cX0_heard 51 = .ok (.getfield 248, 3) := dk_180 0 248 (dk_at dksX0_heard_2 4 rfl rfl)
theorem dX0_heard_54 : decode cX0_heard 54 = .ok (.imul, 1) := dk_104 (dk_at dksX0_heard_2 7 rfl rfl)
theorem dX0_heard_55 : decode cX0_heard 55 = .ok (.iload_n 1, 1) := dk_27 (dk_at dksX0_heard_2 8 rfl rfl)
theorem dX0_heard_56 : decode cX0_heard 56 = .ok (.iastore, 1) := dk_79 (dk_at dksX0_heard_2 9 rfl rfl)
theorem dX0_heard_57 : decode cX0_heard 57 = .ok (.aload_n 0, 1) := dk_42 (dk_at dksX0_heard_2 10 rfl rfl)
theorem dX0_heard_58 : decode cX0_heard 58 = .ok (.getfield 10, 3) := dk_180 0 10 (dk_at dksX0_heard_2 11 rfl rfl)
theorem dX0_heard_61 : decode cX0_heard 61 = .ok (.getfield 251, 3) := dk_180 0 251 (dk_at dksX0_heard_2 14 rfl rfl)
theorem dX0_heard_64 : decode cX0_heard 64 = .ok (.iconst 2, 1) := dk_5 (dk_at dksX0_heard_2 17 rfl rfl)
theorem dX0_heard_65 : decode cX0_heard 65 = .ok (.aload_n 0, 1) := dk_42 (dk_at dksX0_heard_2 18 rfl rfl)
theorem dX0_heard_66 : decode cX0_heard 66 = .ok (.getfield 10, 3) := dk_180 0 10 (dk_at dksX0_heard_2 19 rfl rfl)
theorem dX0_heard_69 : decode cX0_heard 69 = .ok (.getfield 248, 3) := dk_180 0 248 (dk_at dksX0_heard_3 0 rfl rfl)
theorem dX0_heard_72 : decode cX0_heard 72 = .ok (.imul, 1) := dk_104 (dk_at dksX0_heard_3 3 rfl rfl)
theorem dX0_heard_73 : decode cX0_heard 73 = .ok (.iconst 1, 1) := dk_4 (dk_at dksX0_heard_3 4 rfl rfl)
theorem dX0_heard_74 : decode cX0_heard 74 = .ok (.iadd, 1) := dk_96 (dk_at dksX0_heard_3 5 rfl rfl)
theorem dX0_heard_75 : decode cX0_heard 75 = .ok (.iload_n 2, 1) := dk_28 (dk_at dksX0_heard_3 6 rfl rfl)
theorem dX0_heard_76 : decode cX0_heard 76 = .ok (.iastore, 1) := dk_79 (dk_at dksX0_heard_3 7 rfl rfl)
theorem dX0_heard_77 : decode cX0_heard 77 = .ok (.aload_n 0, 1) := dk_42 (dk_at dksX0_heard_3 8 rfl rfl)
theorem dX0_heard_78 : decode cX0_heard 78 = .ok (.getfield 10, 3) := dk_180 0 10 (dk_at dksX0_heard_3 9 rfl rfl)
theorem dX0_heard_81 : decode cX0_heard 81 = .ok (.dup, 1) := dk_89 (dk_at dksX0_heard_3 12 rfl rfl)
theorem dX0_heard_82 : decode cX0_heard 82 = .ok (.getfield 248, 3) := dk_180 0 248 (dk_at dksX0_heard_3 13 rfl rfl)
theorem dX0_heard_85 : decode cX0_heard 85 = .ok (.iconst 1, 1) := dk_4 (dk_at dksX0_heard_3 16 rfl rfl)
theorem dX0_heard_86 : decode cX0_heard 86 = .ok (.iadd, 1) := dk_96 (dk_at dksX0_heard_3 17 rfl rfl)
theorem dX0_heard_87 : decode cX0_heard 87 = .ok (.putfield 248, 3) := dk_181 0 248 (dk_at dksX0_heard_3 18 rfl rfl)
theorem dX0_heard_90 : decode cX0_heard 90 = .ok (.aload_n 0, 1) := dk_42 (dk_at dksX0_heard_3 21 rfl rfl)
theorem dX0_heard_91 : decode cX0_heard 91 = .ok (.getfield 10, 3) := dk_180 0 10 (dk_at dksX0_heard_4 0 rfl rfl)
theorem dX0_heard_94 : decode cX0_heard 94 = .ok (.getfield 248, 3) := dk_180 0 248 (dk_at dksX0_heard_4 3 rfl rfl)
theorem dX0_heard_97 : decode cX0_heard 97 = .ok (.ireturn, 1) := dk_172 (dk_at dksX0_heard_4 6 rfl rfl)
abbrev cX0_lanes : ByteArray := prog_1_method_41_code
def yX0_lanes : MethodName := ⟨RX0, "lanes", "()I"⟩
def dkwX0_lanes_1 : List UInt8 := [153, 0, 11, 4, 28, 7, 100, 120, 167, 0, 4, 3, 128, 60, 132, 2, 1, 167, 255, 220, 27, 172]
abbrev dktX0_lanes_1 : List UInt8 := dkwX0_lanes_1 ++ []
def dkwX0_lanes_0 : List UInt8 := [3, 60, 7, 61, 28, 16, 30, 163, 0, 36, 27, 42, 42, 180, 0, 10, 180, 0, 148, 28, 182, 0, 254]
abbrev dktX0_lanes_0 : List UInt8 := dkwX0_lanes_0 ++ dktX0_lanes_1
theorem dksX0_lanes_0 : cX0_lanes.data.toList.drop 0 = dktX0_lanes_0 := by decide +kernel
theorem dksX0_lanes_1 : cX0_lanes.data.toList.drop 23 = dktX0_lanes_1 := dk_seg dksX0_lanes_0 23 rfl rfl
theorem dX0_lanes_0 : decode cX0_lanes 0 = .ok (.iconst 0, 1) := dk_3 (dk_at dksX0_lanes_0 0 rfl rfl)
theorem dX0_lanes_1 : decode cX0_lanes 1 = .ok (.istore_n 1, 1) := dk_60 (dk_at dksX0_lanes_0 1 rfl rfl)
theorem dX0_lanes_2 : decode cX0_lanes 2 = .ok (.iconst 4, 1) := dk_7 (dk_at dksX0_lanes_0 2 rfl rfl)
theorem dX0_lanes_3 : decode cX0_lanes 3 = .ok (.istore_n 2, 1) := dk_61 (dk_at dksX0_lanes_0 3 rfl rfl)
theorem dX0_lanes_4 : decode cX0_lanes 4 = .ok (.iload_n 2, 1) := dk_28 (dk_at dksX0_lanes_0 4 rfl rfl)
theorem dX0_lanes_5 : decode cX0_lanes 5 = .ok (.bipush 30, 2) := dk_16 30 (dk_at dksX0_lanes_0 5 rfl rfl)
theorem dX0_lanes_7 : decode cX0_lanes 7 = .ok (.if_icmp .gt 36, 3) := dk_163 0 36 (dk_at dksX0_lanes_0 7 rfl rfl)
theorem dX0_lanes_10 : decode cX0_lanes 10 = .ok (.iload_n 1, 1) := dk_27 (dk_at dksX0_lanes_0 10 rfl rfl)
theorem dX0_lanes_11 : decode cX0_lanes 11 = .ok (.aload_n 0, 1) := dk_42 (dk_at dksX0_lanes_0 11 rfl rfl)
theorem dX0_lanes_12 : decode cX0_lanes 12 = .ok (.aload_n 0, 1) := dk_42 (dk_at dksX0_lanes_0 12 rfl rfl)
theorem dX0_lanes_13 : decode cX0_lanes 13 = .ok (.getfield 10, 3) := dk_180 0 10 (dk_at dksX0_lanes_0 13 rfl rfl)
theorem dX0_lanes_16 : decode cX0_lanes 16 = .ok (.getfield 148, 3) := dk_180 0 148 (dk_at dksX0_lanes_0 16 rfl rfl)
theorem dX0_lanes_19 : decode cX0_lanes 19 = .ok (.iload_n 2, 1) := dk_28 (dk_at dksX0_lanes_0 19 rfl rfl)
theorem dX0_lanes_20 : decode cX0_lanes 20 = .ok (.invokevirtual 254, 3) := dk_182 0 254 (dk_at dksX0_lanes_0 20 rfl rfl)
theorem dX0_lanes_23 : decode cX0_lanes 23 = .ok (.ifCond .eq 11, 3) := dk_153 0 11 (dk_at dksX0_lanes_1 0 rfl rfl)
theorem dX0_lanes_26 : decode cX0_lanes 26 = .ok (.iconst 1, 1) := dk_4 (dk_at dksX0_lanes_1 3 rfl rfl)
theorem dX0_lanes_27 : decode cX0_lanes 27 = .ok (.iload_n 2, 1) := dk_28 (dk_at dksX0_lanes_1 4 rfl rfl)
theorem dX0_lanes_28 : decode cX0_lanes 28 = .ok (.iconst 4, 1) := dk_7 (dk_at dksX0_lanes_1 5 rfl rfl)
theorem dX0_lanes_29 : decode cX0_lanes 29 = .ok (.isub, 1) := dk_100 (dk_at dksX0_lanes_1 6 rfl rfl)
theorem dX0_lanes_30 : decode cX0_lanes 30 = .ok (.ishl, 1) := dk_120 (dk_at dksX0_lanes_1 7 rfl rfl)
theorem dX0_lanes_31 : decode cX0_lanes 31 = .ok (.goto 4, 3) := dk_167 0 4 (dk_at dksX0_lanes_1 8 rfl rfl)
theorem dX0_lanes_34 : decode cX0_lanes 34 = .ok (.iconst 0, 1) := dk_3 (dk_at dksX0_lanes_1 11 rfl rfl)
theorem dX0_lanes_35 : decode cX0_lanes 35 = .ok (.ior, 1) := dk_128 (dk_at dksX0_lanes_1 12 rfl rfl)
theorem dX0_lanes_36 : decode cX0_lanes 36 = .ok (.istore_n 1, 1) := dk_60 (dk_at dksX0_lanes_1 13 rfl rfl)
theorem dX0_lanes_37 : decode cX0_lanes 37 = .ok (.iinc 2 1, 3) := dk_132 2 1 (dk_at dksX0_lanes_1 14 rfl rfl)
theorem dX0_lanes_40 : decode cX0_lanes 40 = .ok (.goto (-36), 3) := dk_167 255 220 (dk_at dksX0_lanes_1 17 rfl rfl)
theorem dX0_lanes_43 : decode cX0_lanes 43 = .ok (.iload_n 1, 1) := dk_27 (dk_at dksX0_lanes_1 20 rfl rfl)
theorem dX0_lanes_44 : decode cX0_lanes 44 = .ok (.ireturn, 1) := dk_172 (dk_at dksX0_lanes_1 21 rfl rfl)
abbrev cX0_isSo : ByteArray := prog_1_method_40_code
def yX0_isSo : MethodName := ⟨RX0, "isSo", "(LLaneCymbals$State;I)Z"⟩
def dkwX0_isSo_3 : List UInt8 := [167, 0, 4, 3, 160, 0, 7, 4, 167, 0, 4, 3, 62, 132, 4, 1, 167, 255, 175, 29, 172]
abbrev dktX0_isSo_3 : List UInt8 := dkwX0_isSo_3 ++ []
def dkwX0_isSo_2 : List UInt8 := [4, 167, 0, 4, 3, 42, 180, 0, 10, 180, 0, 251, 5, 21, 4, 104, 4, 96, 46, 4, 160, 0, 7, 4]
abbrev dktX0_isSo_2 : List UInt8 := dkwX0_isSo_2 ++ dktX0_isSo_3
def dkwX0_isSo_1 : List UInt8 := [180, 0, 10, 43, 42, 180, 0, 10, 180, 0, 251, 5, 21, 4, 104, 46, 28, 2, 182, 0, 222, 158, 0, 7]
abbrev dktX0_isSo_1 : List UInt8 := dkwX0_isSo_1 ++ dktX0_isSo_2
def dkwX0_isSo_0 : List UInt8 := [4, 62, 3, 54, 4, 21, 4, 42, 180, 0, 10, 180, 0, 248, 162, 0, 75, 29, 153, 0, 71, 42]
abbrev dktX0_isSo_0 : List UInt8 := dkwX0_isSo_0 ++ dktX0_isSo_1
theorem dksX0_isSo_0 : cX0_isSo.data.toList.drop 0 = dktX0_isSo_0 := by decide +kernel
theorem dksX0_isSo_1 : cX0_isSo.data.toList.drop 22 = dktX0_isSo_1 := dk_seg dksX0_isSo_0 22 rfl rfl
theorem dksX0_isSo_2 : cX0_isSo.data.toList.drop 46 = dktX0_isSo_2 := dk_seg dksX0_isSo_1 24 rfl rfl
theorem dksX0_isSo_3 : cX0_isSo.data.toList.drop 70 = dktX0_isSo_3 := dk_seg dksX0_isSo_2 24 rfl rfl
theorem dX0_isSo_0 : decode cX0_isSo 0 = .ok (.iconst 1, 1) := dk_4 (dk_at dksX0_isSo_0 0 rfl rfl)
theorem dX0_isSo_1 : decode cX0_isSo 1 = .ok (.istore_n 3, 1) := dk_62 (dk_at dksX0_isSo_0 1 rfl rfl)
theorem dX0_isSo_2 : decode cX0_isSo 2 = .ok (.iconst 0, 1) := dk_3 (dk_at dksX0_isSo_0 2 rfl rfl)
theorem dX0_isSo_3 : decode cX0_isSo 3 = .ok (.istore 4, 2) := dk_54 4 (dk_at dksX0_isSo_0 3 rfl rfl)
theorem dX0_isSo_5 : decode cX0_isSo 5 = .ok (.iload 4, 2) := dk_21 4 (dk_at dksX0_isSo_0 5 rfl rfl)
theorem dX0_isSo_7 : decode cX0_isSo 7 = .ok (.aload_n 0, 1) := dk_42 (dk_at dksX0_isSo_0 7 rfl rfl)
theorem dX0_isSo_8 : decode cX0_isSo 8 = .ok (.getfield 10, 3) := dk_180 0 10 (dk_at dksX0_isSo_0 8 rfl rfl)
theorem dX0_isSo_11 : decode cX0_isSo 11 = .ok (.getfield 248, 3) := dk_180 0 248 (dk_at dksX0_isSo_0 11 rfl rfl)
theorem dX0_isSo_14 : decode cX0_isSo 14 = .ok (.if_icmp .ge 75, 3) := dk_162 0 75 (dk_at dksX0_isSo_0 14 rfl rfl)
theorem dX0_isSo_17 : decode cX0_isSo 17 = .ok (.iload_n 3, 1) := dk_29 (dk_at dksX0_isSo_0 17 rfl rfl)
theorem dX0_isSo_18 : decode cX0_isSo 18 = .ok (.ifCond .eq 71, 3) := dk_153 0 71 (dk_at dksX0_isSo_0 18 rfl rfl)
theorem dX0_isSo_21 : decode cX0_isSo 21 = .ok (.aload_n 0, 1) := dk_42 (dk_at dksX0_isSo_0 21 rfl rfl)
theorem dX0_isSo_22 : decode cX0_isSo 22 = .ok (.getfield 10, 3) := dk_180 0 10 (dk_at dksX0_isSo_1 0 rfl rfl)
theorem dX0_isSo_25 : decode cX0_isSo 25 = .ok (.aload_n 1, 1) := dk_43 (dk_at dksX0_isSo_1 3 rfl rfl)
theorem dX0_isSo_26 : decode cX0_isSo 26 = .ok (.aload_n 0, 1) := dk_42 (dk_at dksX0_isSo_1 4 rfl rfl)
theorem dX0_isSo_27 : decode cX0_isSo 27 = .ok (.getfield 10, 3) := dk_180 0 10 (dk_at dksX0_isSo_1 5 rfl rfl)
theorem dX0_isSo_30 : decode cX0_isSo 30 = .ok (.getfield 251, 3) := dk_180 0 251 (dk_at dksX0_isSo_1 8 rfl rfl)
theorem dX0_isSo_33 : decode cX0_isSo 33 = .ok (.iconst 2, 1) := dk_5 (dk_at dksX0_isSo_1 11 rfl rfl)
theorem dX0_isSo_34 : decode cX0_isSo 34 = .ok (.iload 4, 2) := dk_21 4 (dk_at dksX0_isSo_1 12 rfl rfl)
theorem dX0_isSo_36 : decode cX0_isSo 36 = .ok (.imul, 1) := dk_104 (dk_at dksX0_isSo_1 14 rfl rfl)
theorem dX0_isSo_37 : decode cX0_isSo 37 = .ok (.iaload, 1) := dk_46 (dk_at dksX0_isSo_1 15 rfl rfl)
theorem dX0_isSo_38 : decode cX0_isSo 38 = .ok (.iload_n 2, 1) := dk_28 (dk_at dksX0_isSo_1 16 rfl rfl)
theorem dX0_isSo_39 : decode cX0_isSo 39 = .ok (.iconst (-1), 1) := dk_2 (dk_at dksX0_isSo_1 17 rfl rfl)
theorem dX0_isSo_40 : decode cX0_isSo 40 = .ok (.invokevirtual 222, 3) := dk_182 0 222 (dk_at dksX0_isSo_1 18 rfl rfl)
theorem dX0_isSo_43 : decode cX0_isSo 43 = .ok (.ifCond .le 7, 3) := dk_158 0 7 (dk_at dksX0_isSo_1 21 rfl rfl)
theorem dX0_isSo_46 : decode cX0_isSo 46 = .ok (.iconst 1, 1) := dk_4 (dk_at dksX0_isSo_2 0 rfl rfl)
theorem dX0_isSo_47 : decode cX0_isSo 47 = .ok (.goto 4, 3) := dk_167 0 4 (dk_at dksX0_isSo_2 1 rfl rfl)
theorem dX0_isSo_50 : decode cX0_isSo 50 = .ok (.iconst 0, 1) := dk_3 (dk_at dksX0_isSo_2 4 rfl rfl)
theorem dX0_isSo_51 : decode cX0_isSo 51 = .ok (.aload_n 0, 1) := dk_42 (dk_at dksX0_isSo_2 5 rfl rfl)
theorem dX0_isSo_52 : decode cX0_isSo 52 = .ok (.getfield 10, 3) := dk_180 0 10 (dk_at dksX0_isSo_2 6 rfl rfl)
theorem dX0_isSo_55 : decode cX0_isSo 55 = .ok (.getfield 251, 3) := dk_180 0 251 (dk_at dksX0_isSo_2 9 rfl rfl)
theorem dX0_isSo_58 : decode cX0_isSo 58 = .ok (.iconst 2, 1) := dk_5 (dk_at dksX0_isSo_2 12 rfl rfl)
theorem dX0_isSo_59 : decode cX0_isSo 59 = .ok (.iload 4, 2) := dk_21 4 (dk_at dksX0_isSo_2 13 rfl rfl)
theorem dX0_isSo_61 : decode cX0_isSo 61 = .ok (.imul, 1) := dk_104 (dk_at dksX0_isSo_2 15 rfl rfl)
theorem dX0_isSo_62 : decode cX0_isSo 62 = .ok (.iconst 1, 1) := dk_4 (dk_at dksX0_isSo_2 16 rfl rfl)
theorem dX0_isSo_63 : decode cX0_isSo 63 = .ok (.iadd, 1) := dk_96 (dk_at dksX0_isSo_2 17 rfl rfl)
theorem dX0_isSo_64 : decode cX0_isSo 64 = .ok (.iaload, 1) := dk_46 (dk_at dksX0_isSo_2 18 rfl rfl)
theorem dX0_isSo_65 : decode cX0_isSo 65 = .ok (.iconst 1, 1) := dk_4 (dk_at dksX0_isSo_2 19 rfl rfl)
theorem dX0_isSo_66 : decode cX0_isSo 66 = .ok (.if_icmp .ne 7, 3) := dk_160 0 7 (dk_at dksX0_isSo_2 20 rfl rfl)
theorem dX0_isSo_69 : decode cX0_isSo 69 = .ok (.iconst 1, 1) := dk_4 (dk_at dksX0_isSo_2 23 rfl rfl)
theorem dX0_isSo_70 : decode cX0_isSo 70 = .ok (.goto 4, 3) := dk_167 0 4 (dk_at dksX0_isSo_3 0 rfl rfl)
theorem dX0_isSo_73 : decode cX0_isSo 73 = .ok (.iconst 0, 1) := dk_3 (dk_at dksX0_isSo_3 3 rfl rfl)
theorem dX0_isSo_74 : decode cX0_isSo 74 = .ok (.if_icmp .ne 7, 3) := dk_160 0 7 (dk_at dksX0_isSo_3 4 rfl rfl)
theorem dX0_isSo_77 : decode cX0_isSo 77 = .ok (.iconst 1, 1) := dk_4 (dk_at dksX0_isSo_3 7 rfl rfl)
theorem dX0_isSo_78 : decode cX0_isSo 78 = .ok (.goto 4, 3) := dk_167 0 4 (dk_at dksX0_isSo_3 8 rfl rfl)
theorem dX0_isSo_81 : decode cX0_isSo 81 = .ok (.iconst 0, 1) := dk_3 (dk_at dksX0_isSo_3 11 rfl rfl)
theorem dX0_isSo_82 : decode cX0_isSo 82 = .ok (.istore_n 3, 1) := dk_62 (dk_at dksX0_isSo_3 12 rfl rfl)
theorem dX0_isSo_83 : decode cX0_isSo 83 = .ok (.iinc 4 1, 3) := dk_132 4 1 (dk_at dksX0_isSo_3 13 rfl rfl)
theorem dX0_isSo_86 : decode cX0_isSo 86 = .ok (.goto (-81), 3) := dk_167 255 175 (dk_at dksX0_isSo_3 16 rfl rfl)
theorem dX0_isSo_89 : decode cX0_isSo 89 = .ok (.iload_n 3, 1) := dk_29 (dk_at dksX0_isSo_3 19 rfl rfl)
theorem dX0_isSo_90 : decode cX0_isSo 90 = .ok (.ireturn, 1) := dk_172 (dk_at dksX0_isSo_3 20 rfl rfl)
abbrev cX0_swung : ByteArray := prog_1_method_42_code
def yX0_swung : MethodName := ⟨RX0, "swung", "(I)I"⟩
def dkwX0_swung_3 : List UInt8 := [167, 0, 4, 3, 128, 61, 132, 3, 1, 167, 255, 209, 28, 172]
abbrev dktX0_swung_3 : List UInt8 := dkwX0_swung_3 ++ []
def dkwX0_swung_2 : List UInt8 := [28, 42, 42, 180, 0, 26, 42, 180, 0, 10, 180, 0, 102, 182, 0, 254, 153, 0, 9, 4, 29, 120]
abbrev dktX0_swung_2 : List UInt8 := dkwX0_swung_2 ++ dktX0_swung_3
def dkwX0_swung_1 : List UInt8 := [180, 0, 148, 182, 0, 180, 3, 62, 29, 16, 9, 163, 0, 47, 42, 180, 0, 26, 180, 0, 164, 27, 29, 79]
abbrev dktX0_swung_1 : List UInt8 := dkwX0_swung_1 ++ dktX0_swung_2
def dkwX0_swung_0 : List UInt8 := [42, 27, 182, 0, 161, 154, 0, 8, 42, 182, 0, 98, 172, 3, 61, 42, 180, 0, 26, 42, 180, 0, 10]
abbrev dktX0_swung_0 : List UInt8 := dkwX0_swung_0 ++ dktX0_swung_1
theorem dksX0_swung_0 : cX0_swung.data.toList.drop 0 = dktX0_swung_0 := by decide +kernel
theorem dksX0_swung_1 : cX0_swung.data.toList.drop 23 = dktX0_swung_1 := dk_seg dksX0_swung_0 23 rfl rfl
theorem dksX0_swung_2 : cX0_swung.data.toList.drop 47 = dktX0_swung_2 := dk_seg dksX0_swung_1 24 rfl rfl
theorem dksX0_swung_3 : cX0_swung.data.toList.drop 69 = dktX0_swung_3 := dk_seg dksX0_swung_2 22 rfl rfl
theorem dX0_swung_0 : decode cX0_swung 0 = .ok (.aload_n 0, 1) := dk_42 (dk_at dksX0_swung_0 0 rfl rfl)
theorem dX0_swung_1 : decode cX0_swung 1 = .ok (.iload_n 1, 1) := dk_27 (dk_at dksX0_swung_0 1 rfl rfl)
theorem dX0_swung_2 : decode cX0_swung 2 = .ok (.invokevirtual 161, 3) := dk_182 0 161 (dk_at dksX0_swung_0 2 rfl rfl)
theorem dX0_swung_5 : decode cX0_swung 5 = .ok (.ifCond .ne 8, 3) := dk_154 0 8 (dk_at dksX0_swung_0 5 rfl rfl)
theorem dX0_swung_8 : decode cX0_swung 8 = .ok (.aload_n 0, 1) := dk_42 (dk_at dksX0_swung_0 8 rfl rfl)
theorem dX0_swung_9 : decode cX0_swung 9 = .ok (.invokevirtual 98, 3) := dk_182 0 98 (dk_at dksX0_swung_0 9 rfl rfl)
theorem dX0_swung_12 : decode cX0_swung 12 = .ok (.ireturn, 1) := dk_172 (dk_at dksX0_swung_0 12 rfl rfl)
theorem dX0_swung_13 : decode cX0_swung 13 = .ok (.iconst 0, 1) := dk_3 (dk_at dksX0_swung_0 13 rfl rfl)
theorem dX0_swung_14 : decode cX0_swung 14 = .ok (.istore_n 2, 1) := dk_61 (dk_at dksX0_swung_0 14 rfl rfl)
theorem dX0_swung_15 : decode cX0_swung 15 = .ok (.aload_n 0, 1) := dk_42 (dk_at dksX0_swung_0 15 rfl rfl)
theorem dX0_swung_16 : decode cX0_swung 16 = .ok (.getfield 26, 3) := dk_180 0 26 (dk_at dksX0_swung_0 16 rfl rfl)
theorem dX0_swung_19 : decode cX0_swung 19 = .ok (.aload_n 0, 1) := dk_42 (dk_at dksX0_swung_0 19 rfl rfl)
theorem dX0_swung_20 : decode cX0_swung 20 = .ok (.getfield 10, 3) := dk_180 0 10 (dk_at dksX0_swung_0 20 rfl rfl)
theorem dX0_swung_23 : decode cX0_swung 23 = .ok (.getfield 148, 3) := dk_180 0 148 (dk_at dksX0_swung_1 0 rfl rfl)
theorem dX0_swung_26 : decode cX0_swung 26 = .ok (.invokevirtual 180, 3) := dk_182 0 180 (dk_at dksX0_swung_1 3 rfl rfl)
theorem dX0_swung_29 : decode cX0_swung 29 = .ok (.iconst 0, 1) := dk_3 (dk_at dksX0_swung_1 6 rfl rfl)
theorem dX0_swung_30 : decode cX0_swung 30 = .ok (.istore_n 3, 1) := dk_62 (dk_at dksX0_swung_1 7 rfl rfl)
theorem dX0_swung_31 : decode cX0_swung 31 = .ok (.iload_n 3, 1) := dk_29 (dk_at dksX0_swung_1 8 rfl rfl)
theorem dX0_swung_32 : decode cX0_swung 32 = .ok (.bipush 9, 2) := dk_16 9 (dk_at dksX0_swung_1 9 rfl rfl)
theorem dX0_swung_34 : decode cX0_swung 34 = .ok (.if_icmp .gt 47, 3) := dk_163 0 47 (dk_at dksX0_swung_1 11 rfl rfl)
theorem dX0_swung_37 : decode cX0_swung 37 = .ok (.aload_n 0, 1) := dk_42 (dk_at dksX0_swung_1 14 rfl rfl)
theorem dX0_swung_38 : decode cX0_swung 38 = .ok (.getfield 26, 3) := dk_180 0 26 (dk_at dksX0_swung_1 15 rfl rfl)
theorem dX0_swung_41 : decode cX0_swung 41 = .ok (.getfield 164, 3) := dk_180 0 164 (dk_at dksX0_swung_1 18 rfl rfl)
theorem dX0_swung_44 : decode cX0_swung 44 = .ok (.iload_n 1, 1) := dk_27 (dk_at dksX0_swung_1 21 rfl rfl)
theorem dX0_swung_45 : decode cX0_swung 45 = .ok (.iload_n 3, 1) := dk_29 (dk_at dksX0_swung_1 22 rfl rfl)
theorem dX0_swung_46 : decode cX0_swung 46 = .ok (.iastore, 1) := dk_79 (dk_at dksX0_swung_1 23 rfl rfl)
theorem dX0_swung_47 : decode cX0_swung 47 = .ok (.iload_n 2, 1) := dk_28 (dk_at dksX0_swung_2 0 rfl rfl)
theorem dX0_swung_48 : decode cX0_swung 48 = .ok (.aload_n 0, 1) := dk_42 (dk_at dksX0_swung_2 1 rfl rfl)
theorem dX0_swung_49 : decode cX0_swung 49 = .ok (.aload_n 0, 1) := dk_42 (dk_at dksX0_swung_2 2 rfl rfl)
theorem dX0_swung_50 : decode cX0_swung 50 = .ok (.getfield 26, 3) := dk_180 0 26 (dk_at dksX0_swung_2 3 rfl rfl)
theorem dX0_swung_53 : decode cX0_swung 53 = .ok (.aload_n 0, 1) := dk_42 (dk_at dksX0_swung_2 6 rfl rfl)
theorem dX0_swung_54 : decode cX0_swung 54 = .ok (.getfield 10, 3) := dk_180 0 10 (dk_at dksX0_swung_2 7 rfl rfl)
theorem dX0_swung_57 : decode cX0_swung 57 = .ok (.getfield 102, 3) := dk_180 0 102 (dk_at dksX0_swung_2 10 rfl rfl)
theorem dX0_swung_60 : decode cX0_swung 60 = .ok (.invokevirtual 254, 3) := dk_182 0 254 (dk_at dksX0_swung_2 13 rfl rfl)
theorem dX0_swung_63 : decode cX0_swung 63 = .ok (.ifCond .eq 9, 3) := dk_153 0 9 (dk_at dksX0_swung_2 16 rfl rfl)
theorem dX0_swung_66 : decode cX0_swung 66 = .ok (.iconst 1, 1) := dk_4 (dk_at dksX0_swung_2 19 rfl rfl)
theorem dX0_swung_67 : decode cX0_swung 67 = .ok (.iload_n 3, 1) := dk_29 (dk_at dksX0_swung_2 20 rfl rfl)
theorem dX0_swung_68 : decode cX0_swung 68 = .ok (.ishl, 1) := dk_120 (dk_at dksX0_swung_2 21 rfl rfl)
theorem dX0_swung_69 : decode cX0_swung 69 = .ok (.goto 4, 3) := dk_167 0 4 (dk_at dksX0_swung_3 0 rfl rfl)
theorem dX0_swung_72 : decode cX0_swung 72 = .ok (.iconst 0, 1) := dk_3 (dk_at dksX0_swung_3 3 rfl rfl)
theorem dX0_swung_73 : decode cX0_swung 73 = .ok (.ior, 1) := dk_128 (dk_at dksX0_swung_3 4 rfl rfl)
theorem dX0_swung_74 : decode cX0_swung 74 = .ok (.istore_n 2, 1) := dk_61 (dk_at dksX0_swung_3 5 rfl rfl)
theorem dX0_swung_75 : decode cX0_swung 75 = .ok (.iinc 3 1, 3) := dk_132 3 1 (dk_at dksX0_swung_3 6 rfl rfl)
theorem dX0_swung_78 : decode cX0_swung 78 = .ok (.goto (-47), 3) := dk_167 255 209 (dk_at dksX0_swung_3 9 rfl rfl)
theorem dX0_swung_81 : decode cX0_swung 81 = .ok (.iload_n 2, 1) := dk_28 (dk_at dksX0_swung_3 12 rfl rfl)
theorem dX0_swung_82 : decode cX0_swung 82 = .ok (.ireturn, 1) := dk_172 (dk_at dksX0_swung_3 13 rfl rfl)
abbrev cX0_hear : ByteArray := prog_1_method_43_code
def yX0_hear : MethodName := ⟨RX0, "hear", "()I"⟩
def dkwX0_hear_5 : List UInt8 := [62, 21, 4, 21, 7, 184, 1, 11, 54, 4, 132, 5, 1, 167, 255, 145, 29, 172]
abbrev dktX0_hear_5 : List UInt8 := dkwX0_hear_5 ++ []
def dkwX0_hear_4 : List UInt8 := [21, 6, 28, 21, 6, 100, 184, 1, 6, 54, 7, 21, 7, 21, 4, 162, 0, 8, 21, 5, 167, 0, 4, 29]
abbrev dktX0_hear_4 : List UInt8 := dkwX0_hear_4 ++ dktX0_hear_5
def dkwX0_hear_3 : List UInt8 := [21, 7, 2, 182, 0, 222, 158, 0, 7, 4, 167, 0, 4, 3, 96, 54, 6, 132, 7, 1, 167, 255, 202]
abbrev dktX0_hear_3 : List UInt8 := dkwX0_hear_3 ++ dktX0_hear_4
def dkwX0_hear_2 : List UInt8 := [21, 7, 7, 100, 122, 4, 126, 4, 160, 0, 29, 42, 180, 0, 10, 42, 180, 0, 10, 180, 0, 148, 21, 5]
abbrev dktX0_hear_2 : List UInt8 := dkwX0_hear_2 ++ dktX0_hear_3
def dkwX0_hear_1 : List UInt8 := [162, 0, 110, 28, 158, 0, 106, 3, 54, 6, 7, 54, 7, 21, 7, 16, 30, 163, 0, 53, 21, 6, 27]
abbrev dktX0_hear_1 : List UInt8 := dkwX0_hear_1 ++ dktX0_hear_2
def dkwX0_hear_0 : List UInt8 := [42, 182, 1, 2, 60, 27, 184, 0, 226, 61, 2, 62, 19, 1, 5, 54, 4, 3, 54, 5, 21, 5, 16, 24]
abbrev dktX0_hear_0 : List UInt8 := dkwX0_hear_0 ++ dktX0_hear_1
theorem dksX0_hear_0 : cX0_hear.data.toList.drop 0 = dktX0_hear_0 := by decide +kernel
theorem dksX0_hear_1 : cX0_hear.data.toList.drop 24 = dktX0_hear_1 := dk_seg dksX0_hear_0 24 rfl rfl
theorem dksX0_hear_2 : cX0_hear.data.toList.drop 47 = dktX0_hear_2 := dk_seg dksX0_hear_1 23 rfl rfl
theorem dksX0_hear_3 : cX0_hear.data.toList.drop 71 = dktX0_hear_3 := dk_seg dksX0_hear_2 24 rfl rfl
theorem dksX0_hear_4 : cX0_hear.data.toList.drop 94 = dktX0_hear_4 := dk_seg dksX0_hear_3 23 rfl rfl
theorem dksX0_hear_5 : cX0_hear.data.toList.drop 118 = dktX0_hear_5 := dk_seg dksX0_hear_4 24 rfl rfl
theorem dX0_hear_0 : decode cX0_hear 0 = .ok (.aload_n 0, 1) := dk_42 (dk_at dksX0_hear_0 0 rfl rfl)
theorem dX0_hear_1 : decode cX0_hear 1 = .ok (.invokevirtual 258, 3) := dk_182 1 2 (dk_at dksX0_hear_0 1 rfl rfl)
theorem dX0_hear_4 : decode cX0_hear 4 = .ok (.istore_n 1, 1) := dk_60 (dk_at dksX0_hear_0 4 rfl rfl)
theorem dX0_hear_5 : decode cX0_hear 5 = .ok (.iload_n 1, 1) := dk_27 (dk_at dksX0_hear_0 5 rfl rfl)
theorem dX0_hear_6 : decode cX0_hear 6 = .ok (.invokestatic 226, 3) := dk_184 0 226 (dk_at dksX0_hear_0 6 rfl rfl)
theorem dX0_hear_9 : decode cX0_hear 9 = .ok (.istore_n 2, 1) := dk_61 (dk_at dksX0_hear_0 9 rfl rfl)
theorem dX0_hear_10 : decode cX0_hear 10 = .ok (.iconst (-1), 1) := dk_2 (dk_at dksX0_hear_0 10 rfl rfl)
theorem dX0_hear_11 : decode cX0_hear 11 = .ok (.istore_n 3, 1) := dk_62 (dk_at dksX0_hear_0 11 rfl rfl)
theorem dX0_hear_12 : decode cX0_hear 12 = .ok (.ldc_w 261, 3) := dk_19 1 5 (dk_at dksX0_hear_0 12 rfl rfl)
theorem dX0_hear_15 : decode cX0_hear 15 = .ok (.istore 4, 2) := dk_54 4 (dk_at dksX0_hear_0 15 rfl rfl)
theorem dX0_hear_17 : decode cX0_hear 17 = .ok (.iconst 0, 1) := dk_3 (dk_at dksX0_hear_0 17 rfl rfl)
theorem dX0_hear_18 : decode cX0_hear 18 = .ok (.istore 5, 2) := dk_54 5 (dk_at dksX0_hear_0 18 rfl rfl)
theorem dX0_hear_20 : decode cX0_hear 20 = .ok (.iload 5, 2) := dk_21 5 (dk_at dksX0_hear_0 20 rfl rfl)
theorem dX0_hear_22 : decode cX0_hear 22 = .ok (.bipush 24, 2) := dk_16 24 (dk_at dksX0_hear_0 22 rfl rfl)
theorem dX0_hear_24 : decode cX0_hear 24 = .ok (.if_icmp .ge 110, 3) := dk_162 0 110 (dk_at dksX0_hear_1 0 rfl rfl)
theorem dX0_hear_27 : decode cX0_hear 27 = .ok (.iload_n 2, 1) := dk_28 (dk_at dksX0_hear_1 3 rfl rfl)
theorem dX0_hear_28 : decode cX0_hear 28 = .ok (.ifCond .le 106, 3) := dk_158 0 106 (dk_at dksX0_hear_1 4 rfl rfl)
theorem dX0_hear_31 : decode cX0_hear 31 = .ok (.iconst 0, 1) := dk_3 (dk_at dksX0_hear_1 7 rfl rfl)
theorem dX0_hear_32 : decode cX0_hear 32 = .ok (.istore 6, 2) := dk_54 6 (dk_at dksX0_hear_1 8 rfl rfl)
theorem dX0_hear_34 : decode cX0_hear 34 = .ok (.iconst 4, 1) := dk_7 (dk_at dksX0_hear_1 10 rfl rfl)
theorem dX0_hear_35 : decode cX0_hear 35 = .ok (.istore 7, 2) := dk_54 7 (dk_at dksX0_hear_1 11 rfl rfl)
theorem dX0_hear_37 : decode cX0_hear 37 = .ok (.iload 7, 2) := dk_21 7 (dk_at dksX0_hear_1 13 rfl rfl)
theorem dX0_hear_39 : decode cX0_hear 39 = .ok (.bipush 30, 2) := dk_16 30 (dk_at dksX0_hear_1 15 rfl rfl)
theorem dX0_hear_41 : decode cX0_hear 41 = .ok (.if_icmp .gt 53, 3) := dk_163 0 53 (dk_at dksX0_hear_1 17 rfl rfl)
theorem dX0_hear_44 : decode cX0_hear 44 = .ok (.iload 6, 2) := dk_21 6 (dk_at dksX0_hear_1 20 rfl rfl)
theorem dX0_hear_46 : decode cX0_hear 46 = .ok (.iload_n 1, 1) := dk_27 (dk_at dksX0_hear_1 22 rfl rfl)
theorem dX0_hear_47 : decode cX0_hear 47 = .ok (.iload 7, 2) := dk_21 7 (dk_at dksX0_hear_2 0 rfl rfl)
theorem dX0_hear_49 : decode cX0_hear 49 = .ok (.iconst 4, 1) := dk_7 (dk_at dksX0_hear_2 2 rfl rfl)
theorem dX0_hear_50 : decode cX0_hear 50 = .ok (.isub, 1) := dk_100 (dk_at dksX0_hear_2 3 rfl rfl)
theorem dX0_hear_51 : decode cX0_hear 51 = .ok (.ishr, 1) := dk_122 (dk_at dksX0_hear_2 4 rfl rfl)
theorem dX0_hear_52 : decode cX0_hear 52 = .ok (.iconst 1, 1) := dk_4 (dk_at dksX0_hear_2 5 rfl rfl)
theorem dX0_hear_53 : decode cX0_hear 53 = .ok (.iand, 1) := dk_126 (dk_at dksX0_hear_2 6 rfl rfl)
theorem dX0_hear_54 : decode cX0_hear 54 = .ok (.iconst 1, 1) := dk_4 (dk_at dksX0_hear_2 7 rfl rfl)
theorem dX0_hear_55 : decode cX0_hear 55 = .ok (.if_icmp .ne 29, 3) := dk_160 0 29 (dk_at dksX0_hear_2 8 rfl rfl)
theorem dX0_hear_58 : decode cX0_hear 58 = .ok (.aload_n 0, 1) := dk_42 (dk_at dksX0_hear_2 11 rfl rfl)
theorem dX0_hear_59 : decode cX0_hear 59 = .ok (.getfield 10, 3) := dk_180 0 10 (dk_at dksX0_hear_2 12 rfl rfl)
theorem dX0_hear_62 : decode cX0_hear 62 = .ok (.aload_n 0, 1) := dk_42 (dk_at dksX0_hear_2 15 rfl rfl)
theorem dX0_hear_63 : decode cX0_hear 63 = .ok (.getfield 10, 3) := dk_180 0 10 (dk_at dksX0_hear_2 16 rfl rfl)
theorem dX0_hear_66 : decode cX0_hear 66 = .ok (.getfield 148, 3) := dk_180 0 148 (dk_at dksX0_hear_2 19 rfl rfl)
theorem dX0_hear_69 : decode cX0_hear 69 = .ok (.iload 5, 2) := dk_21 5 (dk_at dksX0_hear_2 22 rfl rfl)
theorem dX0_hear_71 : decode cX0_hear 71 = .ok (.iload 7, 2) := dk_21 7 (dk_at dksX0_hear_3 0 rfl rfl)
theorem dX0_hear_73 : decode cX0_hear 73 = .ok (.iconst (-1), 1) := dk_2 (dk_at dksX0_hear_3 2 rfl rfl)
theorem dX0_hear_74 : decode cX0_hear 74 = .ok (.invokevirtual 222, 3) := dk_182 0 222 (dk_at dksX0_hear_3 3 rfl rfl)
theorem dX0_hear_77 : decode cX0_hear 77 = .ok (.ifCond .le 7, 3) := dk_158 0 7 (dk_at dksX0_hear_3 6 rfl rfl)
theorem dX0_hear_80 : decode cX0_hear 80 = .ok (.iconst 1, 1) := dk_4 (dk_at dksX0_hear_3 9 rfl rfl)
theorem dX0_hear_81 : decode cX0_hear 81 = .ok (.goto 4, 3) := dk_167 0 4 (dk_at dksX0_hear_3 10 rfl rfl)
theorem dX0_hear_84 : decode cX0_hear 84 = .ok (.iconst 0, 1) := dk_3 (dk_at dksX0_hear_3 13 rfl rfl)
theorem dX0_hear_85 : decode cX0_hear 85 = .ok (.iadd, 1) := dk_96 (dk_at dksX0_hear_3 14 rfl rfl)
theorem dX0_hear_86 : decode cX0_hear 86 = .ok (.istore 6, 2) := dk_54 6 (dk_at dksX0_hear_3 15 rfl rfl)
theorem dX0_hear_88 : decode cX0_hear 88 = .ok (.iinc 7 1, 3) := dk_132 7 1 (dk_at dksX0_hear_3 17 rfl rfl)
theorem dX0_hear_91 : decode cX0_hear 91 = .ok (.goto (-54), 3) := dk_167 255 202 (dk_at dksX0_hear_3 20 rfl rfl)
theorem dX0_hear_94 : decode cX0_hear 94 = .ok (.iload 6, 2) := dk_21 6 (dk_at dksX0_hear_4 0 rfl rfl)
theorem dX0_hear_96 : decode cX0_hear 96 = .ok (.iload_n 2, 1) := dk_28 (dk_at dksX0_hear_4 2 rfl rfl)
theorem dX0_hear_97 : decode cX0_hear 97 = .ok (.iload 6, 2) := dk_21 6 (dk_at dksX0_hear_4 3 rfl rfl)
theorem dX0_hear_99 : decode cX0_hear 99 = .ok (.isub, 1) := dk_100 (dk_at dksX0_hear_4 5 rfl rfl)
theorem dX0_hear_100 : decode cX0_hear 100 = .ok (.invokestatic 262, 3) := dk_184 1 6 (dk_at dksX0_hear_4 6 rfl rfl)
theorem dX0_hear_103 : decode cX0_hear 103 = .ok (.istore 7, 2) := dk_54 7 (dk_at dksX0_hear_4 9 rfl rfl)
theorem dX0_hear_105 : decode cX0_hear 105 = .ok (.iload 7, 2) := dk_21 7 (dk_at dksX0_hear_4 11 rfl rfl)
theorem dX0_hear_107 : decode cX0_hear 107 = .ok (.iload 4, 2) := dk_21 4 (dk_at dksX0_hear_4 13 rfl rfl)
theorem dX0_hear_109 : decode cX0_hear 109 = .ok (.if_icmp .ge 8, 3) := dk_162 0 8 (dk_at dksX0_hear_4 15 rfl rfl)
theorem dX0_hear_112 : decode cX0_hear 112 = .ok (.iload 5, 2) := dk_21 5 (dk_at dksX0_hear_4 18 rfl rfl)
theorem dX0_hear_114 : decode cX0_hear 114 = .ok (.goto 4, 3) := dk_167 0 4 (dk_at dksX0_hear_4 20 rfl rfl)
theorem dX0_hear_117 : decode cX0_hear 117 = .ok (.iload_n 3, 1) := dk_29 (dk_at dksX0_hear_4 23 rfl rfl)
theorem dX0_hear_118 : decode cX0_hear 118 = .ok (.istore_n 3, 1) := dk_62 (dk_at dksX0_hear_5 0 rfl rfl)
theorem dX0_hear_119 : decode cX0_hear 119 = .ok (.iload 4, 2) := dk_21 4 (dk_at dksX0_hear_5 1 rfl rfl)
theorem dX0_hear_121 : decode cX0_hear 121 = .ok (.iload 7, 2) := dk_21 7 (dk_at dksX0_hear_5 3 rfl rfl)
theorem dX0_hear_123 : decode cX0_hear 123 = .ok (.invokestatic 267, 3) := dk_184 1 11 (dk_at dksX0_hear_5 5 rfl rfl)
theorem dX0_hear_126 : decode cX0_hear 126 = .ok (.istore 4, 2) := dk_54 4 (dk_at dksX0_hear_5 8 rfl rfl)
theorem dX0_hear_128 : decode cX0_hear 128 = .ok (.iinc 5 1, 3) := dk_132 5 1 (dk_at dksX0_hear_5 10 rfl rfl)
theorem dX0_hear_131 : decode cX0_hear 131 = .ok (.goto (-111), 3) := dk_167 255 145 (dk_at dksX0_hear_5 13 rfl rfl)
theorem dX0_hear_134 : decode cX0_hear 134 = .ok (.iload_n 3, 1) := dk_29 (dk_at dksX0_hear_5 16 rfl rfl)
theorem dX0_hear_135 : decode cX0_hear 135 = .ok (.ireturn, 1) := dk_172 (dk_at dksX0_hear_5 17 rfl rfl)
abbrev cX0_note : ByteArray := prog_1_method_44_code
def yX0_note : MethodName := ⟨RX0, "note", "(IIII)I"⟩
def dkwX0_note_5 : List UInt8 := [180, 1, 17, 4, 96, 181, 1, 17, 42, 180, 0, 10, 180, 1, 17, 172]
abbrev dktX0_note_5 : List UInt8 := dkwX0_note_5 ++ []
def dkwX0_note_4 : List UInt8 := [5, 96, 29, 79, 42, 180, 0, 10, 180, 1, 20, 21, 5, 6, 96, 21, 4, 79, 42, 180, 0, 10, 89]
abbrev dktX0_note_4 : List UInt8 := dkwX0_note_4 ++ dktX0_note_5
def dkwX0_note_3 : List UInt8 := [27, 79, 42, 180, 0, 10, 180, 1, 20, 21, 5, 4, 96, 28, 79, 42, 180, 0, 10, 180, 1, 20, 21, 5]
abbrev dktX0_note_3 : List UInt8 := dkwX0_note_3 ++ dktX0_note_4
def dkwX0_note_2 : List UInt8 := [182, 0, 117, 172, 7, 42, 180, 0, 10, 180, 1, 17, 104, 54, 5, 42, 180, 0, 10, 180, 1, 20, 21, 5]
abbrev dktX0_note_2 : List UInt8 := dkwX0_note_2 ++ dktX0_note_3
def dkwX0_note_1 : List UInt8 := [184, 1, 14, 154, 0, 8, 42, 182, 0, 98, 172, 42, 180, 0, 10, 180, 1, 17, 16, 6, 160, 0, 8, 42]
abbrev dktX0_note_1 : List UInt8 := dkwX0_note_1 ++ dktX0_note_2
def dkwX0_note_0 : List UInt8 := [42, 27, 182, 0, 161, 153, 0, 25, 28, 184, 0, 114, 153, 0, 18, 29, 184, 0, 206, 153, 0, 11, 21, 4]
abbrev dktX0_note_0 : List UInt8 := dkwX0_note_0 ++ dktX0_note_1
theorem dksX0_note_0 : cX0_note.data.toList.drop 0 = dktX0_note_0 := by decide +kernel
theorem dksX0_note_1 : cX0_note.data.toList.drop 24 = dktX0_note_1 := dk_seg dksX0_note_0 24 rfl rfl
theorem dksX0_note_2 : cX0_note.data.toList.drop 48 = dktX0_note_2 := dk_seg dksX0_note_1 24 rfl rfl
theorem dksX0_note_3 : cX0_note.data.toList.drop 72 = dktX0_note_3 := dk_seg dksX0_note_2 24 rfl rfl
theorem dksX0_note_4 : cX0_note.data.toList.drop 96 = dktX0_note_4 := dk_seg dksX0_note_3 24 rfl rfl
theorem dksX0_note_5 : cX0_note.data.toList.drop 119 = dktX0_note_5 := dk_seg dksX0_note_4 23 rfl rfl
theorem dX0_note_0 : decode cX0_note 0 = .ok (.aload_n 0, 1) := dk_42 (dk_at dksX0_note_0 0 rfl rfl)
theorem dX0_note_1 : decode cX0_note 1 = .ok (.iload_n 1, 1) := dk_27 (dk_at dksX0_note_0 1 rfl rfl)
theorem dX0_note_2 : decode cX0_note 2 = .ok (.invokevirtual 161, 3) := dk_182 0 161 (dk_at dksX0_note_0 2 rfl rfl)
theorem dX0_note_5 : decode cX0_note 5 = .ok (.ifCond .eq 25, 3) := dk_153 0 25 (dk_at dksX0_note_0 5 rfl rfl)
theorem dX0_note_8 : decode cX0_note 8 = .ok (.iload_n 2, 1) := dk_28 (dk_at dksX0_note_0 8 rfl rfl)
theorem dX0_note_9 : decode cX0_note 9 = .ok (.invokestatic 114, 3) := dk_184 0 114 (dk_at dksX0_note_0 9 rfl rfl)
theorem dX0_note_12 : decode cX0_note 12 = .ok (.ifCond .eq 18, 3) := dk_153 0 18 (dk_at dksX0_note_0 12 rfl rfl)
theorem dX0_note_15 : decode cX0_note 15 = .ok (.iload_n 3, 1) := dk_29 (dk_at dksX0_note_0 15 rfl rfl)
theorem dX0_note_16 : decode cX0_note 16 = .ok (.invokestatic 206, 3) := dk_184 0 206 (dk_at dksX0_note_0 16 rfl rfl)
theorem dX0_note_19 : decode cX0_note 19 = .ok (.ifCond .eq 11, 3) := dk_153 0 11 (dk_at dksX0_note_0 19 rfl rfl)
theorem dX0_note_22 : decode cX0_note 22 = .ok (.iload 4, 2) := dk_21 4 (dk_at dksX0_note_0 22 rfl rfl)
theorem dX0_note_24 : decode cX0_note 24 = .ok (.invokestatic 270, 3) := dk_184 1 14 (dk_at dksX0_note_1 0 rfl rfl)
theorem dX0_note_27 : decode cX0_note 27 = .ok (.ifCond .ne 8, 3) := dk_154 0 8 (dk_at dksX0_note_1 3 rfl rfl)
theorem dX0_note_30 : decode cX0_note 30 = .ok (.aload_n 0, 1) := dk_42 (dk_at dksX0_note_1 6 rfl rfl)
theorem dX0_note_31 : decode cX0_note 31 = .ok (.invokevirtual 98, 3) := dk_182 0 98 (dk_at dksX0_note_1 7 rfl rfl)
theorem dX0_note_34 : decode cX0_note 34 = .ok (.ireturn, 1) := dk_172 (dk_at dksX0_note_1 10 rfl rfl)
theorem dX0_note_35 : decode cX0_note 35 = .ok (.aload_n 0, 1) := dk_42 (dk_at dksX0_note_1 11 rfl rfl)
theorem dX0_note_36 : decode cX0_note 36 = .ok (.getfield 10, 3) := dk_180 0 10 (dk_at dksX0_note_1 12 rfl rfl)
theorem dX0_note_39 : decode cX0_note 39 = .ok (.getfield 273, 3) := dk_180 1 17 (dk_at dksX0_note_1 15 rfl rfl)
theorem dX0_note_42 : decode cX0_note 42 = .ok (.bipush 6, 2) := dk_16 6 (dk_at dksX0_note_1 18 rfl rfl)
theorem dX0_note_44 : decode cX0_note 44 = .ok (.if_icmp .ne 8, 3) := dk_160 0 8 (dk_at dksX0_note_1 20 rfl rfl)
theorem dX0_note_47 : decode cX0_note 47 = .ok (.aload_n 0, 1) := dk_42 (dk_at dksX0_note_1 23 rfl rfl)
theorem dX0_note_48 : decode cX0_note 48 = .ok (.invokevirtual 117, 3) := dk_182 0 117 (dk_at dksX0_note_2 0 rfl rfl)
theorem dX0_note_51 : decode cX0_note 51 = .ok (.ireturn, 1) := dk_172 (dk_at dksX0_note_2 3 rfl rfl)
theorem dX0_note_52 : decode cX0_note 52 = .ok (.iconst 4, 1) := dk_7 (dk_at dksX0_note_2 4 rfl rfl)
theorem dX0_note_53 : decode cX0_note 53 = .ok (.aload_n 0, 1) := dk_42 (dk_at dksX0_note_2 5 rfl rfl)
theorem dX0_note_54 : decode cX0_note 54 = .ok (.getfield 10, 3) := dk_180 0 10 (dk_at dksX0_note_2 6 rfl rfl)
theorem dX0_note_57 : decode cX0_note 57 = .ok (.getfield 273, 3) := dk_180 1 17 (dk_at dksX0_note_2 9 rfl rfl)
theorem dX0_note_60 : decode cX0_note 60 = .ok (.imul, 1) := dk_104 (dk_at dksX0_note_2 12 rfl rfl)
theorem dX0_note_61 : decode cX0_note 61 = .ok (.istore 5, 2) := dk_54 5 (dk_at dksX0_note_2 13 rfl rfl)
theorem dX0_note_63 : decode cX0_note 63 = .ok (.aload_n 0, 1) := dk_42 (dk_at dksX0_note_2 15 rfl rfl)
theorem dX0_note_64 : decode cX0_note 64 = .ok (.getfield 10, 3) := dk_180 0 10 (dk_at dksX0_note_2 16 rfl rfl)
theorem dX0_note_67 : decode cX0_note 67 = .ok (.getfield 276, 3) := dk_180 1 20 (dk_at dksX0_note_2 19 rfl rfl)
theorem dX0_note_70 : decode cX0_note 70 = .ok (.iload 5, 2) := dk_21 5 (dk_at dksX0_note_2 22 rfl rfl)
theorem dX0_note_72 : decode cX0_note 72 = .ok (.iload_n 1, 1) := dk_27 (dk_at dksX0_note_3 0 rfl rfl)
theorem dX0_note_73 : decode cX0_note 73 = .ok (.iastore, 1) := dk_79 (dk_at dksX0_note_3 1 rfl rfl)
theorem dX0_note_74 : decode cX0_note 74 = .ok (.aload_n 0, 1) := dk_42 (dk_at dksX0_note_3 2 rfl rfl)
theorem dX0_note_75 : decode cX0_note 75 = .ok (.getfield 10, 3) := dk_180 0 10 (dk_at dksX0_note_3 3 rfl rfl)
theorem dX0_note_78 : decode cX0_note 78 = .ok (.getfield 276, 3) := dk_180 1 20 (dk_at dksX0_note_3 6 rfl rfl)
theorem dX0_note_81 : decode cX0_note 81 = .ok (.iload 5, 2) := dk_21 5 (dk_at dksX0_note_3 9 rfl rfl)
theorem dX0_note_83 : decode cX0_note 83 = .ok (.iconst 1, 1) := dk_4 (dk_at dksX0_note_3 11 rfl rfl)
theorem dX0_note_84 : decode cX0_note 84 = .ok (.iadd, 1) := dk_96 (dk_at dksX0_note_3 12 rfl rfl)
theorem dX0_note_85 : decode cX0_note 85 = .ok (.iload_n 2, 1) := dk_28 (dk_at dksX0_note_3 13 rfl rfl)
theorem dX0_note_86 : decode cX0_note 86 = .ok (.iastore, 1) := dk_79 (dk_at dksX0_note_3 14 rfl rfl)
theorem dX0_note_87 : decode cX0_note 87 = .ok (.aload_n 0, 1) := dk_42 (dk_at dksX0_note_3 15 rfl rfl)
theorem dX0_note_88 : decode cX0_note 88 = .ok (.getfield 10, 3) := dk_180 0 10 (dk_at dksX0_note_3 16 rfl rfl)
theorem dX0_note_91 : decode cX0_note 91 = .ok (.getfield 276, 3) := dk_180 1 20 (dk_at dksX0_note_3 19 rfl rfl)
theorem dX0_note_94 : decode cX0_note 94 = .ok (.iload 5, 2) := dk_21 5 (dk_at dksX0_note_3 22 rfl rfl)
theorem dX0_note_96 : decode cX0_note 96 = .ok (.iconst 2, 1) := dk_5 (dk_at dksX0_note_4 0 rfl rfl)
theorem dX0_note_97 : decode cX0_note 97 = .ok (.iadd, 1) := dk_96 (dk_at dksX0_note_4 1 rfl rfl)
theorem dX0_note_98 : decode cX0_note 98 = .ok (.iload_n 3, 1) := dk_29 (dk_at dksX0_note_4 2 rfl rfl)
theorem dX0_note_99 : decode cX0_note 99 = .ok (.iastore, 1) := dk_79 (dk_at dksX0_note_4 3 rfl rfl)
theorem dX0_note_100 : decode cX0_note 100 = .ok (.aload_n 0, 1) := dk_42 (dk_at dksX0_note_4 4 rfl rfl)
theorem dX0_note_101 : decode cX0_note 101 = .ok (.getfield 10, 3) := dk_180 0 10 (dk_at dksX0_note_4 5 rfl rfl)
theorem dX0_note_104 : decode cX0_note 104 = .ok (.getfield 276, 3) := dk_180 1 20 (dk_at dksX0_note_4 8 rfl rfl)
theorem dX0_note_107 : decode cX0_note 107 = .ok (.iload 5, 2) := dk_21 5 (dk_at dksX0_note_4 11 rfl rfl)
theorem dX0_note_109 : decode cX0_note 109 = .ok (.iconst 3, 1) := dk_6 (dk_at dksX0_note_4 13 rfl rfl)
theorem dX0_note_110 : decode cX0_note 110 = .ok (.iadd, 1) := dk_96 (dk_at dksX0_note_4 14 rfl rfl)
theorem dX0_note_111 : decode cX0_note 111 = .ok (.iload 4, 2) := dk_21 4 (dk_at dksX0_note_4 15 rfl rfl)
theorem dX0_note_113 : decode cX0_note 113 = .ok (.iastore, 1) := dk_79 (dk_at dksX0_note_4 17 rfl rfl)
theorem dX0_note_114 : decode cX0_note 114 = .ok (.aload_n 0, 1) := dk_42 (dk_at dksX0_note_4 18 rfl rfl)
theorem dX0_note_115 : decode cX0_note 115 = .ok (.getfield 10, 3) := dk_180 0 10 (dk_at dksX0_note_4 19 rfl rfl)
theorem dX0_note_118 : decode cX0_note 118 = .ok (.dup, 1) := dk_89 (dk_at dksX0_note_4 22 rfl rfl)
theorem dX0_note_119 : decode cX0_note 119 = .ok (.getfield 273, 3) := dk_180 1 17 (dk_at dksX0_note_5 0 rfl rfl)
theorem dX0_note_122 : decode cX0_note 122 = .ok (.iconst 1, 1) := dk_4 (dk_at dksX0_note_5 3 rfl rfl)
theorem dX0_note_123 : decode cX0_note 123 = .ok (.iadd, 1) := dk_96 (dk_at dksX0_note_5 4 rfl rfl)
theorem dX0_note_124 : decode cX0_note 124 = .ok (.putfield 273, 3) := dk_181 1 17 (dk_at dksX0_note_5 5 rfl rfl)
theorem dX0_note_127 : decode cX0_note 127 = .ok (.aload_n 0, 1) := dk_42 (dk_at dksX0_note_5 8 rfl rfl)
theorem dX0_note_128 : decode cX0_note 128 = .ok (.getfield 10, 3) := dk_180 0 10 (dk_at dksX0_note_5 9 rfl rfl)
theorem dX0_note_131 : decode cX0_note 131 = .ok (.getfield 273, 3) := dk_180 1 17 (dk_at dksX0_note_5 12 rfl rfl)
theorem dX0_note_134 : decode cX0_note 134 = .ok (.ireturn, 1) := dk_172 (dk_at dksX0_note_5 15 rfl rfl)
abbrev cX0_isLean : ByteArray := prog_1_method_13_code
def yX0_isLean : MethodName := ⟨RX0, "isLean", "(I)Z"⟩
def dkwX0_isLean_0 : List UInt8 := [26, 133, 20, 0, 83, 20, 0, 85, 184, 0, 71, 172]
abbrev dktX0_isLean_0 : List UInt8 := dkwX0_isLean_0 ++ []
theorem dksX0_isLean_0 : cX0_isLean.data.toList.drop 0 = dktX0_isLean_0 := by decide +kernel
theorem dX0_isLean_0 : decode cX0_isLean 0 = .ok (.iload_n 0, 1) := dk_26 (dk_at dksX0_isLean_0 0 rfl rfl)
theorem dX0_isLean_1 : decode cX0_isLean 1 = .ok (.i2l, 1) := dk_133 (dk_at dksX0_isLean_0 1 rfl rfl)
theorem dX0_isLean_2 : decode cX0_isLean 2 = .ok (.ldc2_w 83, 3) := dk_20 0 83 (dk_at dksX0_isLean_0 2 rfl rfl)
theorem dX0_isLean_5 : decode cX0_isLean 5 = .ok (.ldc2_w 85, 3) := dk_20 0 85 (dk_at dksX0_isLean_0 5 rfl rfl)
theorem dX0_isLean_8 : decode cX0_isLean 8 = .ok (.invokestatic 71, 3) := dk_184 0 71 (dk_at dksX0_isLean_0 8 rfl rfl)
theorem dX0_isLean_11 : decode cX0_isLean 11 = .ok (.ireturn, 1) := dk_172 (dk_at dksX0_isLean_0 11 rfl rfl)
abbrev cX0_mark : ByteArray := prog_1_method_45_code
def yX0_mark : MethodName := ⟨RX0, "mark", "(IIII)I"⟩
def dkwX0_mark_5 : List UInt8 := [180, 1, 23, 4, 96, 181, 1, 23, 42, 180, 0, 10, 180, 1, 23, 172]
abbrev dktX0_mark_5 : List UInt8 := dkwX0_mark_5 ++ []
def dkwX0_mark_4 : List UInt8 := [5, 96, 29, 79, 42, 180, 0, 10, 180, 1, 26, 21, 5, 6, 96, 21, 4, 79, 42, 180, 0, 10, 89]
abbrev dktX0_mark_4 : List UInt8 := dkwX0_mark_4 ++ dktX0_mark_5
def dkwX0_mark_3 : List UInt8 := [27, 79, 42, 180, 0, 10, 180, 1, 26, 21, 5, 4, 96, 28, 79, 42, 180, 0, 10, 180, 1, 26, 21, 5]
abbrev dktX0_mark_3 : List UInt8 := dkwX0_mark_3 ++ dktX0_mark_4
def dkwX0_mark_2 : List UInt8 := [182, 0, 117, 172, 7, 42, 180, 0, 10, 180, 1, 23, 104, 54, 5, 42, 180, 0, 10, 180, 1, 26, 21, 5]
abbrev dktX0_mark_2 : List UInt8 := dkwX0_mark_2 ++ dktX0_mark_3
def dkwX0_mark_1 : List UInt8 := [184, 1, 14, 154, 0, 8, 42, 182, 0, 98, 172, 42, 180, 0, 10, 180, 1, 23, 16, 6, 160, 0, 8, 42]
abbrev dktX0_mark_1 : List UInt8 := dkwX0_mark_1 ++ dktX0_mark_2
def dkwX0_mark_0 : List UInt8 := [42, 27, 182, 0, 170, 153, 0, 25, 28, 184, 1, 14, 153, 0, 18, 29, 184, 0, 206, 153, 0, 11, 21, 4]
abbrev dktX0_mark_0 : List UInt8 := dkwX0_mark_0 ++ dktX0_mark_1
theorem dksX0_mark_0 : cX0_mark.data.toList.drop 0 = dktX0_mark_0 := by decide +kernel
theorem dksX0_mark_1 : cX0_mark.data.toList.drop 24 = dktX0_mark_1 := dk_seg dksX0_mark_0 24 rfl rfl
theorem dksX0_mark_2 : cX0_mark.data.toList.drop 48 = dktX0_mark_2 := dk_seg dksX0_mark_1 24 rfl rfl
theorem dksX0_mark_3 : cX0_mark.data.toList.drop 72 = dktX0_mark_3 := dk_seg dksX0_mark_2 24 rfl rfl
theorem dksX0_mark_4 : cX0_mark.data.toList.drop 96 = dktX0_mark_4 := dk_seg dksX0_mark_3 24 rfl rfl
theorem dksX0_mark_5 : cX0_mark.data.toList.drop 119 = dktX0_mark_5 := dk_seg dksX0_mark_4 23 rfl rfl
theorem dX0_mark_0 : decode cX0_mark 0 = .ok (.aload_n 0, 1) := dk_42 (dk_at dksX0_mark_0 0 rfl rfl)
theorem dX0_mark_1 : decode cX0_mark 1 = .ok (.iload_n 1, 1) := dk_27 (dk_at dksX0_mark_0 1 rfl rfl)
theorem dX0_mark_2 : decode cX0_mark 2 = .ok (.invokevirtual 170, 3) := dk_182 0 170 (dk_at dksX0_mark_0 2 rfl rfl)
theorem dX0_mark_5 : decode cX0_mark 5 = .ok (.ifCond .eq 25, 3) := dk_153 0 25 (dk_at dksX0_mark_0 5 rfl rfl)
theorem dX0_mark_8 : decode cX0_mark 8 = .ok (.iload_n 2, 1) := dk_28 (dk_at dksX0_mark_0 8 rfl rfl)
theorem dX0_mark_9 : decode cX0_mark 9 = .ok (.invokestatic 270, 3) := dk_184 1 14 (dk_at dksX0_mark_0 9 rfl rfl)
theorem dX0_mark_12 : decode cX0_mark 12 = .ok (.ifCond .eq 18, 3) := dk_153 0 18 (dk_at dksX0_mark_0 12 rfl rfl)
theorem dX0_mark_15 : decode cX0_mark 15 = .ok (.iload_n 3, 1) := dk_29 (dk_at dksX0_mark_0 15 rfl rfl)
theorem dX0_mark_16 : decode cX0_mark 16 = .ok (.invokestatic 206, 3) := dk_184 0 206 (dk_at dksX0_mark_0 16 rfl rfl)
theorem dX0_mark_19 : decode cX0_mark 19 = .ok (.ifCond .eq 11, 3) := dk_153 0 11 (dk_at dksX0_mark_0 19 rfl rfl)
theorem dX0_mark_22 : decode cX0_mark 22 = .ok (.iload 4, 2) := dk_21 4 (dk_at dksX0_mark_0 22 rfl rfl)
theorem dX0_mark_24 : decode cX0_mark 24 = .ok (.invokestatic 270, 3) := dk_184 1 14 (dk_at dksX0_mark_1 0 rfl rfl)
theorem dX0_mark_27 : decode cX0_mark 27 = .ok (.ifCond .ne 8, 3) := dk_154 0 8 (dk_at dksX0_mark_1 3 rfl rfl)
theorem dX0_mark_30 : decode cX0_mark 30 = .ok (.aload_n 0, 1) := dk_42 (dk_at dksX0_mark_1 6 rfl rfl)
theorem dX0_mark_31 : decode cX0_mark 31 = .ok (.invokevirtual 98, 3) := dk_182 0 98 (dk_at dksX0_mark_1 7 rfl rfl)
theorem dX0_mark_34 : decode cX0_mark 34 = .ok (.ireturn, 1) := dk_172 (dk_at dksX0_mark_1 10 rfl rfl)
theorem dX0_mark_35 : decode cX0_mark 35 = .ok (.aload_n 0, 1) := dk_42 (dk_at dksX0_mark_1 11 rfl rfl)
theorem dX0_mark_36 : decode cX0_mark 36 = .ok (.getfield 10, 3) := dk_180 0 10 (dk_at dksX0_mark_1 12 rfl rfl)
theorem dX0_mark_39 : decode cX0_mark 39 = .ok (.getfield 279, 3) := dk_180 1 23 (dk_at dksX0_mark_1 15 rfl rfl)
theorem dX0_mark_42 : decode cX0_mark 42 = .ok (.bipush 6, 2) := dk_16 6 (dk_at dksX0_mark_1 18 rfl rfl)
theorem dX0_mark_44 : decode cX0_mark 44 = .ok (.if_icmp .ne 8, 3) := dk_160 0 8 (dk_at dksX0_mark_1 20 rfl rfl)
theorem dX0_mark_47 : decode cX0_mark 47 = .ok (.aload_n 0, 1) := dk_42 (dk_at dksX0_mark_1 23 rfl rfl)
theorem dX0_mark_48 : decode cX0_mark 48 = .ok (.invokevirtual 117, 3) := dk_182 0 117 (dk_at dksX0_mark_2 0 rfl rfl)
theorem dX0_mark_51 : decode cX0_mark 51 = .ok (.ireturn, 1) := dk_172 (dk_at dksX0_mark_2 3 rfl rfl)
theorem dX0_mark_52 : decode cX0_mark 52 = .ok (.iconst 4, 1) := dk_7 (dk_at dksX0_mark_2 4 rfl rfl)
theorem dX0_mark_53 : decode cX0_mark 53 = .ok (.aload_n 0, 1) := dk_42 (dk_at dksX0_mark_2 5 rfl rfl)
theorem dX0_mark_54 : decode cX0_mark 54 = .ok (.getfield 10, 3) := dk_180 0 10 (dk_at dksX0_mark_2 6 rfl rfl)
theorem dX0_mark_57 : decode cX0_mark 57 = .ok (.getfield 279, 3) := dk_180 1 23 (dk_at dksX0_mark_2 9 rfl rfl)
theorem dX0_mark_60 : decode cX0_mark 60 = .ok (.imul, 1) := dk_104 (dk_at dksX0_mark_2 12 rfl rfl)
theorem dX0_mark_61 : decode cX0_mark 61 = .ok (.istore 5, 2) := dk_54 5 (dk_at dksX0_mark_2 13 rfl rfl)
theorem dX0_mark_63 : decode cX0_mark 63 = .ok (.aload_n 0, 1) := dk_42 (dk_at dksX0_mark_2 15 rfl rfl)
theorem dX0_mark_64 : decode cX0_mark 64 = .ok (.getfield 10, 3) := dk_180 0 10 (dk_at dksX0_mark_2 16 rfl rfl)
theorem dX0_mark_67 : decode cX0_mark 67 = .ok (.getfield 282, 3) := dk_180 1 26 (dk_at dksX0_mark_2 19 rfl rfl)
theorem dX0_mark_70 : decode cX0_mark 70 = .ok (.iload 5, 2) := dk_21 5 (dk_at dksX0_mark_2 22 rfl rfl)
theorem dX0_mark_72 : decode cX0_mark 72 = .ok (.iload_n 1, 1) := dk_27 (dk_at dksX0_mark_3 0 rfl rfl)
theorem dX0_mark_73 : decode cX0_mark 73 = .ok (.iastore, 1) := dk_79 (dk_at dksX0_mark_3 1 rfl rfl)
theorem dX0_mark_74 : decode cX0_mark 74 = .ok (.aload_n 0, 1) := dk_42 (dk_at dksX0_mark_3 2 rfl rfl)
theorem dX0_mark_75 : decode cX0_mark 75 = .ok (.getfield 10, 3) := dk_180 0 10 (dk_at dksX0_mark_3 3 rfl rfl)
theorem dX0_mark_78 : decode cX0_mark 78 = .ok (.getfield 282, 3) := dk_180 1 26 (dk_at dksX0_mark_3 6 rfl rfl)
theorem dX0_mark_81 : decode cX0_mark 81 = .ok (.iload 5, 2) := dk_21 5 (dk_at dksX0_mark_3 9 rfl rfl)
theorem dX0_mark_83 : decode cX0_mark 83 = .ok (.iconst 1, 1) := dk_4 (dk_at dksX0_mark_3 11 rfl rfl)
theorem dX0_mark_84 : decode cX0_mark 84 = .ok (.iadd, 1) := dk_96 (dk_at dksX0_mark_3 12 rfl rfl)
theorem dX0_mark_85 : decode cX0_mark 85 = .ok (.iload_n 2, 1) := dk_28 (dk_at dksX0_mark_3 13 rfl rfl)
theorem dX0_mark_86 : decode cX0_mark 86 = .ok (.iastore, 1) := dk_79 (dk_at dksX0_mark_3 14 rfl rfl)
theorem dX0_mark_87 : decode cX0_mark 87 = .ok (.aload_n 0, 1) := dk_42 (dk_at dksX0_mark_3 15 rfl rfl)
theorem dX0_mark_88 : decode cX0_mark 88 = .ok (.getfield 10, 3) := dk_180 0 10 (dk_at dksX0_mark_3 16 rfl rfl)
theorem dX0_mark_91 : decode cX0_mark 91 = .ok (.getfield 282, 3) := dk_180 1 26 (dk_at dksX0_mark_3 19 rfl rfl)
theorem dX0_mark_94 : decode cX0_mark 94 = .ok (.iload 5, 2) := dk_21 5 (dk_at dksX0_mark_3 22 rfl rfl)
theorem dX0_mark_96 : decode cX0_mark 96 = .ok (.iconst 2, 1) := dk_5 (dk_at dksX0_mark_4 0 rfl rfl)
theorem dX0_mark_97 : decode cX0_mark 97 = .ok (.iadd, 1) := dk_96 (dk_at dksX0_mark_4 1 rfl rfl)
theorem dX0_mark_98 : decode cX0_mark 98 = .ok (.iload_n 3, 1) := dk_29 (dk_at dksX0_mark_4 2 rfl rfl)
theorem dX0_mark_99 : decode cX0_mark 99 = .ok (.iastore, 1) := dk_79 (dk_at dksX0_mark_4 3 rfl rfl)
theorem dX0_mark_100 : decode cX0_mark 100 = .ok (.aload_n 0, 1) := dk_42 (dk_at dksX0_mark_4 4 rfl rfl)
theorem dX0_mark_101 : decode cX0_mark 101 = .ok (.getfield 10, 3) := dk_180 0 10 (dk_at dksX0_mark_4 5 rfl rfl)
theorem dX0_mark_104 : decode cX0_mark 104 = .ok (.getfield 282, 3) := dk_180 1 26 (dk_at dksX0_mark_4 8 rfl rfl)
theorem dX0_mark_107 : decode cX0_mark 107 = .ok (.iload 5, 2) := dk_21 5 (dk_at dksX0_mark_4 11 rfl rfl)
theorem dX0_mark_109 : decode cX0_mark 109 = .ok (.iconst 3, 1) := dk_6 (dk_at dksX0_mark_4 13 rfl rfl)
theorem dX0_mark_110 : decode cX0_mark 110 = .ok (.iadd, 1) := dk_96 (dk_at dksX0_mark_4 14 rfl rfl)
theorem dX0_mark_111 : decode cX0_mark 111 = .ok (.iload 4, 2) := dk_21 4 (dk_at dksX0_mark_4 15 rfl rfl)
theorem dX0_mark_113 : decode cX0_mark 113 = .ok (.iastore, 1) := dk_79 (dk_at dksX0_mark_4 17 rfl rfl)
theorem dX0_mark_114 : decode cX0_mark 114 = .ok (.aload_n 0, 1) := dk_42 (dk_at dksX0_mark_4 18 rfl rfl)
theorem dX0_mark_115 : decode cX0_mark 115 = .ok (.getfield 10, 3) := dk_180 0 10 (dk_at dksX0_mark_4 19 rfl rfl)
theorem dX0_mark_118 : decode cX0_mark 118 = .ok (.dup, 1) := dk_89 (dk_at dksX0_mark_4 22 rfl rfl)
theorem dX0_mark_119 : decode cX0_mark 119 = .ok (.getfield 279, 3) := dk_180 1 23 (dk_at dksX0_mark_5 0 rfl rfl)
theorem dX0_mark_122 : decode cX0_mark 122 = .ok (.iconst 1, 1) := dk_4 (dk_at dksX0_mark_5 3 rfl rfl)
theorem dX0_mark_123 : decode cX0_mark 123 = .ok (.iadd, 1) := dk_96 (dk_at dksX0_mark_5 4 rfl rfl)
theorem dX0_mark_124 : decode cX0_mark 124 = .ok (.putfield 279, 3) := dk_181 1 23 (dk_at dksX0_mark_5 5 rfl rfl)
theorem dX0_mark_127 : decode cX0_mark 127 = .ok (.aload_n 0, 1) := dk_42 (dk_at dksX0_mark_5 8 rfl rfl)
theorem dX0_mark_128 : decode cX0_mark 128 = .ok (.getfield 10, 3) := dk_180 0 10 (dk_at dksX0_mark_5 9 rfl rfl)
theorem dX0_mark_131 : decode cX0_mark 131 = .ok (.getfield 279, 3) := dk_180 1 23 (dk_at dksX0_mark_5 12 rfl rfl)
theorem dX0_mark_134 : decode cX0_mark 134 = .ok (.ireturn, 1) := dk_172 (dk_at dksX0_mark_5 15 rfl rfl)
abbrev cX0_forget : ByteArray := prog_1_method_46_code
def yX0_forget : MethodName := ⟨RX0, "forget", "(I)I"⟩
def dkwX0_forget_5 : List UInt8 := [180, 1, 23, 181, 1, 23, 28, 172]
abbrev dktX0_forget_5 : List UInt8 := dkwX0_forget_5 ++ []
def dkwX0_forget_4 : List UInt8 := [180, 1, 17, 181, 1, 17, 42, 180, 0, 10, 27, 5, 160, 0, 7, 3, 167, 0, 10, 42, 180, 0, 10]
abbrev dktX0_forget_4 : List UInt8 := dkwX0_forget_4 ++ dktX0_forget_5
def dkwX0_forget_3 : List UInt8 := [180, 0, 248, 181, 0, 248, 42, 180, 0, 10, 27, 4, 160, 0, 7, 3, 167, 0, 10, 42, 180, 0, 10]
abbrev dktX0_forget_3 : List UInt8 := dkwX0_forget_3 ++ dktX0_forget_4
def dkwX0_forget_2 : List UInt8 := [42, 180, 0, 10, 180, 1, 23, 61, 42, 180, 0, 10, 27, 154, 0, 7, 3, 167, 0, 10, 42, 180, 0, 10]
abbrev dktX0_forget_2 : List UInt8 := dkwX0_forget_2 ++ dktX0_forget_3
def dkwX0_forget_1 : List UInt8 := [180, 0, 10, 180, 0, 248, 167, 0, 25, 27, 4, 160, 0, 13, 42, 180, 0, 10, 180, 1, 17, 167, 0, 10]
abbrev dktX0_forget_1 : List UInt8 := dkwX0_forget_1 ++ dktX0_forget_2
def dkwX0_forget_0 : List UInt8 := [27, 133, 9, 20, 0, 182, 184, 0, 71, 154, 0, 8, 42, 182, 0, 98, 172, 27, 154, 0, 13, 42]
abbrev dktX0_forget_0 : List UInt8 := dkwX0_forget_0 ++ dktX0_forget_1
theorem dksX0_forget_0 : cX0_forget.data.toList.drop 0 = dktX0_forget_0 := by decide +kernel
theorem dksX0_forget_1 : cX0_forget.data.toList.drop 22 = dktX0_forget_1 := dk_seg dksX0_forget_0 22 rfl rfl
theorem dksX0_forget_2 : cX0_forget.data.toList.drop 46 = dktX0_forget_2 := dk_seg dksX0_forget_1 24 rfl rfl
theorem dksX0_forget_3 : cX0_forget.data.toList.drop 70 = dktX0_forget_3 := dk_seg dksX0_forget_2 24 rfl rfl
theorem dksX0_forget_4 : cX0_forget.data.toList.drop 93 = dktX0_forget_4 := dk_seg dksX0_forget_3 23 rfl rfl
theorem dksX0_forget_5 : cX0_forget.data.toList.drop 116 = dktX0_forget_5 := dk_seg dksX0_forget_4 23 rfl rfl
theorem dX0_forget_0 : decode cX0_forget 0 = .ok (.iload_n 1, 1) := dk_27 (dk_at dksX0_forget_0 0 rfl rfl)
theorem dX0_forget_1 : decode cX0_forget 1 = .ok (.i2l, 1) := dk_133 (dk_at dksX0_forget_0 1 rfl rfl)
theorem dX0_forget_2 : decode cX0_forget 2 = .ok (.lconst 0, 1) := dk_9 (dk_at dksX0_forget_0 2 rfl rfl)
theorem dX0_forget_3 : decode cX0_forget 3 = .ok (.ldc2_w 182, 3) := dk_20 0 182 (dk_at dksX0_forget_0 3 rfl rfl)
theorem dX0_forget_6 : decode cX0_forget 6 = .ok (.invokestatic 71, 3) := dk_184 0 71 (dk_at dksX0_forget_0 6 rfl rfl)
theorem dX0_forget_9 : decode cX0_forget 9 = .ok (.ifCond .ne 8, 3) := dk_154 0 8 (dk_at dksX0_forget_0 9 rfl rfl)
theorem dX0_forget_12 : decode cX0_forget 12 = .ok (.aload_n 0, 1) := dk_42 (dk_at dksX0_forget_0 12 rfl rfl)
theorem dX0_forget_13 : decode cX0_forget 13 = .ok (.invokevirtual 98, 3) := dk_182 0 98 (dk_at dksX0_forget_0 13 rfl rfl)
theorem dX0_forget_16 : decode cX0_forget 16 = .ok (.ireturn, 1) := dk_172 (dk_at dksX0_forget_0 16 rfl rfl)
theorem dX0_forget_17 : decode cX0_forget 17 = .ok (.iload_n 1, 1) := dk_27 (dk_at dksX0_forget_0 17 rfl rfl)
theorem dX0_forget_18 : decode cX0_forget 18 = .ok (.ifCond .ne 13, 3) := dk_154 0 13 (dk_at dksX0_forget_0 18 rfl rfl)
theorem dX0_forget_21 : decode cX0_forget 21 = .ok (.aload_n 0, 1) := dk_42 (dk_at dksX0_forget_0 21 rfl rfl)
theorem dX0_forget_22 : decode cX0_forget 22 = .ok (.getfield 10, 3) := dk_180 0 10 (dk_at dksX0_forget_1 0 rfl rfl)
theorem dX0_forget_25 : decode cX0_forget 25 = .ok (.getfield 248, 3) := dk_180 0 248 (dk_at dksX0_forget_1 3 rfl rfl)
theorem dX0_forget_28 : decode cX0_forget 28 = .ok (.goto 25, 3) := dk_167 0 25 (dk_at dksX0_forget_1 6 rfl rfl)
theorem dX0_forget_31 : decode cX0_forget 31 = .ok (.iload_n 1, 1) := dk_27 (dk_at dksX0_forget_1 9 rfl rfl)
theorem dX0_forget_32 : decode cX0_forget 32 = .ok (.iconst 1, 1) := dk_4 (dk_at dksX0_forget_1 10 rfl rfl)
theorem dX0_forget_33 : decode cX0_forget 33 = .ok (.if_icmp .ne 13, 3) := dk_160 0 13 (dk_at dksX0_forget_1 11 rfl rfl)
theorem dX0_forget_36 : decode cX0_forget 36 = .ok (.aload_n 0, 1) := dk_42 (dk_at dksX0_forget_1 14 rfl rfl)
theorem dX0_forget_37 : decode cX0_forget 37 = .ok (.getfield 10, 3) := dk_180 0 10 (dk_at dksX0_forget_1 15 rfl rfl)
theorem dX0_forget_40 : decode cX0_forget 40 = .ok (.getfield 273, 3) := dk_180 1 17 (dk_at dksX0_forget_1 18 rfl rfl)
theorem dX0_forget_43 : decode cX0_forget 43 = .ok (.goto 10, 3) := dk_167 0 10 (dk_at dksX0_forget_1 21 rfl rfl)
theorem dX0_forget_46 : decode cX0_forget 46 = .ok (.aload_n 0, 1) := dk_42 (dk_at dksX0_forget_2 0 rfl rfl)
theorem dX0_forget_47 : decode cX0_forget 47 = .ok (.getfield 10, 3) := dk_180 0 10 (dk_at dksX0_forget_2 1 rfl rfl)
theorem dX0_forget_50 : decode cX0_forget 50 = .ok (.getfield 279, 3) := dk_180 1 23 (dk_at dksX0_forget_2 4 rfl rfl)
theorem dX0_forget_53 : decode cX0_forget 53 = .ok (.istore_n 2, 1) := dk_61 (dk_at dksX0_forget_2 7 rfl rfl)
theorem dX0_forget_54 : decode cX0_forget 54 = .ok (.aload_n 0, 1) := dk_42 (dk_at dksX0_forget_2 8 rfl rfl)
theorem dX0_forget_55 : decode cX0_forget 55 = .ok (.getfield 10, 3) := dk_180 0 10 (dk_at dksX0_forget_2 9 rfl rfl)
theorem dX0_forget_58 : decode cX0_forget 58 = .ok (.iload_n 1, 1) := dk_27 (dk_at dksX0_forget_2 12 rfl rfl)
theorem dX0_forget_59 : decode cX0_forget 59 = .ok (.ifCond .ne 7, 3) := dk_154 0 7 (dk_at dksX0_forget_2 13 rfl rfl)
theorem dX0_forget_62 : decode cX0_forget 62 = .ok (.iconst 0, 1) := dk_3 (dk_at dksX0_forget_2 16 rfl rfl)
theorem dX0_forget_63 : decode cX0_forget 63 = .ok (.goto 10, 3) := dk_167 0 10 (dk_at dksX0_forget_2 17 rfl rfl)
theorem dX0_forget_66 : decode cX0_forget 66 = .ok (.aload_n 0, 1) := dk_42 (dk_at dksX0_forget_2 20 rfl rfl)
theorem dX0_forget_67 : decode cX0_forget 67 = .ok (.getfield 10, 3) := dk_180 0 10 (dk_at dksX0_forget_2 21 rfl rfl)
theorem dX0_forget_70 : decode cX0_forget 70 = .ok (.getfield 248, 3) := dk_180 0 248 (dk_at dksX0_forget_3 0 rfl rfl)
theorem dX0_forget_73 : decode cX0_forget 73 = .ok (.putfield 248, 3) := dk_181 0 248 (dk_at dksX0_forget_3 3 rfl rfl)
theorem dX0_forget_76 : decode cX0_forget 76 = .ok (.aload_n 0, 1) := dk_42 (dk_at dksX0_forget_3 6 rfl rfl)
theorem dX0_forget_77 : decode cX0_forget 77 = .ok (.getfield 10, 3) := dk_180 0 10 (dk_at dksX0_forget_3 7 rfl rfl)
theorem dX0_forget_80 : decode cX0_forget 80 = .ok (.iload_n 1, 1) := dk_27 (dk_at dksX0_forget_3 10 rfl rfl)
theorem dX0_forget_81 : decode cX0_forget 81 = .ok (.iconst 1, 1) := dk_4 (dk_at dksX0_forget_3 11 rfl rfl)
theorem dX0_forget_82 : decode cX0_forget 82 = .ok (.if_icmp .ne 7, 3) := dk_160 0 7 (dk_at dksX0_forget_3 12 rfl rfl)
theorem dX0_forget_85 : decode cX0_forget 85 = .ok (.iconst 0, 1) := dk_3 (dk_at dksX0_forget_3 15 rfl rfl)
theorem dX0_forget_86 : decode cX0_forget 86 = .ok (.goto 10, 3) := dk_167 0 10 (dk_at dksX0_forget_3 16 rfl rfl)
theorem dX0_forget_89 : decode cX0_forget 89 = .ok (.aload_n 0, 1) := dk_42 (dk_at dksX0_forget_3 19 rfl rfl)
theorem dX0_forget_90 : decode cX0_forget 90 = .ok (.getfield 10, 3) := dk_180 0 10 (dk_at dksX0_forget_3 20 rfl rfl)
theorem dX0_forget_93 : decode cX0_forget 93 = .ok (.getfield 273, 3) := dk_180 1 17 (dk_at dksX0_forget_4 0 rfl rfl)
theorem dX0_forget_96 : decode cX0_forget 96 = .ok (.putfield 273, 3) := dk_181 1 17 (dk_at dksX0_forget_4 3 rfl rfl)
theorem dX0_forget_99 : decode cX0_forget 99 = .ok (.aload_n 0, 1) := dk_42 (dk_at dksX0_forget_4 6 rfl rfl)
theorem dX0_forget_100 : decode cX0_forget 100 = .ok (.getfield 10, 3) := dk_180 0 10 (dk_at dksX0_forget_4 7 rfl rfl)
theorem dX0_forget_103 : decode cX0_forget 103 = .ok (.iload_n 1, 1) := dk_27 (dk_at dksX0_forget_4 10 rfl rfl)
theorem dX0_forget_104 : decode cX0_forget 104 = .ok (.iconst 2, 1) := dk_5 (dk_at dksX0_forget_4 11 rfl rfl)
theorem dX0_forget_105 : decode cX0_forget 105 = .ok (.if_icmp .ne 7, 3) := dk_160 0 7 (dk_at dksX0_forget_4 12 rfl rfl)
theorem dX0_forget_108 : decode cX0_forget 108 = .ok (.iconst 0, 1) := dk_3 (dk_at dksX0_forget_4 15 rfl rfl)
theorem dX0_forget_109 : decode cX0_forget 109 = .ok (.goto 10, 3) := dk_167 0 10 (dk_at dksX0_forget_4 16 rfl rfl)
theorem dX0_forget_112 : decode cX0_forget 112 = .ok (.aload_n 0, 1) := dk_42 (dk_at dksX0_forget_4 19 rfl rfl)
theorem dX0_forget_113 : decode cX0_forget 113 = .ok (.getfield 10, 3) := dk_180 0 10 (dk_at dksX0_forget_4 20 rfl rfl)
theorem dX0_forget_116 : decode cX0_forget 116 = .ok (.getfield 279, 3) := dk_180 1 23 (dk_at dksX0_forget_5 0 rfl rfl)
theorem dX0_forget_119 : decode cX0_forget 119 = .ok (.putfield 279, 3) := dk_181 1 23 (dk_at dksX0_forget_5 3 rfl rfl)
theorem dX0_forget_122 : decode cX0_forget 122 = .ok (.iload_n 2, 1) := dk_28 (dk_at dksX0_forget_5 6 rfl rfl)
theorem dX0_forget_123 : decode cX0_forget 123 = .ok (.ireturn, 1) := dk_172 (dk_at dksX0_forget_5 7 rfl rfl)
abbrev cX0_is : ByteArray := prog_1_method_48_code
def yX0_is : MethodName := ⟨RX0, "is", "(I)I"⟩
def dkwX0_is_0 : List UInt8 := [42, 27, 182, 0, 161, 153, 0, 11, 42, 27, 182, 1, 34, 167, 0, 7, 42, 182, 0, 98, 172]
abbrev dktX0_is_0 : List UInt8 := dkwX0_is_0 ++ []
theorem dksX0_is_0 : cX0_is.data.toList.drop 0 = dktX0_is_0 := by decide +kernel
theorem dX0_is_0 : decode cX0_is 0 = .ok (.aload_n 0, 1) := dk_42 (dk_at dksX0_is_0 0 rfl rfl)
theorem dX0_is_1 : decode cX0_is 1 = .ok (.iload_n 1, 1) := dk_27 (dk_at dksX0_is_0 1 rfl rfl)
theorem dX0_is_2 : decode cX0_is 2 = .ok (.invokevirtual 161, 3) := dk_182 0 161 (dk_at dksX0_is_0 2 rfl rfl)
theorem dX0_is_5 : decode cX0_is 5 = .ok (.ifCond .eq 11, 3) := dk_153 0 11 (dk_at dksX0_is_0 5 rfl rfl)
theorem dX0_is_8 : decode cX0_is 8 = .ok (.aload_n 0, 1) := dk_42 (dk_at dksX0_is_0 8 rfl rfl)
theorem dX0_is_9 : decode cX0_is 9 = .ok (.iload_n 1, 1) := dk_27 (dk_at dksX0_is_0 9 rfl rfl)
theorem dX0_is_10 : decode cX0_is 10 = .ok (.invokevirtual 290, 3) := dk_182 1 34 (dk_at dksX0_is_0 10 rfl rfl)
theorem dX0_is_13 : decode cX0_is 13 = .ok (.goto 7, 3) := dk_167 0 7 (dk_at dksX0_is_0 13 rfl rfl)
theorem dX0_is_16 : decode cX0_is 16 = .ok (.aload_n 0, 1) := dk_42 (dk_at dksX0_is_0 16 rfl rfl)
theorem dX0_is_17 : decode cX0_is 17 = .ok (.invokevirtual 98, 3) := dk_182 0 98 (dk_at dksX0_is_0 17 rfl rfl)
theorem dX0_is_20 : decode cX0_is 20 = .ok (.ireturn, 1) := dk_172 (dk_at dksX0_is_0 20 rfl rfl)
abbrev cX0_kinOf : ByteArray := prog_1_method_47_code
def yX0_kinOf : MethodName := ⟨RX0, "kinOf", "(I)I"⟩
def dkwX0_kinOf_5 : List UInt8 := [132, 4, 1, 167, 255, 150, 28, 172]
abbrev dktX0_kinOf_5 : List UInt8 := dkwX0_kinOf_5 ++ []
def dkwX0_kinOf_4 : List UInt8 := [132, 6, 1, 167, 255, 185, 28, 21, 5, 153, 0, 10, 4, 21, 4, 120, 167, 0, 4, 3, 128, 61]
abbrev dktX0_kinOf_4 : List UInt8 := dkwX0_kinOf_4 ++ dktX0_kinOf_5
def dkwX0_kinOf_3 : List UInt8 := [21, 7, 5, 96, 46, 182, 1, 32, 45, 21, 7, 6, 96, 46, 160, 0, 7, 4, 167, 0, 4, 3, 54, 5]
abbrev dktX0_kinOf_3 : List UInt8 := dkwX0_kinOf_3 ++ dktX0_kinOf_4
def dkwX0_kinOf_2 : List UInt8 := [54, 7, 45, 21, 7, 46, 27, 160, 0, 33, 178, 1, 29, 21, 4, 50, 45, 21, 7, 4, 96, 46, 45]
abbrev dktX0_kinOf_2 : List UInt8 := dkwX0_kinOf_2 ++ dktX0_kinOf_3
def dkwX0_kinOf_1 : List UInt8 := [54, 6, 21, 6, 42, 180, 0, 10, 180, 1, 17, 162, 0, 65, 21, 5, 153, 0, 60, 7, 21, 6, 104]
abbrev dktX0_kinOf_1 : List UInt8 := dkwX0_kinOf_1 ++ dktX0_kinOf_2
def dkwX0_kinOf_0 : List UInt8 := [3, 61, 42, 180, 0, 10, 180, 1, 20, 78, 3, 54, 4, 21, 4, 16, 6, 162, 0, 105, 4, 54, 5, 3]
abbrev dktX0_kinOf_0 : List UInt8 := dkwX0_kinOf_0 ++ dktX0_kinOf_1
theorem dksX0_kinOf_0 : cX0_kinOf.data.toList.drop 0 = dktX0_kinOf_0 := by decide +kernel
theorem dksX0_kinOf_1 : cX0_kinOf.data.toList.drop 24 = dktX0_kinOf_1 := dk_seg dksX0_kinOf_0 24 rfl rfl
theorem dksX0_kinOf_2 : cX0_kinOf.data.toList.drop 47 = dktX0_kinOf_2 := dk_seg dksX0_kinOf_1 23 rfl rfl
theorem dksX0_kinOf_3 : cX0_kinOf.data.toList.drop 70 = dktX0_kinOf_3 := dk_seg dksX0_kinOf_2 23 rfl rfl
theorem dksX0_kinOf_4 : cX0_kinOf.data.toList.drop 94 = dktX0_kinOf_4 := dk_seg dksX0_kinOf_3 24 rfl rfl
theorem dksX0_kinOf_5 : cX0_kinOf.data.toList.drop 116 = dktX0_kinOf_5 := dk_seg dksX0_kinOf_4 22 rfl rfl
theorem dX0_kinOf_0 : decode cX0_kinOf 0 = .ok (.iconst 0, 1) := dk_3 (dk_at dksX0_kinOf_0 0 rfl rfl)
theorem dX0_kinOf_1 : decode cX0_kinOf 1 = .ok (.istore_n 2, 1) := dk_61 (dk_at dksX0_kinOf_0 1 rfl rfl)
theorem dX0_kinOf_2 : decode cX0_kinOf 2 = .ok (.aload_n 0, 1) := dk_42 (dk_at dksX0_kinOf_0 2 rfl rfl)
theorem dX0_kinOf_3 : decode cX0_kinOf 3 = .ok (.getfield 10, 3) := dk_180 0 10 (dk_at dksX0_kinOf_0 3 rfl rfl)
theorem dX0_kinOf_6 : decode cX0_kinOf 6 = .ok (.getfield 276, 3) := dk_180 1 20 (dk_at dksX0_kinOf_0 6 rfl rfl)
theorem dX0_kinOf_9 : decode cX0_kinOf 9 = .ok (.astore_n 3, 1) := dk_78 (dk_at dksX0_kinOf_0 9 rfl rfl)
theorem dX0_kinOf_10 : decode cX0_kinOf 10 = .ok (.iconst 0, 1) := dk_3 (dk_at dksX0_kinOf_0 10 rfl rfl)
theorem dX0_kinOf_11 : decode cX0_kinOf 11 = .ok (.istore 4, 2) := dk_54 4 (dk_at dksX0_kinOf_0 11 rfl rfl)
theorem dX0_kinOf_13 : decode cX0_kinOf 13 = .ok (.iload 4, 2) := dk_21 4 (dk_at dksX0_kinOf_0 13 rfl rfl)
theorem dX0_kinOf_15 : decode cX0_kinOf 15 = .ok (.bipush 6, 2) := dk_16 6 (dk_at dksX0_kinOf_0 15 rfl rfl)
theorem dX0_kinOf_17 : decode cX0_kinOf 17 = .ok (.if_icmp .ge 105, 3) := dk_162 0 105 (dk_at dksX0_kinOf_0 17 rfl rfl)
theorem dX0_kinOf_20 : decode cX0_kinOf 20 = .ok (.iconst 1, 1) := dk_4 (dk_at dksX0_kinOf_0 20 rfl rfl)
theorem dX0_kinOf_21 : decode cX0_kinOf 21 = .ok (.istore 5, 2) := dk_54 5 (dk_at dksX0_kinOf_0 21 rfl rfl)
theorem dX0_kinOf_23 : decode cX0_kinOf 23 = .ok (.iconst 0, 1) := dk_3 (dk_at dksX0_kinOf_0 23 rfl rfl)
theorem dX0_kinOf_24 : decode cX0_kinOf 24 = .ok (.istore 6, 2) := dk_54 6 (dk_at dksX0_kinOf_1 0 rfl rfl)
theorem dX0_kinOf_26 : decode cX0_kinOf 26 = .ok (.iload 6, 2) := dk_21 6 (dk_at dksX0_kinOf_1 2 rfl rfl)
theorem dX0_kinOf_28 : decode cX0_kinOf 28 = .ok (.aload_n 0, 1) := dk_42 (dk_at dksX0_kinOf_1 4 rfl rfl)
theorem dX0_kinOf_29 : decode cX0_kinOf 29 = .ok (.getfield 10, 3) := dk_180 0 10 (dk_at dksX0_kinOf_1 5 rfl rfl)
theorem dX0_kinOf_32 : decode cX0_kinOf 32 = .ok (.getfield 273, 3) := dk_180 1 17 (dk_at dksX0_kinOf_1 8 rfl rfl)
theorem dX0_kinOf_35 : decode cX0_kinOf 35 = .ok (.if_icmp .ge 65, 3) := dk_162 0 65 (dk_at dksX0_kinOf_1 11 rfl rfl)
theorem dX0_kinOf_38 : decode cX0_kinOf 38 = .ok (.iload 5, 2) := dk_21 5 (dk_at dksX0_kinOf_1 14 rfl rfl)
theorem dX0_kinOf_40 : decode cX0_kinOf 40 = .ok (.ifCond .eq 60, 3) := dk_153 0 60 (dk_at dksX0_kinOf_1 16 rfl rfl)
theorem dX0_kinOf_43 : decode cX0_kinOf 43 = .ok (.iconst 4, 1) := dk_7 (dk_at dksX0_kinOf_1 19 rfl rfl)
theorem dX0_kinOf_44 : decode cX0_kinOf 44 = .ok (.iload 6, 2) := dk_21 6 (dk_at dksX0_kinOf_1 20 rfl rfl)
theorem dX0_kinOf_46 : decode cX0_kinOf 46 = .ok (.imul, 1) := dk_104 (dk_at dksX0_kinOf_1 22 rfl rfl)
theorem dX0_kinOf_47 : decode cX0_kinOf 47 = .ok (.istore 7, 2) := dk_54 7 (dk_at dksX0_kinOf_2 0 rfl rfl)
theorem dX0_kinOf_49 : decode cX0_kinOf 49 = .ok (.aload_n 3, 1) := dk_45 (dk_at dksX0_kinOf_2 2 rfl rfl)
theorem dX0_kinOf_50 : decode cX0_kinOf 50 = .ok (.iload 7, 2) := dk_21 7 (dk_at dksX0_kinOf_2 3 rfl rfl)
theorem dX0_kinOf_52 : decode cX0_kinOf 52 = .ok (.iaload, 1) := dk_46 (dk_at dksX0_kinOf_2 5 rfl rfl)
theorem dX0_kinOf_53 : decode cX0_kinOf 53 = .ok (.iload_n 1, 1) := dk_27 (dk_at dksX0_kinOf_2 6 rfl rfl)
theorem dX0_kinOf_54 : decode cX0_kinOf 54 = .ok (.if_icmp .ne 33, 3) := dk_160 0 33 (dk_at dksX0_kinOf_2 7 rfl rfl)
theorem dX0_kinOf_57 : decode cX0_kinOf 57 = .ok (.getstatic 285, 3) := dk_178 1 29 (dk_at dksX0_kinOf_2 10 rfl rfl)
theorem dX0_kinOf_60 : decode cX0_kinOf 60 = .ok (.iload 4, 2) := dk_21 4 (dk_at dksX0_kinOf_2 13 rfl rfl)
theorem dX0_kinOf_62 : decode cX0_kinOf 62 = .ok (.aaload, 1) := dk_50 (dk_at dksX0_kinOf_2 15 rfl rfl)
theorem dX0_kinOf_63 : decode cX0_kinOf 63 = .ok (.aload_n 3, 1) := dk_45 (dk_at dksX0_kinOf_2 16 rfl rfl)
theorem dX0_kinOf_64 : decode cX0_kinOf 64 = .ok (.iload 7, 2) := dk_21 7 (dk_at dksX0_kinOf_2 17 rfl rfl)
theorem dX0_kinOf_66 : decode cX0_kinOf 66 = .ok (.iconst 1, 1) := dk_4 (dk_at dksX0_kinOf_2 19 rfl rfl)
theorem dX0_kinOf_67 : decode cX0_kinOf 67 = .ok (.iadd, 1) := dk_96 (dk_at dksX0_kinOf_2 20 rfl rfl)
theorem dX0_kinOf_68 : decode cX0_kinOf 68 = .ok (.iaload, 1) := dk_46 (dk_at dksX0_kinOf_2 21 rfl rfl)
theorem dX0_kinOf_69 : decode cX0_kinOf 69 = .ok (.aload_n 3, 1) := dk_45 (dk_at dksX0_kinOf_2 22 rfl rfl)
theorem dX0_kinOf_70 : decode cX0_kinOf 70 = .ok (.iload 7, 2) := dk_21 7 (dk_at dksX0_kinOf_3 0 rfl rfl)
theorem dX0_kinOf_72 : decode cX0_kinOf 72 = .ok (.iconst 2, 1) := dk_5 (dk_at dksX0_kinOf_3 2 rfl rfl)
theorem dX0_kinOf_73 : decode cX0_kinOf 73 = .ok (.iadd, 1) := dk_96 (dk_at dksX0_kinOf_3 3 rfl rfl)
theorem dX0_kinOf_74 : decode cX0_kinOf 74 = .ok (.iaload, 1) := dk_46 (dk_at dksX0_kinOf_3 4 rfl rfl)
theorem dX0_kinOf_75 : decode cX0_kinOf 75 = .ok (.invokevirtual 288, 3) := dk_182 1 32 (dk_at dksX0_kinOf_3 5 rfl rfl)
theorem dX0_kinOf_78 : decode cX0_kinOf 78 = .ok (.aload_n 3, 1) := dk_45 (dk_at dksX0_kinOf_3 8 rfl rfl)
theorem dX0_kinOf_79 : decode cX0_kinOf 79 = .ok (.iload 7, 2) := dk_21 7 (dk_at dksX0_kinOf_3 9 rfl rfl)
theorem dX0_kinOf_81 : decode cX0_kinOf 81 = .ok (.iconst 3, 1) := dk_6 (dk_at dksX0_kinOf_3 11 rfl rfl)
theorem dX0_kinOf_82 : decode cX0_kinOf 82 = .ok (.iadd, 1) := dk_96 (dk_at dksX0_kinOf_3 12 rfl rfl)
theorem dX0_kinOf_83 : decode cX0_kinOf 83 = .ok (.iaload, 1) := dk_46 (dk_at dksX0_kinOf_3 13 rfl rfl)
theorem dX0_kinOf_84 : decode cX0_kinOf 84 = .ok (.if_icmp .ne 7, 3) := dk_160 0 7 (dk_at dksX0_kinOf_3 14 rfl rfl)
theorem dX0_kinOf_87 : decode cX0_kinOf 87 = .ok (.iconst 1, 1) := dk_4 (dk_at dksX0_kinOf_3 17 rfl rfl)
theorem dX0_kinOf_88 : decode cX0_kinOf 88 = .ok (.goto 4, 3) := dk_167 0 4 (dk_at dksX0_kinOf_3 18 rfl rfl)
theorem dX0_kinOf_91 : decode cX0_kinOf 91 = .ok (.iconst 0, 1) := dk_3 (dk_at dksX0_kinOf_3 21 rfl rfl)
theorem dX0_kinOf_92 : decode cX0_kinOf 92 = .ok (.istore 5, 2) := dk_54 5 (dk_at dksX0_kinOf_3 22 rfl rfl)
theorem dX0_kinOf_94 : decode cX0_kinOf 94 = .ok (.iinc 6 1, 3) := dk_132 6 1 (dk_at dksX0_kinOf_4 0 rfl rfl)
theorem dX0_kinOf_97 : decode cX0_kinOf 97 = .ok (.goto (-71), 3) := dk_167 255 185 (dk_at dksX0_kinOf_4 3 rfl rfl)
theorem dX0_kinOf_100 : decode cX0_kinOf 100 = .ok (.iload_n 2, 1) := dk_28 (dk_at dksX0_kinOf_4 6 rfl rfl)
theorem dX0_kinOf_101 : decode cX0_kinOf 101 = .ok (.iload 5, 2) := dk_21 5 (dk_at dksX0_kinOf_4 7 rfl rfl)
theorem dX0_kinOf_103 : decode cX0_kinOf 103 = .ok (.ifCond .eq 10, 3) := dk_153 0 10 (dk_at dksX0_kinOf_4 9 rfl rfl)
theorem dX0_kinOf_106 : decode cX0_kinOf 106 = .ok (.iconst 1, 1) := dk_4 (dk_at dksX0_kinOf_4 12 rfl rfl)
theorem dX0_kinOf_107 : decode cX0_kinOf 107 = .ok (.iload 4, 2) := dk_21 4 (dk_at dksX0_kinOf_4 13 rfl rfl)
theorem dX0_kinOf_109 : decode cX0_kinOf 109 = .ok (.ishl, 1) := dk_120 (dk_at dksX0_kinOf_4 15 rfl rfl)
theorem dX0_kinOf_110 : decode cX0_kinOf 110 = .ok (.goto 4, 3) := dk_167 0 4 (dk_at dksX0_kinOf_4 16 rfl rfl)
theorem dX0_kinOf_113 : decode cX0_kinOf 113 = .ok (.iconst 0, 1) := dk_3 (dk_at dksX0_kinOf_4 19 rfl rfl)
theorem dX0_kinOf_114 : decode cX0_kinOf 114 = .ok (.ior, 1) := dk_128 (dk_at dksX0_kinOf_4 20 rfl rfl)
theorem dX0_kinOf_115 : decode cX0_kinOf 115 = .ok (.istore_n 2, 1) := dk_61 (dk_at dksX0_kinOf_4 21 rfl rfl)
theorem dX0_kinOf_116 : decode cX0_kinOf 116 = .ok (.iinc 4 1, 3) := dk_132 4 1 (dk_at dksX0_kinOf_5 0 rfl rfl)
theorem dX0_kinOf_119 : decode cX0_kinOf 119 = .ok (.goto (-106), 3) := dk_167 255 150 (dk_at dksX0_kinOf_5 3 rfl rfl)
theorem dX0_kinOf_122 : decode cX0_kinOf 122 = .ok (.iload_n 2, 1) := dk_28 (dk_at dksX0_kinOf_5 6 rfl rfl)
theorem dX0_kinOf_123 : decode cX0_kinOf 123 = .ok (.ireturn, 1) := dk_172 (dk_at dksX0_kinOf_5 7 rfl rfl)
abbrev cX0_look : ByteArray := prog_1_method_49_code
def yX0_look : MethodName := ⟨RX0, "look", "(I)I"⟩
def dkwX0_look_8 : List UInt8 := [167, 255, 94, 29, 172]
abbrev dktX0_look_8 : List UInt8 := dkwX0_look_8 ++ []
def dkwX0_look_7 : List UInt8 := [21, 4, 162, 0, 8, 21, 5, 167, 0, 4, 29, 62, 21, 4, 21, 6, 184, 1, 11, 54, 4, 132, 5, 1]
abbrev dktX0_look_7 : List UInt8 := dkwX0_look_7 ++ dktX0_look_8
def dkwX0_look_6 : List UInt8 := [132, 9, 1, 167, 255, 168, 21, 6, 21, 8, 184, 1, 6, 54, 6, 132, 7, 1, 167, 255, 140, 21, 6]
abbrev dktX0_look_6 : List UInt8 := dkwX0_look_6 ++ dktX0_look_7
def dkwX0_look_5 : List UInt8 := [28, 21, 9, 122, 126, 4, 126, 4, 160, 0, 12, 21, 10, 153, 0, 7, 4, 167, 0, 4, 3, 96, 54, 8]
abbrev dktX0_look_5 : List UInt8 := dkwX0_look_5 ++ dktX0_look_6
def dkwX0_look_4 : List UInt8 := [21, 5, 16, 10, 108, 182, 1, 32, 160, 0, 7, 4, 167, 0, 4, 3, 54, 10, 21, 8, 28, 21, 7, 122]
abbrev dktX0_look_4 : List UInt8 := dkwX0_look_4 ++ dktX0_look_5
def dkwX0_look_3 : List UInt8 := [21, 5, 16, 10, 112, 21, 5, 16, 10, 108, 182, 1, 32, 178, 1, 29, 21, 9, 50, 21, 5, 16, 10, 112]
abbrev dktX0_look_3 : List UInt8 := dkwX0_look_3 ++ dktX0_look_4
def dkwX0_look_2 : List UInt8 := [16, 6, 162, 0, 115, 3, 54, 8, 3, 54, 9, 21, 9, 16, 6, 162, 0, 87, 178, 1, 29, 21, 7, 50]
abbrev dktX0_look_2 : List UInt8 := dkwX0_look_2 ++ dktX0_look_3
def dkwX0_look_1 : List UInt8 := [54, 4, 3, 54, 5, 21, 5, 16, 120, 162, 0, 161, 28, 153, 0, 157, 3, 54, 6, 3, 54, 7, 21, 7]
abbrev dktX0_look_1 : List UInt8 := dkwX0_look_1 ++ dktX0_look_2
def dkwX0_look_0 : List UInt8 := [42, 27, 182, 0, 161, 154, 0, 8, 42, 182, 0, 98, 172, 42, 27, 182, 1, 34, 61, 2, 62, 19, 1, 5]
abbrev dktX0_look_0 : List UInt8 := dkwX0_look_0 ++ dktX0_look_1
theorem dksX0_look_0 : cX0_look.data.toList.drop 0 = dktX0_look_0 := by decide +kernel
theorem dksX0_look_1 : cX0_look.data.toList.drop 24 = dktX0_look_1 := dk_seg dksX0_look_0 24 rfl rfl
theorem dksX0_look_2 : cX0_look.data.toList.drop 48 = dktX0_look_2 := dk_seg dksX0_look_1 24 rfl rfl
theorem dksX0_look_3 : cX0_look.data.toList.drop 72 = dktX0_look_3 := dk_seg dksX0_look_2 24 rfl rfl
theorem dksX0_look_4 : cX0_look.data.toList.drop 96 = dktX0_look_4 := dk_seg dksX0_look_3 24 rfl rfl
theorem dksX0_look_5 : cX0_look.data.toList.drop 120 = dktX0_look_5 := dk_seg dksX0_look_4 24 rfl rfl
theorem dksX0_look_6 : cX0_look.data.toList.drop 144 = dktX0_look_6 := dk_seg dksX0_look_5 24 rfl rfl
theorem dksX0_look_7 : cX0_look.data.toList.drop 167 = dktX0_look_7 := dk_seg dksX0_look_6 23 rfl rfl
theorem dksX0_look_8 : cX0_look.data.toList.drop 191 = dktX0_look_8 := dk_seg dksX0_look_7 24 rfl rfl
theorem dX0_look_0 : decode cX0_look 0 = .ok (.aload_n 0, 1) := dk_42 (dk_at dksX0_look_0 0 rfl rfl)
theorem dX0_look_1 : decode cX0_look 1 = .ok (.iload_n 1, 1) := dk_27 (dk_at dksX0_look_0 1 rfl rfl)
theorem dX0_look_2 : decode cX0_look 2 = .ok (.invokevirtual 161, 3) := dk_182 0 161 (dk_at dksX0_look_0 2 rfl rfl)
theorem dX0_look_5 : decode cX0_look 5 = .ok (.ifCond .ne 8, 3) := dk_154 0 8 (dk_at dksX0_look_0 5 rfl rfl)
theorem dX0_look_8 : decode cX0_look 8 = .ok (.aload_n 0, 1) := dk_42 (dk_at dksX0_look_0 8 rfl rfl)
theorem dX0_look_9 : decode cX0_look 9 = .ok (.invokevirtual 98, 3) := dk_182 0 98 (dk_at dksX0_look_0 9 rfl rfl)
theorem dX0_look_12 : decode cX0_look 12 = .ok (.ireturn, 1) := dk_172 (dk_at dksX0_look_0 12 rfl rfl)
theorem dX0_look_13 : decode cX0_look 13 = .ok (.aload_n 0, 1) := dk_42 (dk_at dksX0_look_0 13 rfl rfl)
theorem dX0_look_14 : decode cX0_look 14 = .ok (.iload_n 1, 1) := dk_27 (dk_at dksX0_look_0 14 rfl rfl)
theorem dX0_look_15 : decode cX0_look 15 = .ok (.invokevirtual 290, 3) := dk_182 1 34 (dk_at dksX0_look_0 15 rfl rfl)
theorem dX0_look_18 : decode cX0_look 18 = .ok (.istore_n 2, 1) := dk_61 (dk_at dksX0_look_0 18 rfl rfl)
theorem dX0_look_19 : decode cX0_look 19 = .ok (.iconst (-1), 1) := dk_2 (dk_at dksX0_look_0 19 rfl rfl)
theorem dX0_look_20 : decode cX0_look 20 = .ok (.istore_n 3, 1) := dk_62 (dk_at dksX0_look_0 20 rfl rfl)
theorem dX0_look_21 : decode cX0_look 21 = .ok (.ldc_w 261, 3) := dk_19 1 5 (dk_at dksX0_look_0 21 rfl rfl)
theorem dX0_look_24 : decode cX0_look 24 = .ok (.istore 4, 2) := dk_54 4 (dk_at dksX0_look_1 0 rfl rfl)
theorem dX0_look_26 : decode cX0_look 26 = .ok (.iconst 0, 1) := dk_3 (dk_at dksX0_look_1 2 rfl rfl)
theorem dX0_look_27 : decode cX0_look 27 = .ok (.istore 5, 2) := dk_54 5 (dk_at dksX0_look_1 3 rfl rfl)
theorem dX0_look_29 : decode cX0_look 29 = .ok (.iload 5, 2) := dk_21 5 (dk_at dksX0_look_1 5 rfl rfl)
theorem dX0_look_31 : decode cX0_look 31 = .ok (.bipush 120, 2) := dk_16 120 (dk_at dksX0_look_1 7 rfl rfl)
theorem dX0_look_33 : decode cX0_look 33 = .ok (.if_icmp .ge 161, 3) := dk_162 0 161 (dk_at dksX0_look_1 9 rfl rfl)
theorem dX0_look_36 : decode cX0_look 36 = .ok (.iload_n 2, 1) := dk_28 (dk_at dksX0_look_1 12 rfl rfl)
theorem dX0_look_37 : decode cX0_look 37 = .ok (.ifCond .eq 157, 3) := dk_153 0 157 (dk_at dksX0_look_1 13 rfl rfl)
theorem dX0_look_40 : decode cX0_look 40 = .ok (.iconst 0, 1) := dk_3 (dk_at dksX0_look_1 16 rfl rfl)
theorem dX0_look_41 : decode cX0_look 41 = .ok (.istore 6, 2) := dk_54 6 (dk_at dksX0_look_1 17 rfl rfl)
theorem dX0_look_43 : decode cX0_look 43 = .ok (.iconst 0, 1) := dk_3 (dk_at dksX0_look_1 19 rfl rfl)
theorem dX0_look_44 : decode cX0_look 44 = .ok (.istore 7, 2) := dk_54 7 (dk_at dksX0_look_1 20 rfl rfl)
theorem dX0_look_46 : decode cX0_look 46 = .ok (.iload 7, 2) := dk_21 7 (dk_at dksX0_look_1 22 rfl rfl)
theorem dX0_look_48 : decode cX0_look 48 = .ok (.bipush 6, 2) := dk_16 6 (dk_at dksX0_look_2 0 rfl rfl)
theorem dX0_look_50 : decode cX0_look 50 = .ok (.if_icmp .ge 115, 3) := dk_162 0 115 (dk_at dksX0_look_2 2 rfl rfl)
theorem dX0_look_53 : decode cX0_look 53 = .ok (.iconst 0, 1) := dk_3 (dk_at dksX0_look_2 5 rfl rfl)
theorem dX0_look_54 : decode cX0_look 54 = .ok (.istore 8, 2) := dk_54 8 (dk_at dksX0_look_2 6 rfl rfl)
theorem dX0_look_56 : decode cX0_look 56 = .ok (.iconst 0, 1) := dk_3 (dk_at dksX0_look_2 8 rfl rfl)
theorem dX0_look_57 : decode cX0_look 57 = .ok (.istore 9, 2) := dk_54 9 (dk_at dksX0_look_2 9 rfl rfl)
theorem dX0_look_59 : decode cX0_look 59 = .ok (.iload 9, 2) := dk_21 9 (dk_at dksX0_look_2 11 rfl rfl)
theorem dX0_look_61 : decode cX0_look 61 = .ok (.bipush 6, 2) := dk_16 6 (dk_at dksX0_look_2 13 rfl rfl)
theorem dX0_look_63 : decode cX0_look 63 = .ok (.if_icmp .ge 87, 3) := dk_162 0 87 (dk_at dksX0_look_2 15 rfl rfl)
theorem dX0_look_66 : decode cX0_look 66 = .ok (.getstatic 285, 3) := dk_178 1 29 (dk_at dksX0_look_2 18 rfl rfl)
theorem dX0_look_69 : decode cX0_look 69 = .ok (.iload 7, 2) := dk_21 7 (dk_at dksX0_look_2 21 rfl rfl)
theorem dX0_look_71 : decode cX0_look 71 = .ok (.aaload, 1) := dk_50 (dk_at dksX0_look_2 23 rfl rfl)
theorem dX0_look_72 : decode cX0_look 72 = .ok (.iload 5, 2) := dk_21 5 (dk_at dksX0_look_3 0 rfl rfl)
theorem dX0_look_74 : decode cX0_look 74 = .ok (.bipush 10, 2) := dk_16 10 (dk_at dksX0_look_3 2 rfl rfl)
theorem dX0_look_76 : decode cX0_look 76 = .ok (.irem, 1) := dk_112 (dk_at dksX0_look_3 4 rfl rfl)
theorem dX0_look_77 : decode cX0_look 77 = .ok (.iload 5, 2) := dk_21 5 (dk_at dksX0_look_3 5 rfl rfl)
theorem dX0_look_79 : decode cX0_look 79 = .ok (.bipush 10, 2) := dk_16 10 (dk_at dksX0_look_3 7 rfl rfl)
theorem dX0_look_81 : decode cX0_look 81 = .ok (.idiv, 1) := dk_108 (dk_at dksX0_look_3 9 rfl rfl)
theorem dX0_look_82 : decode cX0_look 82 = .ok (.invokevirtual 288, 3) := dk_182 1 32 (dk_at dksX0_look_3 10 rfl rfl)
theorem dX0_look_85 : decode cX0_look 85 = .ok (.getstatic 285, 3) := dk_178 1 29 (dk_at dksX0_look_3 13 rfl rfl)
theorem dX0_look_88 : decode cX0_look 88 = .ok (.iload 9, 2) := dk_21 9 (dk_at dksX0_look_3 16 rfl rfl)
theorem dX0_look_90 : decode cX0_look 90 = .ok (.aaload, 1) := dk_50 (dk_at dksX0_look_3 18 rfl rfl)
theorem dX0_look_91 : decode cX0_look 91 = .ok (.iload 5, 2) := dk_21 5 (dk_at dksX0_look_3 19 rfl rfl)
theorem dX0_look_93 : decode cX0_look 93 = .ok (.bipush 10, 2) := dk_16 10 (dk_at dksX0_look_3 21 rfl rfl)
theorem dX0_look_95 : decode cX0_look 95 = .ok (.irem, 1) := dk_112 (dk_at dksX0_look_3 23 rfl rfl)
theorem dX0_look_96 : decode cX0_look 96 = .ok (.iload 5, 2) := dk_21 5 (dk_at dksX0_look_4 0 rfl rfl)
theorem dX0_look_98 : decode cX0_look 98 = .ok (.bipush 10, 2) := dk_16 10 (dk_at dksX0_look_4 2 rfl rfl)
theorem dX0_look_100 : decode cX0_look 100 = .ok (.idiv, 1) := dk_108 (dk_at dksX0_look_4 4 rfl rfl)
theorem dX0_look_101 : decode cX0_look 101 = .ok (.invokevirtual 288, 3) := dk_182 1 32 (dk_at dksX0_look_4 5 rfl rfl)
theorem dX0_look_104 : decode cX0_look 104 = .ok (.if_icmp .ne 7, 3) := dk_160 0 7 (dk_at dksX0_look_4 8 rfl rfl)
theorem dX0_look_107 : decode cX0_look 107 = .ok (.iconst 1, 1) := dk_4 (dk_at dksX0_look_4 11 rfl rfl)
theorem dX0_look_108 : decode cX0_look 108 = .ok (.goto 4, 3) := dk_167 0 4 (dk_at dksX0_look_4 12 rfl rfl)
theorem dX0_look_111 : decode cX0_look 111 = .ok (.iconst 0, 1) := dk_3 (dk_at dksX0_look_4 15 rfl rfl)
theorem dX0_look_112 : decode cX0_look 112 = .ok (.istore 10, 2) := dk_54 10 (dk_at dksX0_look_4 16 rfl rfl)
theorem dX0_look_114 : decode cX0_look 114 = .ok (.iload 8, 2) := dk_21 8 (dk_at dksX0_look_4 18 rfl rfl)
theorem dX0_look_116 : decode cX0_look 116 = .ok (.iload_n 2, 1) := dk_28 (dk_at dksX0_look_4 20 rfl rfl)
theorem dX0_look_117 : decode cX0_look 117 = .ok (.iload 7, 2) := dk_21 7 (dk_at dksX0_look_4 21 rfl rfl)
theorem dX0_look_119 : decode cX0_look 119 = .ok (.ishr, 1) := dk_122 (dk_at dksX0_look_4 23 rfl rfl)
theorem dX0_look_120 : decode cX0_look 120 = .ok (.iload_n 2, 1) := dk_28 (dk_at dksX0_look_5 0 rfl rfl)
theorem dX0_look_121 : decode cX0_look 121 = .ok (.iload 9, 2) := dk_21 9 (dk_at dksX0_look_5 1 rfl rfl)
theorem dX0_look_123 : decode cX0_look 123 = .ok (.ishr, 1) := dk_122 (dk_at dksX0_look_5 3 rfl rfl)
theorem dX0_look_124 : decode cX0_look 124 = .ok (.iand, 1) := dk_126 (dk_at dksX0_look_5 4 rfl rfl)
theorem dX0_look_125 : decode cX0_look 125 = .ok (.iconst 1, 1) := dk_4 (dk_at dksX0_look_5 5 rfl rfl)
theorem dX0_look_126 : decode cX0_look 126 = .ok (.iand, 1) := dk_126 (dk_at dksX0_look_5 6 rfl rfl)
theorem dX0_look_127 : decode cX0_look 127 = .ok (.iconst 1, 1) := dk_4 (dk_at dksX0_look_5 7 rfl rfl)
theorem dX0_look_128 : decode cX0_look 128 = .ok (.if_icmp .ne 12, 3) := dk_160 0 12 (dk_at dksX0_look_5 8 rfl rfl)
theorem dX0_look_131 : decode cX0_look 131 = .ok (.iload 10, 2) := dk_21 10 (dk_at dksX0_look_5 11 rfl rfl)
theorem dX0_look_133 : decode cX0_look 133 = .ok (.ifCond .eq 7, 3) := dk_153 0 7 (dk_at dksX0_look_5 13 rfl rfl)
theorem dX0_look_136 : decode cX0_look 136 = .ok (.iconst 1, 1) := dk_4 (dk_at dksX0_look_5 16 rfl rfl)
theorem dX0_look_137 : decode cX0_look 137 = .ok (.goto 4, 3) := dk_167 0 4 (dk_at dksX0_look_5 17 rfl rfl)
theorem dX0_look_140 : decode cX0_look 140 = .ok (.iconst 0, 1) := dk_3 (dk_at dksX0_look_5 20 rfl rfl)
theorem dX0_look_141 : decode cX0_look 141 = .ok (.iadd, 1) := dk_96 (dk_at dksX0_look_5 21 rfl rfl)
theorem dX0_look_142 : decode cX0_look 142 = .ok (.istore 8, 2) := dk_54 8 (dk_at dksX0_look_5 22 rfl rfl)
theorem dX0_look_144 : decode cX0_look 144 = .ok (.iinc 9 1, 3) := dk_132 9 1 (dk_at dksX0_look_6 0 rfl rfl)
theorem dX0_look_147 : decode cX0_look 147 = .ok (.goto (-88), 3) := dk_167 255 168 (dk_at dksX0_look_6 3 rfl rfl)
theorem dX0_look_150 : decode cX0_look 150 = .ok (.iload 6, 2) := dk_21 6 (dk_at dksX0_look_6 6 rfl rfl)
theorem dX0_look_152 : decode cX0_look 152 = .ok (.iload 8, 2) := dk_21 8 (dk_at dksX0_look_6 8 rfl rfl)
theorem dX0_look_154 : decode cX0_look 154 = .ok (.invokestatic 262, 3) := dk_184 1 6 (dk_at dksX0_look_6 10 rfl rfl)
theorem dX0_look_157 : decode cX0_look 157 = .ok (.istore 6, 2) := dk_54 6 (dk_at dksX0_look_6 13 rfl rfl)
theorem dX0_look_159 : decode cX0_look 159 = .ok (.iinc 7 1, 3) := dk_132 7 1 (dk_at dksX0_look_6 15 rfl rfl)
theorem dX0_look_162 : decode cX0_look 162 = .ok (.goto (-116), 3) := dk_167 255 140 (dk_at dksX0_look_6 18 rfl rfl)
theorem dX0_look_165 : decode cX0_look 165 = .ok (.iload 6, 2) := dk_21 6 (dk_at dksX0_look_6 21 rfl rfl)
theorem dX0_look_167 : decode cX0_look 167 = .ok (.iload 4, 2) := dk_21 4 (dk_at dksX0_look_7 0 rfl rfl)
theorem dX0_look_169 : decode cX0_look 169 = .ok (.if_icmp .ge 8, 3) := dk_162 0 8 (dk_at dksX0_look_7 2 rfl rfl)
theorem dX0_look_172 : decode cX0_look 172 = .ok (.iload 5, 2) := dk_21 5 (dk_at dksX0_look_7 5 rfl rfl)
theorem dX0_look_174 : decode cX0_look 174 = .ok (.goto 4, 3) := dk_167 0 4 (dk_at dksX0_look_7 7 rfl rfl)
theorem dX0_look_177 : decode cX0_look 177 = .ok (.iload_n 3, 1) := dk_29 (dk_at dksX0_look_7 10 rfl rfl)
theorem dX0_look_178 : decode cX0_look 178 = .ok (.istore_n 3, 1) := dk_62 (dk_at dksX0_look_7 11 rfl rfl)
theorem dX0_look_179 : decode cX0_look 179 = .ok (.iload 4, 2) := dk_21 4 (dk_at dksX0_look_7 12 rfl rfl)
theorem dX0_look_181 : decode cX0_look 181 = .ok (.iload 6, 2) := dk_21 6 (dk_at dksX0_look_7 14 rfl rfl)
theorem dX0_look_183 : decode cX0_look 183 = .ok (.invokestatic 267, 3) := dk_184 1 11 (dk_at dksX0_look_7 16 rfl rfl)
theorem dX0_look_186 : decode cX0_look 186 = .ok (.istore 4, 2) := dk_54 4 (dk_at dksX0_look_7 19 rfl rfl)
theorem dX0_look_188 : decode cX0_look 188 = .ok (.iinc 5 1, 3) := dk_132 5 1 (dk_at dksX0_look_7 21 rfl rfl)
theorem dX0_look_191 : decode cX0_look 191 = .ok (.goto (-162), 3) := dk_167 255 94 (dk_at dksX0_look_8 0 rfl rfl)
theorem dX0_look_194 : decode cX0_look 194 = .ok (.iload_n 3, 1) := dk_29 (dk_at dksX0_look_8 3 rfl rfl)
theorem dX0_look_195 : decode cX0_look 195 = .ok (.ireturn, 1) := dk_172 (dk_at dksX0_look_8 4 rfl rfl)
abbrev cX0_kinds : ByteArray := prog_1_method_51_code
def yX0_kinds : MethodName := ⟨RX0, "kinds", "(I)I"⟩
def dkwX0_kinds_0 : List UInt8 := [42, 27, 182, 0, 170, 153, 0, 11, 42, 27, 182, 1, 43, 167, 0, 7, 42, 182, 0, 98, 172]
abbrev dktX0_kinds_0 : List UInt8 := dkwX0_kinds_0 ++ []
theorem dksX0_kinds_0 : cX0_kinds.data.toList.drop 0 = dktX0_kinds_0 := by decide +kernel
theorem dX0_kinds_0 : decode cX0_kinds 0 = .ok (.aload_n 0, 1) := dk_42 (dk_at dksX0_kinds_0 0 rfl rfl)
theorem dX0_kinds_1 : decode cX0_kinds 1 = .ok (.iload_n 1, 1) := dk_27 (dk_at dksX0_kinds_0 1 rfl rfl)
theorem dX0_kinds_2 : decode cX0_kinds 2 = .ok (.invokevirtual 170, 3) := dk_182 0 170 (dk_at dksX0_kinds_0 2 rfl rfl)
theorem dX0_kinds_5 : decode cX0_kinds 5 = .ok (.ifCond .eq 11, 3) := dk_153 0 11 (dk_at dksX0_kinds_0 5 rfl rfl)
theorem dX0_kinds_8 : decode cX0_kinds 8 = .ok (.aload_n 0, 1) := dk_42 (dk_at dksX0_kinds_0 8 rfl rfl)
theorem dX0_kinds_9 : decode cX0_kinds 9 = .ok (.iload_n 1, 1) := dk_27 (dk_at dksX0_kinds_0 9 rfl rfl)
theorem dX0_kinds_10 : decode cX0_kinds 10 = .ok (.invokevirtual 299, 3) := dk_182 1 43 (dk_at dksX0_kinds_0 10 rfl rfl)
theorem dX0_kinds_13 : decode cX0_kinds 13 = .ok (.goto 7, 3) := dk_167 0 7 (dk_at dksX0_kinds_0 13 rfl rfl)
theorem dX0_kinds_16 : decode cX0_kinds 16 = .ok (.aload_n 0, 1) := dk_42 (dk_at dksX0_kinds_0 16 rfl rfl)
theorem dX0_kinds_17 : decode cX0_kinds 17 = .ok (.invokevirtual 98, 3) := dk_182 0 98 (dk_at dksX0_kinds_0 17 rfl rfl)
theorem dX0_kinds_20 : decode cX0_kinds 20 = .ok (.ireturn, 1) := dk_172 (dk_at dksX0_kinds_0 20 rfl rfl)
abbrev cX0_dampersOf : ByteArray := prog_1_method_50_code
def yX0_dampersOf : MethodName := ⟨RX0, "dampersOf", "(I)I"⟩
def dkwX0_dampersOf_5 : List UInt8 := [132, 4, 1, 167, 255, 150, 28, 172]
abbrev dktX0_dampersOf_5 : List UInt8 := dkwX0_dampersOf_5 ++ []
def dkwX0_dampersOf_4 : List UInt8 := [132, 6, 1, 167, 255, 185, 28, 21, 5, 153, 0, 10, 4, 21, 4, 120, 167, 0, 4, 3, 128, 61]
abbrev dktX0_dampersOf_4 : List UInt8 := dkwX0_dampersOf_4 ++ dktX0_dampersOf_5
def dkwX0_dampersOf_3 : List UInt8 := [21, 7, 5, 96, 46, 182, 1, 40, 45, 21, 7, 6, 96, 46, 160, 0, 7, 4, 167, 0, 4, 3, 54, 5]
abbrev dktX0_dampersOf_3 : List UInt8 := dkwX0_dampersOf_3 ++ dktX0_dampersOf_4
def dkwX0_dampersOf_2 : List UInt8 := [54, 7, 45, 21, 7, 46, 27, 160, 0, 33, 178, 1, 37, 21, 4, 50, 45, 21, 7, 4, 96, 46, 45]
abbrev dktX0_dampersOf_2 : List UInt8 := dkwX0_dampersOf_2 ++ dktX0_dampersOf_3
def dkwX0_dampersOf_1 : List UInt8 := [54, 6, 21, 6, 42, 180, 0, 10, 180, 1, 23, 162, 0, 65, 21, 5, 153, 0, 60, 7, 21, 6, 104]
abbrev dktX0_dampersOf_1 : List UInt8 := dkwX0_dampersOf_1 ++ dktX0_dampersOf_2
def dkwX0_dampersOf_0 : List UInt8 := [3, 61, 42, 180, 0, 10, 180, 1, 26, 78, 3, 54, 4, 21, 4, 16, 6, 162, 0, 105, 4, 54, 5, 3]
abbrev dktX0_dampersOf_0 : List UInt8 := dkwX0_dampersOf_0 ++ dktX0_dampersOf_1
theorem dksX0_dampersOf_0 : cX0_dampersOf.data.toList.drop 0 = dktX0_dampersOf_0 := by decide +kernel
theorem dksX0_dampersOf_1 : cX0_dampersOf.data.toList.drop 24 = dktX0_dampersOf_1 := dk_seg dksX0_dampersOf_0 24 rfl rfl
theorem dksX0_dampersOf_2 : cX0_dampersOf.data.toList.drop 47 = dktX0_dampersOf_2 := dk_seg dksX0_dampersOf_1 23 rfl rfl
theorem dksX0_dampersOf_3 : cX0_dampersOf.data.toList.drop 70 = dktX0_dampersOf_3 := dk_seg dksX0_dampersOf_2 23 rfl rfl
theorem dksX0_dampersOf_4 : cX0_dampersOf.data.toList.drop 94 = dktX0_dampersOf_4 := dk_seg dksX0_dampersOf_3 24 rfl rfl
theorem dksX0_dampersOf_5 : cX0_dampersOf.data.toList.drop 116 = dktX0_dampersOf_5 := dk_seg dksX0_dampersOf_4 22 rfl rfl
theorem dX0_dampersOf_0 : decode cX0_dampersOf 0 = .ok (.iconst 0, 1) := dk_3 (dk_at dksX0_dampersOf_0 0 rfl rfl)
theorem dX0_dampersOf_1 : decode cX0_dampersOf 1 = .ok (.istore_n 2, 1) := dk_61 (dk_at dksX0_dampersOf_0 1 rfl rfl)
theorem dX0_dampersOf_2 : decode cX0_dampersOf 2 = .ok (.aload_n 0, 1) := dk_42 (dk_at dksX0_dampersOf_0 2 rfl rfl)
theorem dX0_dampersOf_3 : decode cX0_dampersOf 3 = .ok (.getfield 10, 3) := dk_180 0 10 (dk_at dksX0_dampersOf_0 3 rfl rfl)
theorem dX0_dampersOf_6 : decode cX0_dampersOf 6 = .ok (.getfield 282, 3) := dk_180 1 26 (dk_at dksX0_dampersOf_0 6 rfl rfl)
theorem dX0_dampersOf_9 : decode cX0_dampersOf 9 = .ok (.astore_n 3, 1) := dk_78 (dk_at dksX0_dampersOf_0 9 rfl rfl)
theorem dX0_dampersOf_10 : decode cX0_dampersOf 10 = .ok (.iconst 0, 1) := dk_3 (dk_at dksX0_dampersOf_0 10 rfl rfl)
theorem dX0_dampersOf_11 : decode cX0_dampersOf 11 = .ok (.istore 4, 2) := dk_54 4 (dk_at dksX0_dampersOf_0 11 rfl rfl)
theorem dX0_dampersOf_13 : decode cX0_dampersOf 13 = .ok (.iload 4, 2) := dk_21 4 (dk_at dksX0_dampersOf_0 13 rfl rfl)
theorem dX0_dampersOf_15 : decode cX0_dampersOf 15 = .ok (.bipush 6, 2) := dk_16 6 (dk_at dksX0_dampersOf_0 15 rfl rfl)
theorem dX0_dampersOf_17 : decode cX0_dampersOf 17 = .ok (.if_icmp .ge 105, 3) := dk_162 0 105 (dk_at dksX0_dampersOf_0 17 rfl rfl)
theorem dX0_dampersOf_20 : decode cX0_dampersOf 20 = .ok (.iconst 1, 1) := dk_4 (dk_at dksX0_dampersOf_0 20 rfl rfl)
theorem dX0_dampersOf_21 : decode cX0_dampersOf 21 = .ok (.istore 5, 2) := dk_54 5 (dk_at dksX0_dampersOf_0 21 rfl rfl)
theorem dX0_dampersOf_23 : decode cX0_dampersOf 23 = .ok (.iconst 0, 1) := dk_3 (dk_at dksX0_dampersOf_0 23 rfl rfl)
theorem dX0_dampersOf_24 : decode cX0_dampersOf 24 = .ok (.istore 6, 2) := dk_54 6 (dk_at dksX0_dampersOf_1 0 rfl rfl)
theorem dX0_dampersOf_26 : decode cX0_dampersOf 26 = .ok (.iload 6, 2) := dk_21 6 (dk_at dksX0_dampersOf_1 2 rfl rfl)
theorem dX0_dampersOf_28 : decode cX0_dampersOf 28 = .ok (.aload_n 0, 1) := dk_42 (dk_at dksX0_dampersOf_1 4 rfl rfl)
theorem dX0_dampersOf_29 : decode cX0_dampersOf 29 = .ok (.getfield 10, 3) := dk_180 0 10 (dk_at dksX0_dampersOf_1 5 rfl rfl)
theorem dX0_dampersOf_32 : decode cX0_dampersOf 32 = .ok (.getfield 279, 3) := dk_180 1 23 (dk_at dksX0_dampersOf_1 8 rfl rfl)
theorem dX0_dampersOf_35 : decode cX0_dampersOf 35 = .ok (.if_icmp .ge 65, 3) := dk_162 0 65 (dk_at dksX0_dampersOf_1 11 rfl rfl)
theorem dX0_dampersOf_38 : decode cX0_dampersOf 38 = .ok (.iload 5, 2) := dk_21 5 (dk_at dksX0_dampersOf_1 14 rfl rfl)
theorem dX0_dampersOf_40 : decode cX0_dampersOf 40 = .ok (.ifCond .eq 60, 3) := dk_153 0 60 (dk_at dksX0_dampersOf_1 16 rfl rfl)
theorem dX0_dampersOf_43 : decode cX0_dampersOf 43 = .ok (.iconst 4, 1) := dk_7 (dk_at dksX0_dampersOf_1 19 rfl rfl)
theorem dX0_dampersOf_44 : decode cX0_dampersOf 44 = .ok (.iload 6, 2) := dk_21 6 (dk_at dksX0_dampersOf_1 20 rfl rfl)
theorem dX0_dampersOf_46 : decode cX0_dampersOf 46 = .ok (.imul, 1) := dk_104 (dk_at dksX0_dampersOf_1 22 rfl rfl)
theorem dX0_dampersOf_47 : decode cX0_dampersOf 47 = .ok (.istore 7, 2) := dk_54 7 (dk_at dksX0_dampersOf_2 0 rfl rfl)
theorem dX0_dampersOf_49 : decode cX0_dampersOf 49 = .ok (.aload_n 3, 1) := dk_45 (dk_at dksX0_dampersOf_2 2 rfl rfl)
theorem dX0_dampersOf_50 : decode cX0_dampersOf 50 = .ok (.iload 7, 2) := dk_21 7 (dk_at dksX0_dampersOf_2 3 rfl rfl)
theorem dX0_dampersOf_52 : decode cX0_dampersOf 52 = .ok (.iaload, 1) := dk_46 (dk_at dksX0_dampersOf_2 5 rfl rfl)
theorem dX0_dampersOf_53 : decode cX0_dampersOf 53 = .ok (.iload_n 1, 1) := dk_27 (dk_at dksX0_dampersOf_2 6 rfl rfl)
theorem dX0_dampersOf_54 : decode cX0_dampersOf 54 = .ok (.if_icmp .ne 33, 3) := dk_160 0 33 (dk_at dksX0_dampersOf_2 7 rfl rfl)
theorem dX0_dampersOf_57 : decode cX0_dampersOf 57 = .ok (.getstatic 293, 3) := dk_178 1 37 (dk_at dksX0_dampersOf_2 10 rfl rfl)
theorem dX0_dampersOf_60 : decode cX0_dampersOf 60 = .ok (.iload 4, 2) := dk_21 4 (dk_at dksX0_dampersOf_2 13 rfl rfl)
theorem dX0_dampersOf_62 : decode cX0_dampersOf 62 = .ok (.aaload, 1) := dk_50 (dk_at dksX0_dampersOf_2 15 rfl rfl)
theorem dX0_dampersOf_63 : decode cX0_dampersOf 63 = .ok (.aload_n 3, 1) := dk_45 (dk_at dksX0_dampersOf_2 16 rfl rfl)
theorem dX0_dampersOf_64 : decode cX0_dampersOf 64 = .ok (.iload 7, 2) := dk_21 7 (dk_at dksX0_dampersOf_2 17 rfl rfl)
theorem dX0_dampersOf_66 : decode cX0_dampersOf 66 = .ok (.iconst 1, 1) := dk_4 (dk_at dksX0_dampersOf_2 19 rfl rfl)
theorem dX0_dampersOf_67 : decode cX0_dampersOf 67 = .ok (.iadd, 1) := dk_96 (dk_at dksX0_dampersOf_2 20 rfl rfl)
theorem dX0_dampersOf_68 : decode cX0_dampersOf 68 = .ok (.iaload, 1) := dk_46 (dk_at dksX0_dampersOf_2 21 rfl rfl)
theorem dX0_dampersOf_69 : decode cX0_dampersOf 69 = .ok (.aload_n 3, 1) := dk_45 (dk_at dksX0_dampersOf_2 22 rfl rfl)
theorem dX0_dampersOf_70 : decode cX0_dampersOf 70 = .ok (.iload 7, 2) := dk_21 7 (dk_at dksX0_dampersOf_3 0 rfl rfl)
theorem dX0_dampersOf_72 : decode cX0_dampersOf 72 = .ok (.iconst 2, 1) := dk_5 (dk_at dksX0_dampersOf_3 2 rfl rfl)
theorem dX0_dampersOf_73 : decode cX0_dampersOf 73 = .ok (.iadd, 1) := dk_96 (dk_at dksX0_dampersOf_3 3 rfl rfl)
theorem dX0_dampersOf_74 : decode cX0_dampersOf 74 = .ok (.iaload, 1) := dk_46 (dk_at dksX0_dampersOf_3 4 rfl rfl)
theorem dX0_dampersOf_75 : decode cX0_dampersOf 75 = .ok (.invokevirtual 296, 3) := dk_182 1 40 (dk_at dksX0_dampersOf_3 5 rfl rfl)
theorem dX0_dampersOf_78 : decode cX0_dampersOf 78 = .ok (.aload_n 3, 1) := dk_45 (dk_at dksX0_dampersOf_3 8 rfl rfl)
theorem dX0_dampersOf_79 : decode cX0_dampersOf 79 = .ok (.iload 7, 2) := dk_21 7 (dk_at dksX0_dampersOf_3 9 rfl rfl)
theorem dX0_dampersOf_81 : decode cX0_dampersOf 81 = .ok (.iconst 3, 1) := dk_6 (dk_at dksX0_dampersOf_3 11 rfl rfl)
theorem dX0_dampersOf_82 : decode cX0_dampersOf 82 = .ok (.iadd, 1) := dk_96 (dk_at dksX0_dampersOf_3 12 rfl rfl)
theorem dX0_dampersOf_83 : decode cX0_dampersOf 83 = .ok (.iaload, 1) := dk_46 (dk_at dksX0_dampersOf_3 13 rfl rfl)
theorem dX0_dampersOf_84 : decode cX0_dampersOf 84 = .ok (.if_icmp .ne 7, 3) := dk_160 0 7 (dk_at dksX0_dampersOf_3 14 rfl rfl)
theorem dX0_dampersOf_87 : decode cX0_dampersOf 87 = .ok (.iconst 1, 1) := dk_4 (dk_at dksX0_dampersOf_3 17 rfl rfl)
theorem dX0_dampersOf_88 : decode cX0_dampersOf 88 = .ok (.goto 4, 3) := dk_167 0 4 (dk_at dksX0_dampersOf_3 18 rfl rfl)
theorem dX0_dampersOf_91 : decode cX0_dampersOf 91 = .ok (.iconst 0, 1) := dk_3 (dk_at dksX0_dampersOf_3 21 rfl rfl)
theorem dX0_dampersOf_92 : decode cX0_dampersOf 92 = .ok (.istore 5, 2) := dk_54 5 (dk_at dksX0_dampersOf_3 22 rfl rfl)
theorem dX0_dampersOf_94 : decode cX0_dampersOf 94 = .ok (.iinc 6 1, 3) := dk_132 6 1 (dk_at dksX0_dampersOf_4 0 rfl rfl)
theorem dX0_dampersOf_97 : decode cX0_dampersOf 97 = .ok (.goto (-71), 3) := dk_167 255 185 (dk_at dksX0_dampersOf_4 3 rfl rfl)
theorem dX0_dampersOf_100 : decode cX0_dampersOf 100 = .ok (.iload_n 2, 1) := dk_28 (dk_at dksX0_dampersOf_4 6 rfl rfl)
theorem dX0_dampersOf_101 : decode cX0_dampersOf 101 = .ok (.iload 5, 2) := dk_21 5 (dk_at dksX0_dampersOf_4 7 rfl rfl)
theorem dX0_dampersOf_103 : decode cX0_dampersOf 103 = .ok (.ifCond .eq 10, 3) := dk_153 0 10 (dk_at dksX0_dampersOf_4 9 rfl rfl)
theorem dX0_dampersOf_106 : decode cX0_dampersOf 106 = .ok (.iconst 1, 1) := dk_4 (dk_at dksX0_dampersOf_4 12 rfl rfl)
theorem dX0_dampersOf_107 : decode cX0_dampersOf 107 = .ok (.iload 4, 2) := dk_21 4 (dk_at dksX0_dampersOf_4 13 rfl rfl)
theorem dX0_dampersOf_109 : decode cX0_dampersOf 109 = .ok (.ishl, 1) := dk_120 (dk_at dksX0_dampersOf_4 15 rfl rfl)
theorem dX0_dampersOf_110 : decode cX0_dampersOf 110 = .ok (.goto 4, 3) := dk_167 0 4 (dk_at dksX0_dampersOf_4 16 rfl rfl)
theorem dX0_dampersOf_113 : decode cX0_dampersOf 113 = .ok (.iconst 0, 1) := dk_3 (dk_at dksX0_dampersOf_4 19 rfl rfl)
theorem dX0_dampersOf_114 : decode cX0_dampersOf 114 = .ok (.ior, 1) := dk_128 (dk_at dksX0_dampersOf_4 20 rfl rfl)
theorem dX0_dampersOf_115 : decode cX0_dampersOf 115 = .ok (.istore_n 2, 1) := dk_61 (dk_at dksX0_dampersOf_4 21 rfl rfl)
theorem dX0_dampersOf_116 : decode cX0_dampersOf 116 = .ok (.iinc 4 1, 3) := dk_132 4 1 (dk_at dksX0_dampersOf_5 0 rfl rfl)
theorem dX0_dampersOf_119 : decode cX0_dampersOf 119 = .ok (.goto (-106), 3) := dk_167 255 150 (dk_at dksX0_dampersOf_5 3 rfl rfl)
theorem dX0_dampersOf_122 : decode cX0_dampersOf 122 = .ok (.iload_n 2, 1) := dk_28 (dk_at dksX0_dampersOf_5 6 rfl rfl)
theorem dX0_dampersOf_123 : decode cX0_dampersOf 123 = .ok (.ireturn, 1) := dk_172 (dk_at dksX0_dampersOf_5 7 rfl rfl)
abbrev cX0_ask : ByteArray := prog_1_method_53_code
def yX0_ask : MethodName := ⟨RX0, "ask", "(I)I"⟩
def dkwX0_ask_3 : List UInt8 := [21, 5, 167, 0, 4, 29, 62, 21, 4, 21, 6, 184, 1, 11, 54, 4, 132, 5, 1, 167, 255, 194, 29, 172]
abbrev dktX0_ask_3 : List UInt8 := dkwX0_ask_3 ++ []
def dkwX0_ask_2 : List UInt8 := [163, 0, 12, 28, 21, 5, 184, 1, 46, 167, 0, 6, 19, 1, 5, 54, 6, 21, 6, 21, 4, 162, 0, 8]
abbrev dktX0_ask_2 : List UInt8 := dkwX0_ask_2 ++ dktX0_ask_3
def dkwX0_ask_1 : List UInt8 := [54, 4, 3, 54, 5, 21, 5, 17, 3, 148, 162, 0, 60, 28, 153, 0, 56, 21, 5, 16, 100, 112, 16, 15]
abbrev dktX0_ask_1 : List UInt8 := dkwX0_ask_1 ++ dktX0_ask_2
def dkwX0_ask_0 : List UInt8 := [42, 27, 182, 0, 170, 154, 0, 8, 42, 182, 0, 98, 172, 42, 27, 182, 1, 43, 61, 2, 62, 19, 1, 5]
abbrev dktX0_ask_0 : List UInt8 := dkwX0_ask_0 ++ dktX0_ask_1
theorem dksX0_ask_0 : cX0_ask.data.toList.drop 0 = dktX0_ask_0 := by decide +kernel
theorem dksX0_ask_1 : cX0_ask.data.toList.drop 24 = dktX0_ask_1 := dk_seg dksX0_ask_0 24 rfl rfl
theorem dksX0_ask_2 : cX0_ask.data.toList.drop 48 = dktX0_ask_2 := dk_seg dksX0_ask_1 24 rfl rfl
theorem dksX0_ask_3 : cX0_ask.data.toList.drop 72 = dktX0_ask_3 := dk_seg dksX0_ask_2 24 rfl rfl
theorem dX0_ask_0 : decode cX0_ask 0 = .ok (.aload_n 0, 1) := dk_42 (dk_at dksX0_ask_0 0 rfl rfl)
theorem dX0_ask_1 : decode cX0_ask 1 = .ok (.iload_n 1, 1) := dk_27 (dk_at dksX0_ask_0 1 rfl rfl)
theorem dX0_ask_2 : decode cX0_ask 2 = .ok (.invokevirtual 170, 3) := dk_182 0 170 (dk_at dksX0_ask_0 2 rfl rfl)
theorem dX0_ask_5 : decode cX0_ask 5 = .ok (.ifCond .ne 8, 3) := dk_154 0 8 (dk_at dksX0_ask_0 5 rfl rfl)
theorem dX0_ask_8 : decode cX0_ask 8 = .ok (.aload_n 0, 1) := dk_42 (dk_at dksX0_ask_0 8 rfl rfl)
theorem dX0_ask_9 : decode cX0_ask 9 = .ok (.invokevirtual 98, 3) := dk_182 0 98 (dk_at dksX0_ask_0 9 rfl rfl)
theorem dX0_ask_12 : decode cX0_ask 12 = .ok (.ireturn, 1) := dk_172 (dk_at dksX0_ask_0 12 rfl rfl)
theorem dX0_ask_13 : decode cX0_ask 13 = .ok (.aload_n 0, 1) := dk_42 (dk_at dksX0_ask_0 13 rfl rfl)
theorem dX0_ask_14 : decode cX0_ask 14 = .ok (.iload_n 1, 1) := dk_27 (dk_at dksX0_ask_0 14 rfl rfl)
theorem dX0_ask_15 : decode cX0_ask 15 = .ok (.invokevirtual 299, 3) := dk_182 1 43 (dk_at dksX0_ask_0 15 rfl rfl)
theorem dX0_ask_18 : decode cX0_ask 18 = .ok (.istore_n 2, 1) := dk_61 (dk_at dksX0_ask_0 18 rfl rfl)
theorem dX0_ask_19 : decode cX0_ask 19 = .ok (.iconst (-1), 1) := dk_2 (dk_at dksX0_ask_0 19 rfl rfl)
theorem dX0_ask_20 : decode cX0_ask 20 = .ok (.istore_n 3, 1) := dk_62 (dk_at dksX0_ask_0 20 rfl rfl)
theorem dX0_ask_21 : decode cX0_ask 21 = .ok (.ldc_w 261, 3) := dk_19 1 5 (dk_at dksX0_ask_0 21 rfl rfl)
theorem dX0_ask_24 : decode cX0_ask 24 = .ok (.istore 4, 2) := dk_54 4 (dk_at dksX0_ask_1 0 rfl rfl)
theorem dX0_ask_26 : decode cX0_ask 26 = .ok (.iconst 0, 1) := dk_3 (dk_at dksX0_ask_1 2 rfl rfl)
theorem dX0_ask_27 : decode cX0_ask 27 = .ok (.istore 5, 2) := dk_54 5 (dk_at dksX0_ask_1 3 rfl rfl)
theorem dX0_ask_29 : decode cX0_ask 29 = .ok (.iload 5, 2) := dk_21 5 (dk_at dksX0_ask_1 5 rfl rfl)
theorem dX0_ask_31 : decode cX0_ask 31 = .ok (.sipush 916, 3) := dk_17 3 148 (dk_at dksX0_ask_1 7 rfl rfl)
theorem dX0_ask_34 : decode cX0_ask 34 = .ok (.if_icmp .ge 60, 3) := dk_162 0 60 (dk_at dksX0_ask_1 10 rfl rfl)
theorem dX0_ask_37 : decode cX0_ask 37 = .ok (.iload_n 2, 1) := dk_28 (dk_at dksX0_ask_1 13 rfl rfl)
theorem dX0_ask_38 : decode cX0_ask 38 = .ok (.ifCond .eq 56, 3) := dk_153 0 56 (dk_at dksX0_ask_1 14 rfl rfl)
theorem dX0_ask_41 : decode cX0_ask 41 = .ok (.iload 5, 2) := dk_21 5 (dk_at dksX0_ask_1 17 rfl rfl)
theorem dX0_ask_43 : decode cX0_ask 43 = .ok (.bipush 100, 2) := dk_16 100 (dk_at dksX0_ask_1 19 rfl rfl)
theorem dX0_ask_45 : decode cX0_ask 45 = .ok (.irem, 1) := dk_112 (dk_at dksX0_ask_1 21 rfl rfl)
theorem dX0_ask_46 : decode cX0_ask 46 = .ok (.bipush 15, 2) := dk_16 15 (dk_at dksX0_ask_1 22 rfl rfl)
theorem dX0_ask_48 : decode cX0_ask 48 = .ok (.if_icmp .gt 12, 3) := dk_163 0 12 (dk_at dksX0_ask_2 0 rfl rfl)
theorem dX0_ask_51 : decode cX0_ask 51 = .ok (.iload_n 2, 1) := dk_28 (dk_at dksX0_ask_2 3 rfl rfl)
theorem dX0_ask_52 : decode cX0_ask 52 = .ok (.iload 5, 2) := dk_21 5 (dk_at dksX0_ask_2 4 rfl rfl)
theorem dX0_ask_54 : decode cX0_ask 54 = .ok (.invokestatic 302, 3) := dk_184 1 46 (dk_at dksX0_ask_2 6 rfl rfl)
theorem dX0_ask_57 : decode cX0_ask 57 = .ok (.goto 6, 3) := dk_167 0 6 (dk_at dksX0_ask_2 9 rfl rfl)
theorem dX0_ask_60 : decode cX0_ask 60 = .ok (.ldc_w 261, 3) := dk_19 1 5 (dk_at dksX0_ask_2 12 rfl rfl)
theorem dX0_ask_63 : decode cX0_ask 63 = .ok (.istore 6, 2) := dk_54 6 (dk_at dksX0_ask_2 15 rfl rfl)
theorem dX0_ask_65 : decode cX0_ask 65 = .ok (.iload 6, 2) := dk_21 6 (dk_at dksX0_ask_2 17 rfl rfl)
theorem dX0_ask_67 : decode cX0_ask 67 = .ok (.iload 4, 2) := dk_21 4 (dk_at dksX0_ask_2 19 rfl rfl)
theorem dX0_ask_69 : decode cX0_ask 69 = .ok (.if_icmp .ge 8, 3) := dk_162 0 8 (dk_at dksX0_ask_2 21 rfl rfl)
theorem dX0_ask_72 : decode cX0_ask 72 = .ok (.iload 5, 2) := dk_21 5 (dk_at dksX0_ask_3 0 rfl rfl)
theorem dX0_ask_74 : decode cX0_ask 74 = .ok (.goto 4, 3) := dk_167 0 4 (dk_at dksX0_ask_3 2 rfl rfl)
theorem dX0_ask_77 : decode cX0_ask 77 = .ok (.iload_n 3, 1) := dk_29 (dk_at dksX0_ask_3 5 rfl rfl)
theorem dX0_ask_78 : decode cX0_ask 78 = .ok (.istore_n 3, 1) := dk_62 (dk_at dksX0_ask_3 6 rfl rfl)
theorem dX0_ask_79 : decode cX0_ask 79 = .ok (.iload 4, 2) := dk_21 4 (dk_at dksX0_ask_3 7 rfl rfl)
theorem dX0_ask_81 : decode cX0_ask 81 = .ok (.iload 6, 2) := dk_21 6 (dk_at dksX0_ask_3 9 rfl rfl)
theorem dX0_ask_83 : decode cX0_ask 83 = .ok (.invokestatic 267, 3) := dk_184 1 11 (dk_at dksX0_ask_3 11 rfl rfl)
theorem dX0_ask_86 : decode cX0_ask 86 = .ok (.istore 4, 2) := dk_54 4 (dk_at dksX0_ask_3 14 rfl rfl)
theorem dX0_ask_88 : decode cX0_ask 88 = .ok (.iinc 5 1, 3) := dk_132 5 1 (dk_at dksX0_ask_3 16 rfl rfl)
theorem dX0_ask_91 : decode cX0_ask 91 = .ok (.goto (-62), 3) := dk_167 255 194 (dk_at dksX0_ask_3 19 rfl rfl)
theorem dX0_ask_94 : decode cX0_ask 94 = .ok (.iload_n 3, 1) := dk_29 (dk_at dksX0_ask_3 22 rfl rfl)
theorem dX0_ask_95 : decode cX0_ask 95 = .ok (.ireturn, 1) := dk_172 (dk_at dksX0_ask_3 23 rfl rfl)
abbrev cX0_leaveAlike : ByteArray := prog_1_method_52_code
def yX0_leaveAlike : MethodName := ⟨RX0, "leaveAlike", "(II)I"⟩
def dkwX0_leaveAlike_4 : List UInt8 := [54, 4, 132, 5, 1, 167, 255, 174, 28, 21, 4, 184, 1, 6, 61, 132, 3, 1, 167, 255, 149, 28, 172]
abbrev dktX0_leaveAlike_4 : List UInt8 := dkwX0_leaveAlike_4 ++ []
def dkwX0_leaveAlike_3 : List UInt8 := [122, 26, 21, 5, 122, 126, 4, 126, 4, 160, 0, 12, 21, 6, 153, 0, 7, 4, 167, 0, 4, 3, 96]
abbrev dktX0_leaveAlike_3 : List UInt8 := dkwX0_leaveAlike_3 ++ dktX0_leaveAlike_4
def dkwX0_leaveAlike_2 : List UInt8 := [16, 100, 112, 27, 16, 100, 108, 182, 1, 40, 160, 0, 7, 4, 167, 0, 4, 3, 54, 6, 21, 4, 26, 29]
abbrev dktX0_leaveAlike_2 : List UInt8 := dkwX0_leaveAlike_2 ++ dktX0_leaveAlike_3
def dkwX0_leaveAlike_1 : List UInt8 := [178, 1, 37, 29, 50, 27, 16, 100, 112, 27, 16, 100, 108, 182, 1, 40, 178, 1, 37, 21, 5, 50, 27]
abbrev dktX0_leaveAlike_1 : List UInt8 := dkwX0_leaveAlike_1 ++ dktX0_leaveAlike_2
def dkwX0_leaveAlike_0 : List UInt8 := [3, 61, 3, 62, 29, 16, 6, 162, 0, 107, 3, 54, 4, 3, 54, 5, 21, 5, 16, 6, 162, 0, 81]
abbrev dktX0_leaveAlike_0 : List UInt8 := dkwX0_leaveAlike_0 ++ dktX0_leaveAlike_1
theorem dksX0_leaveAlike_0 : cX0_leaveAlike.data.toList.drop 0 = dktX0_leaveAlike_0 := by decide +kernel
theorem dksX0_leaveAlike_1 : cX0_leaveAlike.data.toList.drop 23 = dktX0_leaveAlike_1 := dk_seg dksX0_leaveAlike_0 23 rfl rfl
theorem dksX0_leaveAlike_2 : cX0_leaveAlike.data.toList.drop 46 = dktX0_leaveAlike_2 := dk_seg dksX0_leaveAlike_1 23 rfl rfl
theorem dksX0_leaveAlike_3 : cX0_leaveAlike.data.toList.drop 70 = dktX0_leaveAlike_3 := dk_seg dksX0_leaveAlike_2 24 rfl rfl
theorem dksX0_leaveAlike_4 : cX0_leaveAlike.data.toList.drop 93 = dktX0_leaveAlike_4 := dk_seg dksX0_leaveAlike_3 23 rfl rfl
theorem dX0_leaveAlike_0 : decode cX0_leaveAlike 0 = .ok (.iconst 0, 1) := dk_3 (dk_at dksX0_leaveAlike_0 0 rfl rfl)
theorem dX0_leaveAlike_1 : decode cX0_leaveAlike 1 = .ok (.istore_n 2, 1) := dk_61 (dk_at dksX0_leaveAlike_0 1 rfl rfl)
theorem dX0_leaveAlike_2 : decode cX0_leaveAlike 2 = .ok (.iconst 0, 1) := dk_3 (dk_at dksX0_leaveAlike_0 2 rfl rfl)
theorem dX0_leaveAlike_3 : decode cX0_leaveAlike 3 = .ok (.istore_n 3, 1) := dk_62 (dk_at dksX0_leaveAlike_0 3 rfl rfl)
theorem dX0_leaveAlike_4 : decode cX0_leaveAlike 4 = .ok (.iload_n 3, 1) := dk_29 (dk_at dksX0_leaveAlike_0 4 rfl rfl)
theorem dX0_leaveAlike_5 : decode cX0_leaveAlike 5 = .ok (.bipush 6, 2) := dk_16 6 (dk_at dksX0_leaveAlike_0 5 rfl rfl)
theorem dX0_leaveAlike_7 : decode cX0_leaveAlike 7 = .ok (.if_icmp .ge 107, 3) := dk_162 0 107 (dk_at dksX0_leaveAlike_0 7 rfl rfl)
theorem dX0_leaveAlike_10 : decode cX0_leaveAlike 10 = .ok (.iconst 0, 1) := dk_3 (dk_at dksX0_leaveAlike_0 10 rfl rfl)
theorem dX0_leaveAlike_11 : decode cX0_leaveAlike 11 = .ok (.istore 4, 2) := dk_54 4 (dk_at dksX0_leaveAlike_0 11 rfl rfl)
theorem dX0_leaveAlike_13 : decode cX0_leaveAlike 13 = .ok (.iconst 0, 1) := dk_3 (dk_at dksX0_leaveAlike_0 13 rfl rfl)
theorem dX0_leaveAlike_14 : decode cX0_leaveAlike 14 = .ok (.istore 5, 2) := dk_54 5 (dk_at dksX0_leaveAlike_0 14 rfl rfl)
theorem dX0_leaveAlike_16 : decode cX0_leaveAlike 16 = .ok (.iload 5, 2) := dk_21 5 (dk_at dksX0_leaveAlike_0 16 rfl rfl)
theorem dX0_leaveAlike_18 : decode cX0_leaveAlike 18 = .ok (.bipush 6, 2) := dk_16 6 (dk_at dksX0_leaveAlike_0 18 rfl rfl)
theorem dX0_leaveAlike_20 : decode cX0_leaveAlike 20 = .ok (.if_icmp .ge 81, 3) := dk_162 0 81 (dk_at dksX0_leaveAlike_0 20 rfl rfl)
theorem dX0_leaveAlike_23 : decode cX0_leaveAlike 23 = .ok (.getstatic 293, 3) := dk_178 1 37 (dk_at dksX0_leaveAlike_1 0 rfl rfl)
theorem dX0_leaveAlike_26 : decode cX0_leaveAlike 26 = .ok (.iload_n 3, 1) := dk_29 (dk_at dksX0_leaveAlike_1 3 rfl rfl)
theorem dX0_leaveAlike_27 : decode cX0_leaveAlike 27 = .ok (.aaload, 1) := dk_50 (dk_at dksX0_leaveAlike_1 4 rfl rfl)
theorem dX0_leaveAlike_28 : decode cX0_leaveAlike 28 = .ok (.iload_n 1, 1) := dk_27 (dk_at dksX0_leaveAlike_1 5 rfl rfl)
theorem dX0_leaveAlike_29 : decode cX0_leaveAlike 29 = .ok (.bipush 100, 2) := dk_16 100 (dk_at dksX0_leaveAlike_1 6 rfl rfl)
theorem dX0_leaveAlike_31 : decode cX0_leaveAlike 31 = .ok (.irem, 1) := dk_112 (dk_at dksX0_leaveAlike_1 8 rfl rfl)
theorem dX0_leaveAlike_32 : decode cX0_leaveAlike 32 = .ok (.iload_n 1, 1) := dk_27 (dk_at dksX0_leaveAlike_1 9 rfl rfl)
theorem dX0_leaveAlike_33 : decode cX0_leaveAlike 33 = .ok (.bipush 100, 2) := dk_16 100 (dk_at dksX0_leaveAlike_1 10 rfl rfl)
theorem dX0_leaveAlike_35 : decode cX0_leaveAlike 35 = .ok (.idiv, 1) := dk_108 (dk_at dksX0_leaveAlike_1 12 rfl rfl)
theorem dX0_leaveAlike_36 : decode cX0_leaveAlike 36 = .ok (.invokevirtual 296, 3) := dk_182 1 40 (dk_at dksX0_leaveAlike_1 13 rfl rfl)
theorem dX0_leaveAlike_39 : decode cX0_leaveAlike 39 = .ok (.getstatic 293, 3) := dk_178 1 37 (dk_at dksX0_leaveAlike_1 16 rfl rfl)
theorem dX0_leaveAlike_42 : decode cX0_leaveAlike 42 = .ok (.iload 5, 2) := dk_21 5 (dk_at dksX0_leaveAlike_1 19 rfl rfl)
theorem dX0_leaveAlike_44 : decode cX0_leaveAlike 44 = .ok (.aaload, 1) := dk_50 (dk_at dksX0_leaveAlike_1 21 rfl rfl)
theorem dX0_leaveAlike_45 : decode cX0_leaveAlike 45 = .ok (.iload_n 1, 1) := dk_27 (dk_at dksX0_leaveAlike_1 22 rfl rfl)
theorem dX0_leaveAlike_46 : decode cX0_leaveAlike 46 = .ok (.bipush 100, 2) := dk_16 100 (dk_at dksX0_leaveAlike_2 0 rfl rfl)
theorem dX0_leaveAlike_48 : decode cX0_leaveAlike 48 = .ok (.irem, 1) := dk_112 (dk_at dksX0_leaveAlike_2 2 rfl rfl)
theorem dX0_leaveAlike_49 : decode cX0_leaveAlike 49 = .ok (.iload_n 1, 1) := dk_27 (dk_at dksX0_leaveAlike_2 3 rfl rfl)
theorem dX0_leaveAlike_50 : decode cX0_leaveAlike 50 = .ok (.bipush 100, 2) := dk_16 100 (dk_at dksX0_leaveAlike_2 4 rfl rfl)
theorem dX0_leaveAlike_52 : decode cX0_leaveAlike 52 = .ok (.idiv, 1) := dk_108 (dk_at dksX0_leaveAlike_2 6 rfl rfl)
theorem dX0_leaveAlike_53 : decode cX0_leaveAlike 53 = .ok (.invokevirtual 296, 3) := dk_182 1 40 (dk_at dksX0_leaveAlike_2 7 rfl rfl)
theorem dX0_leaveAlike_56 : decode cX0_leaveAlike 56 = .ok (.if_icmp .ne 7, 3) := dk_160 0 7 (dk_at dksX0_leaveAlike_2 10 rfl rfl)
theorem dX0_leaveAlike_59 : decode cX0_leaveAlike 59 = .ok (.iconst 1, 1) := dk_4 (dk_at dksX0_leaveAlike_2 13 rfl rfl)
theorem dX0_leaveAlike_60 : decode cX0_leaveAlike 60 = .ok (.goto 4, 3) := dk_167 0 4 (dk_at dksX0_leaveAlike_2 14 rfl rfl)
theorem dX0_leaveAlike_63 : decode cX0_leaveAlike 63 = .ok (.iconst 0, 1) := dk_3 (dk_at dksX0_leaveAlike_2 17 rfl rfl)
theorem dX0_leaveAlike_64 : decode cX0_leaveAlike 64 = .ok (.istore 6, 2) := dk_54 6 (dk_at dksX0_leaveAlike_2 18 rfl rfl)
theorem dX0_leaveAlike_66 : decode cX0_leaveAlike 66 = .ok (.iload 4, 2) := dk_21 4 (dk_at dksX0_leaveAlike_2 20 rfl rfl)
theorem dX0_leaveAlike_68 : decode cX0_leaveAlike 68 = .ok (.iload_n 0, 1) := dk_26 (dk_at dksX0_leaveAlike_2 22 rfl rfl)
theorem dX0_leaveAlike_69 : decode cX0_leaveAlike 69 = .ok (.iload_n 3, 1) := dk_29 (dk_at dksX0_leaveAlike_2 23 rfl rfl)
theorem dX0_leaveAlike_70 : decode cX0_leaveAlike 70 = .ok (.ishr, 1) := dk_122 (dk_at dksX0_leaveAlike_3 0 rfl rfl)
theorem dX0_leaveAlike_71 : decode cX0_leaveAlike 71 = .ok (.iload_n 0, 1) := dk_26 (dk_at dksX0_leaveAlike_3 1 rfl rfl)
theorem dX0_leaveAlike_72 : decode cX0_leaveAlike 72 = .ok (.iload 5, 2) := dk_21 5 (dk_at dksX0_leaveAlike_3 2 rfl rfl)
theorem dX0_leaveAlike_74 : decode cX0_leaveAlike 74 = .ok (.ishr, 1) := dk_122 (dk_at dksX0_leaveAlike_3 4 rfl rfl)
theorem dX0_leaveAlike_75 : decode cX0_leaveAlike 75 = .ok (.iand, 1) := dk_126 (dk_at dksX0_leaveAlike_3 5 rfl rfl)
theorem dX0_leaveAlike_76 : decode cX0_leaveAlike 76 = .ok (.iconst 1, 1) := dk_4 (dk_at dksX0_leaveAlike_3 6 rfl rfl)
theorem dX0_leaveAlike_77 : decode cX0_leaveAlike 77 = .ok (.iand, 1) := dk_126 (dk_at dksX0_leaveAlike_3 7 rfl rfl)
theorem dX0_leaveAlike_78 : decode cX0_leaveAlike 78 = .ok (.iconst 1, 1) := dk_4 (dk_at dksX0_leaveAlike_3 8 rfl rfl)
theorem dX0_leaveAlike_79 : decode cX0_leaveAlike 79 = .ok (.if_icmp .ne 12, 3) := dk_160 0 12 (dk_at dksX0_leaveAlike_3 9 rfl rfl)
theorem dX0_leaveAlike_82 : decode cX0_leaveAlike 82 = .ok (.iload 6, 2) := dk_21 6 (dk_at dksX0_leaveAlike_3 12 rfl rfl)
theorem dX0_leaveAlike_84 : decode cX0_leaveAlike 84 = .ok (.ifCond .eq 7, 3) := dk_153 0 7 (dk_at dksX0_leaveAlike_3 14 rfl rfl)
theorem dX0_leaveAlike_87 : decode cX0_leaveAlike 87 = .ok (.iconst 1, 1) := dk_4 (dk_at dksX0_leaveAlike_3 17 rfl rfl)
theorem dX0_leaveAlike_88 : decode cX0_leaveAlike 88 = .ok (.goto 4, 3) := dk_167 0 4 (dk_at dksX0_leaveAlike_3 18 rfl rfl)
theorem dX0_leaveAlike_91 : decode cX0_leaveAlike 91 = .ok (.iconst 0, 1) := dk_3 (dk_at dksX0_leaveAlike_3 21 rfl rfl)
theorem dX0_leaveAlike_92 : decode cX0_leaveAlike 92 = .ok (.iadd, 1) := dk_96 (dk_at dksX0_leaveAlike_3 22 rfl rfl)
theorem dX0_leaveAlike_93 : decode cX0_leaveAlike 93 = .ok (.istore 4, 2) := dk_54 4 (dk_at dksX0_leaveAlike_4 0 rfl rfl)
theorem dX0_leaveAlike_95 : decode cX0_leaveAlike 95 = .ok (.iinc 5 1, 3) := dk_132 5 1 (dk_at dksX0_leaveAlike_4 2 rfl rfl)
theorem dX0_leaveAlike_98 : decode cX0_leaveAlike 98 = .ok (.goto (-82), 3) := dk_167 255 174 (dk_at dksX0_leaveAlike_4 5 rfl rfl)
theorem dX0_leaveAlike_101 : decode cX0_leaveAlike 101 = .ok (.iload_n 2, 1) := dk_28 (dk_at dksX0_leaveAlike_4 8 rfl rfl)
theorem dX0_leaveAlike_102 : decode cX0_leaveAlike 102 = .ok (.iload 4, 2) := dk_21 4 (dk_at dksX0_leaveAlike_4 9 rfl rfl)
theorem dX0_leaveAlike_104 : decode cX0_leaveAlike 104 = .ok (.invokestatic 262, 3) := dk_184 1 6 (dk_at dksX0_leaveAlike_4 11 rfl rfl)
theorem dX0_leaveAlike_107 : decode cX0_leaveAlike 107 = .ok (.istore_n 2, 1) := dk_61 (dk_at dksX0_leaveAlike_4 14 rfl rfl)
theorem dX0_leaveAlike_108 : decode cX0_leaveAlike 108 = .ok (.iinc 3 1, 3) := dk_132 3 1 (dk_at dksX0_leaveAlike_4 15 rfl rfl)
theorem dX0_leaveAlike_111 : decode cX0_leaveAlike 111 = .ok (.goto (-107), 3) := dk_167 255 149 (dk_at dksX0_leaveAlike_4 18 rfl rfl)
theorem dX0_leaveAlike_114 : decode cX0_leaveAlike 114 = .ok (.iload_n 2, 1) := dk_28 (dk_at dksX0_leaveAlike_4 21 rfl rfl)
theorem dX0_leaveAlike_115 : decode cX0_leaveAlike 115 = .ok (.ireturn, 1) := dk_172 (dk_at dksX0_leaveAlike_4 22 rfl rfl)
abbrev cX0_game : ByteArray := prog_1_method_54_code
def yX0_game : MethodName := ⟨RX0, "game", "(IIII)I"⟩
def dkwX0_game_9 : List UInt8 := [21, 6, 172]
abbrev dktX0_game_9 : List UInt8 := dkwX0_game_9 ++ []
def dkwX0_game_8 : List UInt8 := [21, 6, 54, 6, 132, 5, 1, 132, 7, 1, 167, 255, 215, 21, 4, 2, 160, 0, 8, 21, 5, 167, 0, 5]
abbrev dktX0_game_8 : List UInt8 := dkwX0_game_8 ++ dktX0_game_9
def dkwX0_game_7 : List UInt8 := [162, 0, 37, 42, 21, 7, 182, 1, 49, 153, 0, 22, 21, 5, 21, 4, 160, 0, 8, 21, 7, 167, 0, 5]
abbrev dktX0_game_7 : List UInt8 := dkwX0_game_7 ++ dktX0_game_8
def dkwX0_game_6 : List UInt8 := [132, 5, 1, 167, 255, 163, 3, 54, 5, 16, 251, 54, 6, 3, 54, 7, 21, 7, 42, 180, 0, 58, 190]
abbrev dktX0_game_6 : List UInt8 := dkwX0_game_6 ++ dktX0_game_7
def dkwX0_game_5 : List UInt8 := [130, 126, 181, 0, 173, 42, 180, 0, 58, 21, 5, 42, 180, 0, 10, 42, 180, 0, 26, 29, 182, 0, 216, 79]
abbrev dktX0_game_5 : List UInt8 := dkwX0_game_5 ++ dktX0_game_6
def dkwX0_game_4 : List UInt8 := [180, 0, 173, 4, 28, 120, 128, 167, 0, 19, 42, 180, 0, 10, 180, 0, 148, 180, 0, 173, 4, 28, 120, 2]
abbrev dktX0_game_4 : List UInt8 := dkwX0_game_4 ++ dktX0_game_5
def dkwX0_game_3 : List UInt8 := [21, 5, 16, 10, 112, 79, 42, 180, 0, 26, 21, 5, 16, 10, 161, 0, 20, 42, 180, 0, 10, 180, 0, 148]
abbrev dktX0_game_3 : List UInt8 := dkwX0_game_3 ++ dktX0_game_4
def dkwX0_game_2 : List UInt8 := [182, 0, 180, 3, 54, 5, 21, 5, 42, 180, 0, 58, 190, 162, 0, 89, 42, 180, 0, 26, 180, 0, 164, 27]
abbrev dktX0_game_2 : List UInt8 := dkwX0_game_2 ++ dktX0_game_3
def dkwX0_game_1 : List UInt8 := [21, 4, 2, 162, 0, 8, 42, 182, 0, 236, 172, 42, 180, 0, 26, 42, 180, 0, 10, 180, 0, 148]
abbrev dktX0_game_1 : List UInt8 := dkwX0_game_1 ++ dktX0_game_2
def dkwX0_game_0 : List UInt8 := [42, 27, 182, 0, 161, 153, 0, 24, 42, 28, 182, 0, 170, 153, 0, 16, 29, 184, 0, 206, 153, 0, 9]
abbrev dktX0_game_0 : List UInt8 := dkwX0_game_0 ++ dktX0_game_1
theorem dksX0_game_0 : cX0_game.data.toList.drop 0 = dktX0_game_0 := by decide +kernel
theorem dksX0_game_1 : cX0_game.data.toList.drop 23 = dktX0_game_1 := dk_seg dksX0_game_0 23 rfl rfl
theorem dksX0_game_2 : cX0_game.data.toList.drop 45 = dktX0_game_2 := dk_seg dksX0_game_1 22 rfl rfl
theorem dksX0_game_3 : cX0_game.data.toList.drop 69 = dktX0_game_3 := dk_seg dksX0_game_2 24 rfl rfl
theorem dksX0_game_4 : cX0_game.data.toList.drop 93 = dktX0_game_4 := dk_seg dksX0_game_3 24 rfl rfl
theorem dksX0_game_5 : cX0_game.data.toList.drop 117 = dktX0_game_5 := dk_seg dksX0_game_4 24 rfl rfl
theorem dksX0_game_6 : cX0_game.data.toList.drop 141 = dktX0_game_6 := dk_seg dksX0_game_5 24 rfl rfl
theorem dksX0_game_7 : cX0_game.data.toList.drop 164 = dktX0_game_7 := dk_seg dksX0_game_6 23 rfl rfl
theorem dksX0_game_8 : cX0_game.data.toList.drop 188 = dktX0_game_8 := dk_seg dksX0_game_7 24 rfl rfl
theorem dksX0_game_9 : cX0_game.data.toList.drop 212 = dktX0_game_9 := dk_seg dksX0_game_8 24 rfl rfl
theorem dX0_game_0 : decode cX0_game 0 = .ok (.aload_n 0, 1) := dk_42 (dk_at dksX0_game_0 0 rfl rfl)
theorem dX0_game_1 : decode cX0_game 1 = .ok (.iload_n 1, 1) := dk_27 (dk_at dksX0_game_0 1 rfl rfl)
theorem dX0_game_2 : decode cX0_game 2 = .ok (.invokevirtual 161, 3) := dk_182 0 161 (dk_at dksX0_game_0 2 rfl rfl)
theorem dX0_game_5 : decode cX0_game 5 = .ok (.ifCond .eq 24, 3) := dk_153 0 24 (dk_at dksX0_game_0 5 rfl rfl)
theorem dX0_game_8 : decode cX0_game 8 = .ok (.aload_n 0, 1) := dk_42 (dk_at dksX0_game_0 8 rfl rfl)
theorem dX0_game_9 : decode cX0_game 9 = .ok (.iload_n 2, 1) := dk_28 (dk_at dksX0_game_0 9 rfl rfl)
theorem dX0_game_10 : decode cX0_game 10 = .ok (.invokevirtual 170, 3) := dk_182 0 170 (dk_at dksX0_game_0 10 rfl rfl)
theorem dX0_game_13 : decode cX0_game 13 = .ok (.ifCond .eq 16, 3) := dk_153 0 16 (dk_at dksX0_game_0 13 rfl rfl)
theorem dX0_game_16 : decode cX0_game 16 = .ok (.iload_n 3, 1) := dk_29 (dk_at dksX0_game_0 16 rfl rfl)
theorem dX0_game_17 : decode cX0_game 17 = .ok (.invokestatic 206, 3) := dk_184 0 206 (dk_at dksX0_game_0 17 rfl rfl)
theorem dX0_game_20 : decode cX0_game 20 = .ok (.ifCond .eq 9, 3) := dk_153 0 9 (dk_at dksX0_game_0 20 rfl rfl)
theorem dX0_game_23 : decode cX0_game 23 = .ok (.iload 4, 2) := dk_21 4 (dk_at dksX0_game_1 0 rfl rfl)
theorem dX0_game_25 : decode cX0_game 25 = .ok (.iconst (-1), 1) := dk_2 (dk_at dksX0_game_1 2 rfl rfl)
theorem dX0_game_26 : decode cX0_game 26 = .ok (.if_icmp .ge 8, 3) := dk_162 0 8 (dk_at dksX0_game_1 3 rfl rfl)
theorem dX0_game_29 : decode cX0_game 29 = .ok (.aload_n 0, 1) := dk_42 (dk_at dksX0_game_1 6 rfl rfl)
theorem dX0_game_30 : decode cX0_game 30 = .ok (.invokevirtual 236, 3) := dk_182 0 236 (dk_at dksX0_game_1 7 rfl rfl)
theorem dX0_game_33 : decode cX0_game 33 = .ok (.ireturn, 1) := dk_172 (dk_at dksX0_game_1 10 rfl rfl)
theorem dX0_game_34 : decode cX0_game 34 = .ok (.aload_n 0, 1) := dk_42 (dk_at dksX0_game_1 11 rfl rfl)
theorem dX0_game_35 : decode cX0_game 35 = .ok (.getfield 26, 3) := dk_180 0 26 (dk_at dksX0_game_1 12 rfl rfl)
theorem dX0_game_38 : decode cX0_game 38 = .ok (.aload_n 0, 1) := dk_42 (dk_at dksX0_game_1 15 rfl rfl)
theorem dX0_game_39 : decode cX0_game 39 = .ok (.getfield 10, 3) := dk_180 0 10 (dk_at dksX0_game_1 16 rfl rfl)
theorem dX0_game_42 : decode cX0_game 42 = .ok (.getfield 148, 3) := dk_180 0 148 (dk_at dksX0_game_1 19 rfl rfl)
theorem dX0_game_45 : decode cX0_game 45 = .ok (.invokevirtual 180, 3) := dk_182 0 180 (dk_at dksX0_game_2 0 rfl rfl)
theorem dX0_game_48 : decode cX0_game 48 = .ok (.iconst 0, 1) := dk_3 (dk_at dksX0_game_2 3 rfl rfl)
theorem dX0_game_49 : decode cX0_game 49 = .ok (.istore 5, 2) := dk_54 5 (dk_at dksX0_game_2 4 rfl rfl)
theorem dX0_game_51 : decode cX0_game 51 = .ok (.iload 5, 2) := dk_21 5 (dk_at dksX0_game_2 6 rfl rfl)
theorem dX0_game_53 : decode cX0_game 53 = .ok (.aload_n 0, 1) := dk_42 (dk_at dksX0_game_2 8 rfl rfl)
theorem dX0_game_54 : decode cX0_game 54 = .ok (.getfield 58, 3) := dk_180 0 58 (dk_at dksX0_game_2 9 rfl rfl)
theorem dX0_game_57 : decode cX0_game 57 = .ok (.arraylength, 1) := dk_190 (dk_at dksX0_game_2 12 rfl rfl)
theorem dX0_game_58 : decode cX0_game 58 = .ok (.if_icmp .ge 89, 3) := dk_162 0 89 (dk_at dksX0_game_2 13 rfl rfl)
theorem dX0_game_61 : decode cX0_game 61 = .ok (.aload_n 0, 1) := dk_42 (dk_at dksX0_game_2 16 rfl rfl)
theorem dX0_game_62 : decode cX0_game 62 = .ok (.getfield 26, 3) := dk_180 0 26 (dk_at dksX0_game_2 17 rfl rfl)
theorem dX0_game_65 : decode cX0_game 65 = .ok (.getfield 164, 3) := dk_180 0 164 (dk_at dksX0_game_2 20 rfl rfl)
theorem dX0_game_68 : decode cX0_game 68 = .ok (.iload_n 1, 1) := dk_27 (dk_at dksX0_game_2 23 rfl rfl)
theorem dX0_game_69 : decode cX0_game 69 = .ok (.iload 5, 2) := dk_21 5 (dk_at dksX0_game_3 0 rfl rfl)
theorem dX0_game_71 : decode cX0_game 71 = .ok (.bipush 10, 2) := dk_16 10 (dk_at dksX0_game_3 2 rfl rfl)
theorem dX0_game_73 : decode cX0_game 73 = .ok (.irem, 1) := dk_112 (dk_at dksX0_game_3 4 rfl rfl)
theorem dX0_game_74 : decode cX0_game 74 = .ok (.iastore, 1) := dk_79 (dk_at dksX0_game_3 5 rfl rfl)
theorem dX0_game_75 : decode cX0_game 75 = .ok (.aload_n 0, 1) := dk_42 (dk_at dksX0_game_3 6 rfl rfl)
theorem dX0_game_76 : decode cX0_game 76 = .ok (.getfield 26, 3) := dk_180 0 26 (dk_at dksX0_game_3 7 rfl rfl)
theorem dX0_game_79 : decode cX0_game 79 = .ok (.iload 5, 2) := dk_21 5 (dk_at dksX0_game_3 10 rfl rfl)
theorem dX0_game_81 : decode cX0_game 81 = .ok (.bipush 10, 2) := dk_16 10 (dk_at dksX0_game_3 12 rfl rfl)
theorem dX0_game_83 : decode cX0_game 83 = .ok (.if_icmp .lt 20, 3) := dk_161 0 20 (dk_at dksX0_game_3 14 rfl rfl)
theorem dX0_game_86 : decode cX0_game 86 = .ok (.aload_n 0, 1) := dk_42 (dk_at dksX0_game_3 17 rfl rfl)
theorem dX0_game_87 : decode cX0_game 87 = .ok (.getfield 10, 3) := dk_180 0 10 (dk_at dksX0_game_3 18 rfl rfl)
theorem dX0_game_90 : decode cX0_game 90 = .ok (.getfield 148, 3) := dk_180 0 148 (dk_at dksX0_game_3 21 rfl rfl)
theorem dX0_game_93 : decode cX0_game 93 = .ok (.getfield 173, 3) := dk_180 0 173 (dk_at dksX0_game_4 0 rfl rfl)
theorem dX0_game_96 : decode cX0_game 96 = .ok (.iconst 1, 1) := dk_4 (dk_at dksX0_game_4 3 rfl rfl)
theorem dX0_game_97 : decode cX0_game 97 = .ok (.iload_n 2, 1) := dk_28 (dk_at dksX0_game_4 4 rfl rfl)
theorem dX0_game_98 : decode cX0_game 98 = .ok (.ishl, 1) := dk_120 (dk_at dksX0_game_4 5 rfl rfl)
theorem dX0_game_99 : decode cX0_game 99 = .ok (.ior, 1) := dk_128 (dk_at dksX0_game_4 6 rfl rfl)
theorem dX0_game_100 : decode cX0_game 100 = .ok (.goto 19, 3) := dk_167 0 19 (dk_at dksX0_game_4 7 rfl rfl)
theorem dX0_game_103 : decode cX0_game 103 = .ok (.aload_n 0, 1) := dk_42 (dk_at dksX0_game_4 10 rfl rfl)
theorem dX0_game_104 : decode cX0_game 104 = .ok (.getfield 10, 3) := dk_180 0 10 (dk_at dksX0_game_4 11 rfl rfl)
theorem dX0_game_107 : decode cX0_game 107 = .ok (.getfield 148, 3) := dk_180 0 148 (dk_at dksX0_game_4 14 rfl rfl)
theorem dX0_game_110 : decode cX0_game 110 = .ok (.getfield 173, 3) := dk_180 0 173 (dk_at dksX0_game_4 17 rfl rfl)
theorem dX0_game_113 : decode cX0_game 113 = .ok (.iconst 1, 1) := dk_4 (dk_at dksX0_game_4 20 rfl rfl)
theorem dX0_game_114 : decode cX0_game 114 = .ok (.iload_n 2, 1) := dk_28 (dk_at dksX0_game_4 21 rfl rfl)
theorem dX0_game_115 : decode cX0_game 115 = .ok (.ishl, 1) := dk_120 (dk_at dksX0_game_4 22 rfl rfl)
theorem dX0_game_116 : decode cX0_game 116 = .ok (.iconst (-1), 1) := dk_2 (dk_at dksX0_game_4 23 rfl rfl)
theorem dX0_game_117 : decode cX0_game 117 = .ok (.ixor, 1) := dk_130 (dk_at dksX0_game_5 0 rfl rfl)
theorem dX0_game_118 : decode cX0_game 118 = .ok (.iand, 1) := dk_126 (dk_at dksX0_game_5 1 rfl rfl)
theorem dX0_game_119 : decode cX0_game 119 = .ok (.putfield 173, 3) := dk_181 0 173 (dk_at dksX0_game_5 2 rfl rfl)
theorem dX0_game_122 : decode cX0_game 122 = .ok (.aload_n 0, 1) := dk_42 (dk_at dksX0_game_5 5 rfl rfl)
theorem dX0_game_123 : decode cX0_game 123 = .ok (.getfield 58, 3) := dk_180 0 58 (dk_at dksX0_game_5 6 rfl rfl)
theorem dX0_game_126 : decode cX0_game 126 = .ok (.iload 5, 2) := dk_21 5 (dk_at dksX0_game_5 9 rfl rfl)
theorem dX0_game_128 : decode cX0_game 128 = .ok (.aload_n 0, 1) := dk_42 (dk_at dksX0_game_5 11 rfl rfl)
theorem dX0_game_129 : decode cX0_game 129 = .ok (.getfield 10, 3) := dk_180 0 10 (dk_at dksX0_game_5 12 rfl rfl)
theorem dX0_game_132 : decode cX0_game 132 = .ok (.aload_n 0, 1) := dk_42 (dk_at dksX0_game_5 15 rfl rfl)
theorem dX0_game_133 : decode cX0_game 133 = .ok (.getfield 26, 3) := dk_180 0 26 (dk_at dksX0_game_5 16 rfl rfl)
theorem dX0_game_136 : decode cX0_game 136 = .ok (.iload_n 3, 1) := dk_29 (dk_at dksX0_game_5 19 rfl rfl)
theorem dX0_game_137 : decode cX0_game 137 = .ok (.invokevirtual 216, 3) := dk_182 0 216 (dk_at dksX0_game_5 20 rfl rfl)
theorem dX0_game_140 : decode cX0_game 140 = .ok (.iastore, 1) := dk_79 (dk_at dksX0_game_5 23 rfl rfl)
theorem dX0_game_141 : decode cX0_game 141 = .ok (.iinc 5 1, 3) := dk_132 5 1 (dk_at dksX0_game_6 0 rfl rfl)
theorem dX0_game_144 : decode cX0_game 144 = .ok (.goto (-93), 3) := dk_167 255 163 (dk_at dksX0_game_6 3 rfl rfl)
theorem dX0_game_147 : decode cX0_game 147 = .ok (.iconst 0, 1) := dk_3 (dk_at dksX0_game_6 6 rfl rfl)
theorem dX0_game_148 : decode cX0_game 148 = .ok (.istore 5, 2) := dk_54 5 (dk_at dksX0_game_6 7 rfl rfl)
theorem dX0_game_150 : decode cX0_game 150 = .ok (.bipush (-5), 2) := dk_16 251 (dk_at dksX0_game_6 9 rfl rfl)
theorem dX0_game_152 : decode cX0_game 152 = .ok (.istore 6, 2) := dk_54 6 (dk_at dksX0_game_6 11 rfl rfl)
theorem dX0_game_154 : decode cX0_game 154 = .ok (.iconst 0, 1) := dk_3 (dk_at dksX0_game_6 13 rfl rfl)
theorem dX0_game_155 : decode cX0_game 155 = .ok (.istore 7, 2) := dk_54 7 (dk_at dksX0_game_6 14 rfl rfl)
theorem dX0_game_157 : decode cX0_game 157 = .ok (.iload 7, 2) := dk_21 7 (dk_at dksX0_game_6 16 rfl rfl)
theorem dX0_game_159 : decode cX0_game 159 = .ok (.aload_n 0, 1) := dk_42 (dk_at dksX0_game_6 18 rfl rfl)
theorem dX0_game_160 : decode cX0_game 160 = .ok (.getfield 58, 3) := dk_180 0 58 (dk_at dksX0_game_6 19 rfl rfl)
theorem dX0_game_163 : decode cX0_game 163 = .ok (.arraylength, 1) := dk_190 (dk_at dksX0_game_6 22 rfl rfl)
theorem dX0_game_164 : decode cX0_game 164 = .ok (.if_icmp .ge 37, 3) := dk_162 0 37 (dk_at dksX0_game_7 0 rfl rfl)
theorem dX0_game_167 : decode cX0_game 167 = .ok (.aload_n 0, 1) := dk_42 (dk_at dksX0_game_7 3 rfl rfl)
theorem dX0_game_168 : decode cX0_game 168 = .ok (.iload 7, 2) := dk_21 7 (dk_at dksX0_game_7 4 rfl rfl)
theorem dX0_game_170 : decode cX0_game 170 = .ok (.invokevirtual 305, 3) := dk_182 1 49 (dk_at dksX0_game_7 6 rfl rfl)
theorem dX0_game_173 : decode cX0_game 173 = .ok (.ifCond .eq 22, 3) := dk_153 0 22 (dk_at dksX0_game_7 9 rfl rfl)
theorem dX0_game_176 : decode cX0_game 176 = .ok (.iload 5, 2) := dk_21 5 (dk_at dksX0_game_7 12 rfl rfl)
theorem dX0_game_178 : decode cX0_game 178 = .ok (.iload 4, 2) := dk_21 4 (dk_at dksX0_game_7 14 rfl rfl)
theorem dX0_game_180 : decode cX0_game 180 = .ok (.if_icmp .ne 8, 3) := dk_160 0 8 (dk_at dksX0_game_7 16 rfl rfl)
theorem dX0_game_183 : decode cX0_game 183 = .ok (.iload 7, 2) := dk_21 7 (dk_at dksX0_game_7 19 rfl rfl)
theorem dX0_game_185 : decode cX0_game 185 = .ok (.goto 5, 3) := dk_167 0 5 (dk_at dksX0_game_7 21 rfl rfl)
theorem dX0_game_188 : decode cX0_game 188 = .ok (.iload 6, 2) := dk_21 6 (dk_at dksX0_game_8 0 rfl rfl)
theorem dX0_game_190 : decode cX0_game 190 = .ok (.istore 6, 2) := dk_54 6 (dk_at dksX0_game_8 2 rfl rfl)
theorem dX0_game_192 : decode cX0_game 192 = .ok (.iinc 5 1, 3) := dk_132 5 1 (dk_at dksX0_game_8 4 rfl rfl)
theorem dX0_game_195 : decode cX0_game 195 = .ok (.iinc 7 1, 3) := dk_132 7 1 (dk_at dksX0_game_8 7 rfl rfl)
theorem dX0_game_198 : decode cX0_game 198 = .ok (.goto (-41), 3) := dk_167 255 215 (dk_at dksX0_game_8 10 rfl rfl)
theorem dX0_game_201 : decode cX0_game 201 = .ok (.iload 4, 2) := dk_21 4 (dk_at dksX0_game_8 13 rfl rfl)
theorem dX0_game_203 : decode cX0_game 203 = .ok (.iconst (-1), 1) := dk_2 (dk_at dksX0_game_8 15 rfl rfl)
theorem dX0_game_204 : decode cX0_game 204 = .ok (.if_icmp .ne 8, 3) := dk_160 0 8 (dk_at dksX0_game_8 16 rfl rfl)
theorem dX0_game_207 : decode cX0_game 207 = .ok (.iload 5, 2) := dk_21 5 (dk_at dksX0_game_8 19 rfl rfl)
theorem dX0_game_209 : decode cX0_game 209 = .ok (.goto 5, 3) := dk_167 0 5 (dk_at dksX0_game_8 21 rfl rfl)
theorem dX0_game_212 : decode cX0_game 212 = .ok (.iload 6, 2) := dk_21 6 (dk_at dksX0_game_9 0 rfl rfl)
theorem dX0_game_214 : decode cX0_game 214 = .ok (.ireturn, 1) := dk_172 (dk_at dksX0_game_9 2 rfl rfl)
abbrev cX0_rests : ByteArray := prog_1_method_55_code
def yX0_rests : MethodName := ⟨RX0, "rests", "(I)Z"⟩
def dkwX0_rests_4 : List UInt8 := [167, 0, 4, 3, 54, 4, 132, 5, 1, 167, 255, 205, 21, 4, 172]
abbrev dktX0_rests_4 : List UInt8 := dkwX0_rests_4 ++ []
def dkwX0_rests_3 : List UInt8 := [16, 10, 112, 100, 42, 180, 0, 58, 16, 10, 28, 104, 21, 5, 96, 46, 21, 5, 100, 161, 0, 7, 4]
abbrev dktX0_rests_3 : List UInt8 := dkwX0_rests_3 ++ dktX0_rests_4
def dkwX0_rests_2 : List UInt8 := [54, 4, 3, 54, 5, 21, 5, 16, 9, 163, 0, 50, 21, 4, 153, 0, 45, 42, 180, 0, 58, 27, 46, 27]
abbrev dktX0_rests_2 : List UInt8 := dkwX0_rests_2 ++ dktX0_rests_3
def dkwX0_rests_1 : List UInt8 := [28, 104, 96, 42, 180, 0, 58, 29, 46, 5, 4, 28, 100, 104, 96, 163, 0, 7, 4, 167, 0, 4, 3]
abbrev dktX0_rests_1 : List UInt8 := dkwX0_rests_1 ++ dktX0_rests_2
def dkwX0_rests_0 : List UInt8 := [27, 16, 10, 108, 61, 27, 16, 10, 112, 16, 10, 4, 28, 100, 104, 96, 62, 42, 180, 0, 58, 27, 46, 5]
abbrev dktX0_rests_0 : List UInt8 := dkwX0_rests_0 ++ dktX0_rests_1
theorem dksX0_rests_0 : cX0_rests.data.toList.drop 0 = dktX0_rests_0 := by decide +kernel
theorem dksX0_rests_1 : cX0_rests.data.toList.drop 24 = dktX0_rests_1 := dk_seg dksX0_rests_0 24 rfl rfl
theorem dksX0_rests_2 : cX0_rests.data.toList.drop 47 = dktX0_rests_2 := dk_seg dksX0_rests_1 23 rfl rfl
theorem dksX0_rests_3 : cX0_rests.data.toList.drop 71 = dktX0_rests_3 := dk_seg dksX0_rests_2 24 rfl rfl
theorem dksX0_rests_4 : cX0_rests.data.toList.drop 94 = dktX0_rests_4 := dk_seg dksX0_rests_3 23 rfl rfl
theorem dX0_rests_0 : decode cX0_rests 0 = .ok (.iload_n 1, 1) := dk_27 (dk_at dksX0_rests_0 0 rfl rfl)
theorem dX0_rests_1 : decode cX0_rests 1 = .ok (.bipush 10, 2) := dk_16 10 (dk_at dksX0_rests_0 1 rfl rfl)
theorem dX0_rests_3 : decode cX0_rests 3 = .ok (.idiv, 1) := dk_108 (dk_at dksX0_rests_0 3 rfl rfl)
theorem dX0_rests_4 : decode cX0_rests 4 = .ok (.istore_n 2, 1) := dk_61 (dk_at dksX0_rests_0 4 rfl rfl)
theorem dX0_rests_5 : decode cX0_rests 5 = .ok (.iload_n 1, 1) := dk_27 (dk_at dksX0_rests_0 5 rfl rfl)
theorem dX0_rests_6 : decode cX0_rests 6 = .ok (.bipush 10, 2) := dk_16 10 (dk_at dksX0_rests_0 6 rfl rfl)
theorem dX0_rests_8 : decode cX0_rests 8 = .ok (.irem, 1) := dk_112 (dk_at dksX0_rests_0 8 rfl rfl)
theorem dX0_rests_9 : decode cX0_rests 9 = .ok (.bipush 10, 2) := dk_16 10 (dk_at dksX0_rests_0 9 rfl rfl)
theorem dX0_rests_11 : decode cX0_rests 11 = .ok (.iconst 1, 1) := dk_4 (dk_at dksX0_rests_0 11 rfl rfl)
theorem dX0_rests_12 : decode cX0_rests 12 = .ok (.iload_n 2, 1) := dk_28 (dk_at dksX0_rests_0 12 rfl rfl)
theorem dX0_rests_13 : decode cX0_rests 13 = .ok (.isub, 1) := dk_100 (dk_at dksX0_rests_0 13 rfl rfl)
theorem dX0_rests_14 : decode cX0_rests 14 = .ok (.imul, 1) := dk_104 (dk_at dksX0_rests_0 14 rfl rfl)
theorem dX0_rests_15 : decode cX0_rests 15 = .ok (.iadd, 1) := dk_96 (dk_at dksX0_rests_0 15 rfl rfl)
theorem dX0_rests_16 : decode cX0_rests 16 = .ok (.istore_n 3, 1) := dk_62 (dk_at dksX0_rests_0 16 rfl rfl)
theorem dX0_rests_17 : decode cX0_rests 17 = .ok (.aload_n 0, 1) := dk_42 (dk_at dksX0_rests_0 17 rfl rfl)
theorem dX0_rests_18 : decode cX0_rests 18 = .ok (.getfield 58, 3) := dk_180 0 58 (dk_at dksX0_rests_0 18 rfl rfl)
theorem dX0_rests_21 : decode cX0_rests 21 = .ok (.iload_n 1, 1) := dk_27 (dk_at dksX0_rests_0 21 rfl rfl)
theorem dX0_rests_22 : decode cX0_rests 22 = .ok (.iaload, 1) := dk_46 (dk_at dksX0_rests_0 22 rfl rfl)
theorem dX0_rests_23 : decode cX0_rests 23 = .ok (.iconst 2, 1) := dk_5 (dk_at dksX0_rests_0 23 rfl rfl)
theorem dX0_rests_24 : decode cX0_rests 24 = .ok (.iload_n 2, 1) := dk_28 (dk_at dksX0_rests_1 0 rfl rfl)
theorem dX0_rests_25 : decode cX0_rests 25 = .ok (.imul, 1) := dk_104 (dk_at dksX0_rests_1 1 rfl rfl)
theorem dX0_rests_26 : decode cX0_rests 26 = .ok (.iadd, 1) := dk_96 (dk_at dksX0_rests_1 2 rfl rfl)
theorem dX0_rests_27 : decode cX0_rests 27 = .ok (.aload_n 0, 1) := dk_42 (dk_at dksX0_rests_1 3 rfl rfl)
theorem dX0_rests_28 : decode cX0_rests 28 = .ok (.getfield 58, 3) := dk_180 0 58 (dk_at dksX0_rests_1 4 rfl rfl)
theorem dX0_rests_31 : decode cX0_rests 31 = .ok (.iload_n 3, 1) := dk_29 (dk_at dksX0_rests_1 7 rfl rfl)
theorem dX0_rests_32 : decode cX0_rests 32 = .ok (.iaload, 1) := dk_46 (dk_at dksX0_rests_1 8 rfl rfl)
theorem dX0_rests_33 : decode cX0_rests 33 = .ok (.iconst 2, 1) := dk_5 (dk_at dksX0_rests_1 9 rfl rfl)
theorem dX0_rests_34 : decode cX0_rests 34 = .ok (.iconst 1, 1) := dk_4 (dk_at dksX0_rests_1 10 rfl rfl)
theorem dX0_rests_35 : decode cX0_rests 35 = .ok (.iload_n 2, 1) := dk_28 (dk_at dksX0_rests_1 11 rfl rfl)
theorem dX0_rests_36 : decode cX0_rests 36 = .ok (.isub, 1) := dk_100 (dk_at dksX0_rests_1 12 rfl rfl)
theorem dX0_rests_37 : decode cX0_rests 37 = .ok (.imul, 1) := dk_104 (dk_at dksX0_rests_1 13 rfl rfl)
theorem dX0_rests_38 : decode cX0_rests 38 = .ok (.iadd, 1) := dk_96 (dk_at dksX0_rests_1 14 rfl rfl)
theorem dX0_rests_39 : decode cX0_rests 39 = .ok (.if_icmp .gt 7, 3) := dk_163 0 7 (dk_at dksX0_rests_1 15 rfl rfl)
theorem dX0_rests_42 : decode cX0_rests 42 = .ok (.iconst 1, 1) := dk_4 (dk_at dksX0_rests_1 18 rfl rfl)
theorem dX0_rests_43 : decode cX0_rests 43 = .ok (.goto 4, 3) := dk_167 0 4 (dk_at dksX0_rests_1 19 rfl rfl)
theorem dX0_rests_46 : decode cX0_rests 46 = .ok (.iconst 0, 1) := dk_3 (dk_at dksX0_rests_1 22 rfl rfl)
theorem dX0_rests_47 : decode cX0_rests 47 = .ok (.istore 4, 2) := dk_54 4 (dk_at dksX0_rests_2 0 rfl rfl)
theorem dX0_rests_49 : decode cX0_rests 49 = .ok (.iconst 0, 1) := dk_3 (dk_at dksX0_rests_2 2 rfl rfl)
theorem dX0_rests_50 : decode cX0_rests 50 = .ok (.istore 5, 2) := dk_54 5 (dk_at dksX0_rests_2 3 rfl rfl)
theorem dX0_rests_52 : decode cX0_rests 52 = .ok (.iload 5, 2) := dk_21 5 (dk_at dksX0_rests_2 5 rfl rfl)
theorem dX0_rests_54 : decode cX0_rests 54 = .ok (.bipush 9, 2) := dk_16 9 (dk_at dksX0_rests_2 7 rfl rfl)
theorem dX0_rests_56 : decode cX0_rests 56 = .ok (.if_icmp .gt 50, 3) := dk_163 0 50 (dk_at dksX0_rests_2 9 rfl rfl)
theorem dX0_rests_59 : decode cX0_rests 59 = .ok (.iload 4, 2) := dk_21 4 (dk_at dksX0_rests_2 12 rfl rfl)
theorem dX0_rests_61 : decode cX0_rests 61 = .ok (.ifCond .eq 45, 3) := dk_153 0 45 (dk_at dksX0_rests_2 14 rfl rfl)
theorem dX0_rests_64 : decode cX0_rests 64 = .ok (.aload_n 0, 1) := dk_42 (dk_at dksX0_rests_2 17 rfl rfl)
theorem dX0_rests_65 : decode cX0_rests 65 = .ok (.getfield 58, 3) := dk_180 0 58 (dk_at dksX0_rests_2 18 rfl rfl)
theorem dX0_rests_68 : decode cX0_rests 68 = .ok (.iload_n 1, 1) := dk_27 (dk_at dksX0_rests_2 21 rfl rfl)
theorem dX0_rests_69 : decode cX0_rests 69 = .ok (.iaload, 1) := dk_46 (dk_at dksX0_rests_2 22 rfl rfl)
theorem dX0_rests_70 : decode cX0_rests 70 = .ok (.iload_n 1, 1) := dk_27 (dk_at dksX0_rests_2 23 rfl rfl)
theorem dX0_rests_71 : decode cX0_rests 71 = .ok (.bipush 10, 2) := dk_16 10 (dk_at dksX0_rests_3 0 rfl rfl)
theorem dX0_rests_73 : decode cX0_rests 73 = .ok (.irem, 1) := dk_112 (dk_at dksX0_rests_3 2 rfl rfl)
theorem dX0_rests_74 : decode cX0_rests 74 = .ok (.isub, 1) := dk_100 (dk_at dksX0_rests_3 3 rfl rfl)
theorem dX0_rests_75 : decode cX0_rests 75 = .ok (.aload_n 0, 1) := dk_42 (dk_at dksX0_rests_3 4 rfl rfl)
theorem dX0_rests_76 : decode cX0_rests 76 = .ok (.getfield 58, 3) := dk_180 0 58 (dk_at dksX0_rests_3 5 rfl rfl)
theorem dX0_rests_79 : decode cX0_rests 79 = .ok (.bipush 10, 2) := dk_16 10 (dk_at dksX0_rests_3 8 rfl rfl)
theorem dX0_rests_81 : decode cX0_rests 81 = .ok (.iload_n 2, 1) := dk_28 (dk_at dksX0_rests_3 10 rfl rfl)
theorem dX0_rests_82 : decode cX0_rests 82 = .ok (.imul, 1) := dk_104 (dk_at dksX0_rests_3 11 rfl rfl)
theorem dX0_rests_83 : decode cX0_rests 83 = .ok (.iload 5, 2) := dk_21 5 (dk_at dksX0_rests_3 12 rfl rfl)
theorem dX0_rests_85 : decode cX0_rests 85 = .ok (.iadd, 1) := dk_96 (dk_at dksX0_rests_3 14 rfl rfl)
theorem dX0_rests_86 : decode cX0_rests 86 = .ok (.iaload, 1) := dk_46 (dk_at dksX0_rests_3 15 rfl rfl)
theorem dX0_rests_87 : decode cX0_rests 87 = .ok (.iload 5, 2) := dk_21 5 (dk_at dksX0_rests_3 16 rfl rfl)
theorem dX0_rests_89 : decode cX0_rests 89 = .ok (.isub, 1) := dk_100 (dk_at dksX0_rests_3 18 rfl rfl)
theorem dX0_rests_90 : decode cX0_rests 90 = .ok (.if_icmp .lt 7, 3) := dk_161 0 7 (dk_at dksX0_rests_3 19 rfl rfl)
theorem dX0_rests_93 : decode cX0_rests 93 = .ok (.iconst 1, 1) := dk_4 (dk_at dksX0_rests_3 22 rfl rfl)
theorem dX0_rests_94 : decode cX0_rests 94 = .ok (.goto 4, 3) := dk_167 0 4 (dk_at dksX0_rests_4 0 rfl rfl)
theorem dX0_rests_97 : decode cX0_rests 97 = .ok (.iconst 0, 1) := dk_3 (dk_at dksX0_rests_4 3 rfl rfl)
theorem dX0_rests_98 : decode cX0_rests 98 = .ok (.istore 4, 2) := dk_54 4 (dk_at dksX0_rests_4 4 rfl rfl)
theorem dX0_rests_100 : decode cX0_rests 100 = .ok (.iinc 5 1, 3) := dk_132 5 1 (dk_at dksX0_rests_4 6 rfl rfl)
theorem dX0_rests_103 : decode cX0_rests 103 = .ok (.goto (-51), 3) := dk_167 255 205 (dk_at dksX0_rests_4 9 rfl rfl)
theorem dX0_rests_106 : decode cX0_rests 106 = .ok (.iload 4, 2) := dk_21 4 (dk_at dksX0_rests_4 12 rfl rfl)
theorem dX0_rests_108 : decode cX0_rests 108 = .ok (.ireturn, 1) := dk_172 (dk_at dksX0_rests_4 14 rfl rfl)
abbrev cX0_slips : ByteArray := prog_1_method_57_code
def yX0_slips : MethodName := ⟨RX0, "slips", "(II)I"⟩
def dkwX0_slips_9 : List UInt8 := [42, 22, 4, 22, 8, 109, 181, 1, 58, 42, 22, 6, 22, 8, 109, 181, 0, 38, 4, 172]
abbrev dktX0_slips_9 : List UInt8 := dkwX0_slips_9 ++ []
def dkwX0_slips_8 : List UInt8 := [22, 9, 167, 0, 4, 9, 97, 55, 4, 132, 8, 1, 167, 255, 140, 22, 4, 22, 6, 184, 1, 54, 55, 8]
abbrev dktX0_slips_8 : List UInt8 := dkwX0_slips_8 ++ dktX0_slips_9
def dkwX0_slips_7 : List UInt8 := [132, 11, 1, 167, 255, 202, 22, 4, 42, 180, 0, 10, 42, 180, 0, 26, 27, 182, 0, 216, 158, 0, 8]
abbrev dktX0_slips_7 : List UInt8 := dkwX0_slips_7 ++ dktX0_slips_8
def dkwX0_slips_6 : List UInt8 := [21, 11, 122, 4, 126, 4, 160, 0, 11, 16, 10, 28, 100, 133, 167, 0, 5, 28, 133, 105, 55, 9]
abbrev dktX0_slips_6 : List UInt8 := dkwX0_slips_6 ++ dktX0_slips_7
def dkwX0_slips_5 : List UInt8 := [180, 0, 91, 162, 0, 48, 22, 9, 29, 21, 11, 122, 4, 126, 154, 0, 7, 10, 167, 0, 24, 21, 8]
abbrev dktX0_slips_5 : List UInt8 := dkwX0_slips_5 ++ dktX0_slips_6
def dkwX0_slips_4 : List UInt8 := [154, 0, 101, 42, 180, 0, 26, 21, 8, 181, 0, 173, 10, 55, 9, 3, 54, 11, 21, 11, 42, 180, 0, 10]
abbrev dktX0_slips_4 : List UInt8 := dkwX0_slips_4 ++ dktX0_slips_5
def dkwX0_slips_3 : List UInt8 := [180, 0, 10, 180, 0, 148, 182, 0, 180, 3, 54, 8, 21, 8, 29, 163, 0, 116, 21, 8, 29, 2, 130, 126]
abbrev dktX0_slips_3 : List UInt8 := dkwX0_slips_3 ++ dktX0_slips_4
def dkwX0_slips_2 : List UInt8 := [21, 8, 158, 0, 17, 22, 6, 20, 1, 52, 105, 55, 6, 132, 8, 255, 167, 255, 240, 42, 180, 0, 26, 42]
abbrev dktX0_slips_2 : List UInt8 := dkwX0_slips_2 ++ dktX0_slips_3
def dkwX0_slips_1 : List UInt8 := [42, 180, 0, 10, 180, 0, 148, 180, 0, 173, 62, 9, 55, 4, 10, 55, 6, 29, 184, 0, 226, 54, 8]
abbrev dktX0_slips_1 : List UInt8 := dkwX0_slips_1 ++ dktX0_slips_2
def dkwX0_slips_0 : List UInt8 := [27, 184, 0, 206, 153, 0, 15, 28, 133, 9, 20, 1, 52, 184, 0, 71, 154, 0, 8, 42, 182, 0, 98, 172]
abbrev dktX0_slips_0 : List UInt8 := dkwX0_slips_0 ++ dktX0_slips_1
theorem dksX0_slips_0 : cX0_slips.data.toList.drop 0 = dktX0_slips_0 := by decide +kernel
theorem dksX0_slips_1 : cX0_slips.data.toList.drop 24 = dktX0_slips_1 := dk_seg dksX0_slips_0 24 rfl rfl
theorem dksX0_slips_2 : cX0_slips.data.toList.drop 47 = dktX0_slips_2 := dk_seg dksX0_slips_1 23 rfl rfl
theorem dksX0_slips_3 : cX0_slips.data.toList.drop 71 = dktX0_slips_3 := dk_seg dksX0_slips_2 24 rfl rfl
theorem dksX0_slips_4 : cX0_slips.data.toList.drop 95 = dktX0_slips_4 := dk_seg dksX0_slips_3 24 rfl rfl
theorem dksX0_slips_5 : cX0_slips.data.toList.drop 119 = dktX0_slips_5 := dk_seg dksX0_slips_4 24 rfl rfl
theorem dksX0_slips_6 : cX0_slips.data.toList.drop 142 = dktX0_slips_6 := dk_seg dksX0_slips_5 23 rfl rfl
theorem dksX0_slips_7 : cX0_slips.data.toList.drop 164 = dktX0_slips_7 := dk_seg dksX0_slips_6 22 rfl rfl
theorem dksX0_slips_8 : cX0_slips.data.toList.drop 187 = dktX0_slips_8 := dk_seg dksX0_slips_7 23 rfl rfl
theorem dksX0_slips_9 : cX0_slips.data.toList.drop 211 = dktX0_slips_9 := dk_seg dksX0_slips_8 24 rfl rfl
theorem dX0_slips_0 : decode cX0_slips 0 = .ok (.iload_n 1, 1) := dk_27 (dk_at dksX0_slips_0 0 rfl rfl)
theorem dX0_slips_1 : decode cX0_slips 1 = .ok (.invokestatic 206, 3) := dk_184 0 206 (dk_at dksX0_slips_0 1 rfl rfl)
theorem dX0_slips_4 : decode cX0_slips 4 = .ok (.ifCond .eq 15, 3) := dk_153 0 15 (dk_at dksX0_slips_0 4 rfl rfl)
theorem dX0_slips_7 : decode cX0_slips 7 = .ok (.iload_n 2, 1) := dk_28 (dk_at dksX0_slips_0 7 rfl rfl)
theorem dX0_slips_8 : decode cX0_slips 8 = .ok (.i2l, 1) := dk_133 (dk_at dksX0_slips_0 8 rfl rfl)
theorem dX0_slips_9 : decode cX0_slips 9 = .ok (.lconst 0, 1) := dk_9 (dk_at dksX0_slips_0 9 rfl rfl)
theorem dX0_slips_10 : decode cX0_slips 10 = .ok (.ldc2_w 308, 3) := dk_20 1 52 (dk_at dksX0_slips_0 10 rfl rfl)
theorem dX0_slips_13 : decode cX0_slips 13 = .ok (.invokestatic 71, 3) := dk_184 0 71 (dk_at dksX0_slips_0 13 rfl rfl)
theorem dX0_slips_16 : decode cX0_slips 16 = .ok (.ifCond .ne 8, 3) := dk_154 0 8 (dk_at dksX0_slips_0 16 rfl rfl)
theorem dX0_slips_19 : decode cX0_slips 19 = .ok (.aload_n 0, 1) := dk_42 (dk_at dksX0_slips_0 19 rfl rfl)
theorem dX0_slips_20 : decode cX0_slips 20 = .ok (.invokevirtual 98, 3) := dk_182 0 98 (dk_at dksX0_slips_0 20 rfl rfl)
theorem dX0_slips_23 : decode cX0_slips 23 = .ok (.ireturn, 1) := dk_172 (dk_at dksX0_slips_0 23 rfl rfl)
theorem dX0_slips_24 : decode cX0_slips 24 = .ok (.aload_n 0, 1) := dk_42 (dk_at dksX0_slips_1 0 rfl rfl)
theorem dX0_slips_25 : decode cX0_slips 25 = .ok (.getfield 10, 3) := dk_180 0 10 (dk_at dksX0_slips_1 1 rfl rfl)
theorem dX0_slips_28 : decode cX0_slips 28 = .ok (.getfield 148, 3) := dk_180 0 148 (dk_at dksX0_slips_1 4 rfl rfl)
theorem dX0_slips_31 : decode cX0_slips 31 = .ok (.getfield 173, 3) := dk_180 0 173 (dk_at dksX0_slips_1 7 rfl rfl)
theorem dX0_slips_34 : decode cX0_slips 34 = .ok (.istore_n 3, 1) := dk_62 (dk_at dksX0_slips_1 10 rfl rfl)
theorem dX0_slips_35 : decode cX0_slips 35 = .ok (.lconst 0, 1) := dk_9 (dk_at dksX0_slips_1 11 rfl rfl)
theorem dX0_slips_36 : decode cX0_slips 36 = .ok (.lstore 4, 2) := dk_55 4 (dk_at dksX0_slips_1 12 rfl rfl)
theorem dX0_slips_38 : decode cX0_slips 38 = .ok (.lconst 1, 1) := dk_10 (dk_at dksX0_slips_1 14 rfl rfl)
theorem dX0_slips_39 : decode cX0_slips 39 = .ok (.lstore 6, 2) := dk_55 6 (dk_at dksX0_slips_1 15 rfl rfl)
theorem dX0_slips_41 : decode cX0_slips 41 = .ok (.iload_n 3, 1) := dk_29 (dk_at dksX0_slips_1 17 rfl rfl)
theorem dX0_slips_42 : decode cX0_slips 42 = .ok (.invokestatic 226, 3) := dk_184 0 226 (dk_at dksX0_slips_1 18 rfl rfl)
theorem dX0_slips_45 : decode cX0_slips 45 = .ok (.istore 8, 2) := dk_54 8 (dk_at dksX0_slips_1 21 rfl rfl)
theorem dX0_slips_47 : decode cX0_slips 47 = .ok (.iload 8, 2) := dk_21 8 (dk_at dksX0_slips_2 0 rfl rfl)
theorem dX0_slips_49 : decode cX0_slips 49 = .ok (.ifCond .le 17, 3) := dk_158 0 17 (dk_at dksX0_slips_2 2 rfl rfl)
theorem dX0_slips_52 : decode cX0_slips 52 = .ok (.lload 6, 2) := dk_22 6 (dk_at dksX0_slips_2 5 rfl rfl)
theorem dX0_slips_54 : decode cX0_slips 54 = .ok (.ldc2_w 308, 3) := dk_20 1 52 (dk_at dksX0_slips_2 7 rfl rfl)
theorem dX0_slips_57 : decode cX0_slips 57 = .ok (.lmul, 1) := dk_105 (dk_at dksX0_slips_2 10 rfl rfl)
theorem dX0_slips_58 : decode cX0_slips 58 = .ok (.lstore 6, 2) := dk_55 6 (dk_at dksX0_slips_2 11 rfl rfl)
theorem dX0_slips_60 : decode cX0_slips 60 = .ok (.iinc 8 (-1), 3) := dk_132 8 255 (dk_at dksX0_slips_2 13 rfl rfl)
theorem dX0_slips_63 : decode cX0_slips 63 = .ok (.goto (-16), 3) := dk_167 255 240 (dk_at dksX0_slips_2 16 rfl rfl)
theorem dX0_slips_66 : decode cX0_slips 66 = .ok (.aload_n 0, 1) := dk_42 (dk_at dksX0_slips_2 19 rfl rfl)
theorem dX0_slips_67 : decode cX0_slips 67 = .ok (.getfield 26, 3) := dk_180 0 26 (dk_at dksX0_slips_2 20 rfl rfl)
theorem dX0_slips_70 : decode cX0_slips 70 = .ok (.aload_n 0, 1) := dk_42 (dk_at dksX0_slips_2 23 rfl rfl)
theorem dX0_slips_71 : decode cX0_slips 71 = .ok (.getfield 10, 3) := dk_180 0 10 (dk_at dksX0_slips_3 0 rfl rfl)
theorem dX0_slips_74 : decode cX0_slips 74 = .ok (.getfield 148, 3) := dk_180 0 148 (dk_at dksX0_slips_3 3 rfl rfl)
theorem dX0_slips_77 : decode cX0_slips 77 = .ok (.invokevirtual 180, 3) := dk_182 0 180 (dk_at dksX0_slips_3 6 rfl rfl)
theorem dX0_slips_80 : decode cX0_slips 80 = .ok (.iconst 0, 1) := dk_3 (dk_at dksX0_slips_3 9 rfl rfl)
theorem dX0_slips_81 : decode cX0_slips 81 = .ok (.istore 8, 2) := dk_54 8 (dk_at dksX0_slips_3 10 rfl rfl)
theorem dX0_slips_83 : decode cX0_slips 83 = .ok (.iload 8, 2) := dk_21 8 (dk_at dksX0_slips_3 12 rfl rfl)
theorem dX0_slips_85 : decode cX0_slips 85 = .ok (.iload_n 3, 1) := dk_29 (dk_at dksX0_slips_3 14 rfl rfl)
theorem dX0_slips_86 : decode cX0_slips 86 = .ok (.if_icmp .gt 116, 3) := dk_163 0 116 (dk_at dksX0_slips_3 15 rfl rfl)
theorem dX0_slips_89 : decode cX0_slips 89 = .ok (.iload 8, 2) := dk_21 8 (dk_at dksX0_slips_3 18 rfl rfl)
theorem dX0_slips_91 : decode cX0_slips 91 = .ok (.iload_n 3, 1) := dk_29 (dk_at dksX0_slips_3 20 rfl rfl)
theorem dX0_slips_92 : decode cX0_slips 92 = .ok (.iconst (-1), 1) := dk_2 (dk_at dksX0_slips_3 21 rfl rfl)
theorem dX0_slips_93 : decode cX0_slips 93 = .ok (.ixor, 1) := dk_130 (dk_at dksX0_slips_3 22 rfl rfl)
theorem dX0_slips_94 : decode cX0_slips 94 = .ok (.iand, 1) := dk_126 (dk_at dksX0_slips_3 23 rfl rfl)
theorem dX0_slips_95 : decode cX0_slips 95 = .ok (.ifCond .ne 101, 3) := dk_154 0 101 (dk_at dksX0_slips_4 0 rfl rfl)
theorem dX0_slips_98 : decode cX0_slips 98 = .ok (.aload_n 0, 1) := dk_42 (dk_at dksX0_slips_4 3 rfl rfl)
theorem dX0_slips_99 : decode cX0_slips 99 = .ok (.getfield 26, 3) := dk_180 0 26 (dk_at dksX0_slips_4 4 rfl rfl)
theorem dX0_slips_102 : decode cX0_slips 102 = .ok (.iload 8, 2) := dk_21 8 (dk_at dksX0_slips_4 7 rfl rfl)
theorem dX0_slips_104 : decode cX0_slips 104 = .ok (.putfield 173, 3) := dk_181 0 173 (dk_at dksX0_slips_4 9 rfl rfl)
theorem dX0_slips_107 : decode cX0_slips 107 = .ok (.lconst 1, 1) := dk_10 (dk_at dksX0_slips_4 12 rfl rfl)
theorem dX0_slips_108 : decode cX0_slips 108 = .ok (.lstore 9, 2) := dk_55 9 (dk_at dksX0_slips_4 13 rfl rfl)
theorem dX0_slips_110 : decode cX0_slips 110 = .ok (.iconst 0, 1) := dk_3 (dk_at dksX0_slips_4 15 rfl rfl)
theorem dX0_slips_111 : decode cX0_slips 111 = .ok (.istore 11, 2) := dk_54 11 (dk_at dksX0_slips_4 16 rfl rfl)
theorem dX0_slips_113 : decode cX0_slips 113 = .ok (.iload 11, 2) := dk_21 11 (dk_at dksX0_slips_4 18 rfl rfl)
theorem dX0_slips_115 : decode cX0_slips 115 = .ok (.aload_n 0, 1) := dk_42 (dk_at dksX0_slips_4 20 rfl rfl)
theorem dX0_slips_116 : decode cX0_slips 116 = .ok (.getfield 10, 3) := dk_180 0 10 (dk_at dksX0_slips_4 21 rfl rfl)
theorem dX0_slips_119 : decode cX0_slips 119 = .ok (.getfield 91, 3) := dk_180 0 91 (dk_at dksX0_slips_5 0 rfl rfl)
theorem dX0_slips_122 : decode cX0_slips 122 = .ok (.if_icmp .ge 48, 3) := dk_162 0 48 (dk_at dksX0_slips_5 3 rfl rfl)
theorem dX0_slips_125 : decode cX0_slips 125 = .ok (.lload 9, 2) := dk_22 9 (dk_at dksX0_slips_5 6 rfl rfl)
theorem dX0_slips_127 : decode cX0_slips 127 = .ok (.iload_n 3, 1) := dk_29 (dk_at dksX0_slips_5 8 rfl rfl)
theorem dX0_slips_128 : decode cX0_slips 128 = .ok (.iload 11, 2) := dk_21 11 (dk_at dksX0_slips_5 9 rfl rfl)
theorem dX0_slips_130 : decode cX0_slips 130 = .ok (.ishr, 1) := dk_122 (dk_at dksX0_slips_5 11 rfl rfl)
theorem dX0_slips_131 : decode cX0_slips 131 = .ok (.iconst 1, 1) := dk_4 (dk_at dksX0_slips_5 12 rfl rfl)
theorem dX0_slips_132 : decode cX0_slips 132 = .ok (.iand, 1) := dk_126 (dk_at dksX0_slips_5 13 rfl rfl)
theorem dX0_slips_133 : decode cX0_slips 133 = .ok (.ifCond .ne 7, 3) := dk_154 0 7 (dk_at dksX0_slips_5 14 rfl rfl)
theorem dX0_slips_136 : decode cX0_slips 136 = .ok (.lconst 1, 1) := dk_10 (dk_at dksX0_slips_5 17 rfl rfl)
theorem dX0_slips_137 : decode cX0_slips 137 = .ok (.goto 24, 3) := dk_167 0 24 (dk_at dksX0_slips_5 18 rfl rfl)
theorem dX0_slips_140 : decode cX0_slips 140 = .ok (.iload 8, 2) := dk_21 8 (dk_at dksX0_slips_5 21 rfl rfl)
theorem dX0_slips_142 : decode cX0_slips 142 = .ok (.iload 11, 2) := dk_21 11 (dk_at dksX0_slips_6 0 rfl rfl)
theorem dX0_slips_144 : decode cX0_slips 144 = .ok (.ishr, 1) := dk_122 (dk_at dksX0_slips_6 2 rfl rfl)
theorem dX0_slips_145 : decode cX0_slips 145 = .ok (.iconst 1, 1) := dk_4 (dk_at dksX0_slips_6 3 rfl rfl)
theorem dX0_slips_146 : decode cX0_slips 146 = .ok (.iand, 1) := dk_126 (dk_at dksX0_slips_6 4 rfl rfl)
theorem dX0_slips_147 : decode cX0_slips 147 = .ok (.iconst 1, 1) := dk_4 (dk_at dksX0_slips_6 5 rfl rfl)
theorem dX0_slips_148 : decode cX0_slips 148 = .ok (.if_icmp .ne 11, 3) := dk_160 0 11 (dk_at dksX0_slips_6 6 rfl rfl)
theorem dX0_slips_151 : decode cX0_slips 151 = .ok (.bipush 10, 2) := dk_16 10 (dk_at dksX0_slips_6 9 rfl rfl)
theorem dX0_slips_153 : decode cX0_slips 153 = .ok (.iload_n 2, 1) := dk_28 (dk_at dksX0_slips_6 11 rfl rfl)
theorem dX0_slips_154 : decode cX0_slips 154 = .ok (.isub, 1) := dk_100 (dk_at dksX0_slips_6 12 rfl rfl)
theorem dX0_slips_155 : decode cX0_slips 155 = .ok (.i2l, 1) := dk_133 (dk_at dksX0_slips_6 13 rfl rfl)
theorem dX0_slips_156 : decode cX0_slips 156 = .ok (.goto 5, 3) := dk_167 0 5 (dk_at dksX0_slips_6 14 rfl rfl)
theorem dX0_slips_159 : decode cX0_slips 159 = .ok (.iload_n 2, 1) := dk_28 (dk_at dksX0_slips_6 17 rfl rfl)
theorem dX0_slips_160 : decode cX0_slips 160 = .ok (.i2l, 1) := dk_133 (dk_at dksX0_slips_6 18 rfl rfl)
theorem dX0_slips_161 : decode cX0_slips 161 = .ok (.lmul, 1) := dk_105 (dk_at dksX0_slips_6 19 rfl rfl)
theorem dX0_slips_162 : decode cX0_slips 162 = .ok (.lstore 9, 2) := dk_55 9 (dk_at dksX0_slips_6 20 rfl rfl)
theorem dX0_slips_164 : decode cX0_slips 164 = .ok (.iinc 11 1, 3) := dk_132 11 1 (dk_at dksX0_slips_7 0 rfl rfl)
theorem dX0_slips_167 : decode cX0_slips 167 = .ok (.goto (-54), 3) := dk_167 255 202 (dk_at dksX0_slips_7 3 rfl rfl)
theorem dX0_slips_170 : decode cX0_slips 170 = .ok (.lload 4, 2) := dk_22 4 (dk_at dksX0_slips_7 6 rfl rfl)
theorem dX0_slips_172 : decode cX0_slips 172 = .ok (.aload_n 0, 1) := dk_42 (dk_at dksX0_slips_7 8 rfl rfl)
theorem dX0_slips_173 : decode cX0_slips 173 = .ok (.getfield 10, 3) := dk_180 0 10 (dk_at dksX0_slips_7 9 rfl rfl)
theorem dX0_slips_176 : decode cX0_slips 176 = .ok (.aload_n 0, 1) := dk_42 (dk_at dksX0_slips_7 12 rfl rfl)
theorem dX0_slips_177 : decode cX0_slips 177 = .ok (.getfield 26, 3) := dk_180 0 26 (dk_at dksX0_slips_7 13 rfl rfl)
theorem dX0_slips_180 : decode cX0_slips 180 = .ok (.iload_n 1, 1) := dk_27 (dk_at dksX0_slips_7 16 rfl rfl)
theorem dX0_slips_181 : decode cX0_slips 181 = .ok (.invokevirtual 216, 3) := dk_182 0 216 (dk_at dksX0_slips_7 17 rfl rfl)
theorem dX0_slips_184 : decode cX0_slips 184 = .ok (.ifCond .le 8, 3) := dk_158 0 8 (dk_at dksX0_slips_7 20 rfl rfl)
theorem dX0_slips_187 : decode cX0_slips 187 = .ok (.lload 9, 2) := dk_22 9 (dk_at dksX0_slips_8 0 rfl rfl)
theorem dX0_slips_189 : decode cX0_slips 189 = .ok (.goto 4, 3) := dk_167 0 4 (dk_at dksX0_slips_8 2 rfl rfl)
theorem dX0_slips_192 : decode cX0_slips 192 = .ok (.lconst 0, 1) := dk_9 (dk_at dksX0_slips_8 5 rfl rfl)
theorem dX0_slips_193 : decode cX0_slips 193 = .ok (.ladd, 1) := dk_97 (dk_at dksX0_slips_8 6 rfl rfl)
theorem dX0_slips_194 : decode cX0_slips 194 = .ok (.lstore 4, 2) := dk_55 4 (dk_at dksX0_slips_8 7 rfl rfl)
theorem dX0_slips_196 : decode cX0_slips 196 = .ok (.iinc 8 1, 3) := dk_132 8 1 (dk_at dksX0_slips_8 9 rfl rfl)
theorem dX0_slips_199 : decode cX0_slips 199 = .ok (.goto (-116), 3) := dk_167 255 140 (dk_at dksX0_slips_8 12 rfl rfl)
theorem dX0_slips_202 : decode cX0_slips 202 = .ok (.lload 4, 2) := dk_22 4 (dk_at dksX0_slips_8 15 rfl rfl)
theorem dX0_slips_204 : decode cX0_slips 204 = .ok (.lload 6, 2) := dk_22 6 (dk_at dksX0_slips_8 17 rfl rfl)
theorem dX0_slips_206 : decode cX0_slips 206 = .ok (.invokestatic 310, 3) := dk_184 1 54 (dk_at dksX0_slips_8 19 rfl rfl)
theorem dX0_slips_209 : decode cX0_slips 209 = .ok (.lstore 8, 2) := dk_55 8 (dk_at dksX0_slips_8 22 rfl rfl)
theorem dX0_slips_211 : decode cX0_slips 211 = .ok (.aload_n 0, 1) := dk_42 (dk_at dksX0_slips_9 0 rfl rfl)
theorem dX0_slips_212 : decode cX0_slips 212 = .ok (.lload 4, 2) := dk_22 4 (dk_at dksX0_slips_9 1 rfl rfl)
theorem dX0_slips_214 : decode cX0_slips 214 = .ok (.lload 8, 2) := dk_22 8 (dk_at dksX0_slips_9 3 rfl rfl)
theorem dX0_slips_216 : decode cX0_slips 216 = .ok (.ldiv, 1) := dk_109 (dk_at dksX0_slips_9 5 rfl rfl)
theorem dX0_slips_217 : decode cX0_slips 217 = .ok (.putfield 314, 3) := dk_181 1 58 (dk_at dksX0_slips_9 6 rfl rfl)
theorem dX0_slips_220 : decode cX0_slips 220 = .ok (.aload_n 0, 1) := dk_42 (dk_at dksX0_slips_9 9 rfl rfl)
theorem dX0_slips_221 : decode cX0_slips 221 = .ok (.lload 6, 2) := dk_22 6 (dk_at dksX0_slips_9 10 rfl rfl)
theorem dX0_slips_223 : decode cX0_slips 223 = .ok (.lload 8, 2) := dk_22 8 (dk_at dksX0_slips_9 12 rfl rfl)
theorem dX0_slips_225 : decode cX0_slips 225 = .ok (.ldiv, 1) := dk_109 (dk_at dksX0_slips_9 14 rfl rfl)
theorem dX0_slips_226 : decode cX0_slips 226 = .ok (.putfield 38, 3) := dk_181 0 38 (dk_at dksX0_slips_9 15 rfl rfl)
theorem dX0_slips_229 : decode cX0_slips 229 = .ok (.iconst 1, 1) := dk_4 (dk_at dksX0_slips_9 18 rfl rfl)
theorem dX0_slips_230 : decode cX0_slips 230 = .ok (.ireturn, 1) := dk_172 (dk_at dksX0_slips_9 19 rfl rfl)
abbrev cX0_divisor : ByteArray := prog_1_method_56_code
def yX0_divisor : MethodName := ⟨RX0, "divisor", "(JJ)J"⟩
def dkwX0_divisor_1 : List UInt8 := [22, 8, 55, 6, 167, 255, 234, 22, 4, 173]
abbrev dktX0_divisor_1 : List UInt8 := dkwX0_divisor_1 ++ []
def dkwX0_divisor_0 : List UInt8 := [30, 55, 4, 32, 55, 6, 22, 6, 9, 148, 153, 0, 21, 22, 4, 22, 6, 113, 55, 8, 22, 6, 55, 4]
abbrev dktX0_divisor_0 : List UInt8 := dkwX0_divisor_0 ++ dktX0_divisor_1
theorem dksX0_divisor_0 : cX0_divisor.data.toList.drop 0 = dktX0_divisor_0 := by decide +kernel
theorem dksX0_divisor_1 : cX0_divisor.data.toList.drop 24 = dktX0_divisor_1 := dk_seg dksX0_divisor_0 24 rfl rfl
theorem dX0_divisor_0 : decode cX0_divisor 0 = .ok (.lload_n 0, 1) := dk_30 (dk_at dksX0_divisor_0 0 rfl rfl)
theorem dX0_divisor_1 : decode cX0_divisor 1 = .ok (.lstore 4, 2) := dk_55 4 (dk_at dksX0_divisor_0 1 rfl rfl)
theorem dX0_divisor_3 : decode cX0_divisor 3 = .ok (.lload_n 2, 1) := dk_32 (dk_at dksX0_divisor_0 3 rfl rfl)
theorem dX0_divisor_4 : decode cX0_divisor 4 = .ok (.lstore 6, 2) := dk_55 6 (dk_at dksX0_divisor_0 4 rfl rfl)
theorem dX0_divisor_6 : decode cX0_divisor 6 = .ok (.lload 6, 2) := dk_22 6 (dk_at dksX0_divisor_0 6 rfl rfl)
theorem dX0_divisor_8 : decode cX0_divisor 8 = .ok (.lconst 0, 1) := dk_9 (dk_at dksX0_divisor_0 8 rfl rfl)
theorem dX0_divisor_9 : decode cX0_divisor 9 = .ok (.lcmp, 1) := dk_148 (dk_at dksX0_divisor_0 9 rfl rfl)
theorem dX0_divisor_10 : decode cX0_divisor 10 = .ok (.ifCond .eq 21, 3) := dk_153 0 21 (dk_at dksX0_divisor_0 10 rfl rfl)
theorem dX0_divisor_13 : decode cX0_divisor 13 = .ok (.lload 4, 2) := dk_22 4 (dk_at dksX0_divisor_0 13 rfl rfl)
theorem dX0_divisor_15 : decode cX0_divisor 15 = .ok (.lload 6, 2) := dk_22 6 (dk_at dksX0_divisor_0 15 rfl rfl)
theorem dX0_divisor_17 : decode cX0_divisor 17 = .ok (.lrem, 1) := dk_113 (dk_at dksX0_divisor_0 17 rfl rfl)
theorem dX0_divisor_18 : decode cX0_divisor 18 = .ok (.lstore 8, 2) := dk_55 8 (dk_at dksX0_divisor_0 18 rfl rfl)
theorem dX0_divisor_20 : decode cX0_divisor 20 = .ok (.lload 6, 2) := dk_22 6 (dk_at dksX0_divisor_0 20 rfl rfl)
theorem dX0_divisor_22 : decode cX0_divisor 22 = .ok (.lstore 4, 2) := dk_55 4 (dk_at dksX0_divisor_0 22 rfl rfl)
theorem dX0_divisor_24 : decode cX0_divisor 24 = .ok (.lload 8, 2) := dk_22 8 (dk_at dksX0_divisor_1 0 rfl rfl)
theorem dX0_divisor_26 : decode cX0_divisor 26 = .ok (.lstore 6, 2) := dk_55 6 (dk_at dksX0_divisor_1 2 rfl rfl)
theorem dX0_divisor_28 : decode cX0_divisor 28 = .ok (.goto (-22), 3) := dk_167 255 234 (dk_at dksX0_divisor_1 4 rfl rfl)
theorem dX0_divisor_31 : decode cX0_divisor 31 = .ok (.lload 4, 2) := dk_22 4 (dk_at dksX0_divisor_1 7 rfl rfl)
theorem dX0_divisor_33 : decode cX0_divisor 33 = .ok (.lreturn, 1) := dk_173 (dk_at dksX0_divisor_1 9 rfl rfl)
abbrev cX0_reigns : ByteArray := prog_1_method_58_code
def yX0_reigns : MethodName := ⟨RX0, "reigns", "(II)I"⟩
def dkwX0_reigns_6 : List UInt8 := [182, 0, 216, 96, 54, 5, 132, 6, 1, 167, 255, 160, 21, 5, 172]
abbrev dktX0_reigns_6 : List UInt8 := dkwX0_reigns_6 ++ []
def dkwX0_reigns_5 : List UInt8 := [21, 5, 42, 180, 0, 10, 42, 180, 0, 26, 42, 180, 0, 10, 180, 0, 148, 180, 0, 151, 21, 6, 96]
abbrev dktX0_reigns_5 : List UInt8 := dkwX0_reigns_5 ++ dktX0_reigns_6
def dkwX0_reigns_4 : List UInt8 := [162, 0, 23, 42, 180, 0, 26, 180, 0, 164, 21, 7, 33, 20, 1, 73, 109, 20, 1, 52, 113, 136, 79]
abbrev dktX0_reigns_4 : List UInt8 := dkwX0_reigns_4 ++ dktX0_reigns_5
def dkwX0_reigns_3 : List UInt8 := [66, 33, 20, 1, 69, 109, 20, 1, 71, 113, 136, 54, 7, 21, 7, 42, 180, 0, 10, 180, 0, 87]
abbrev dktX0_reigns_3 : List UInt8 := dkwX0_reigns_3 ++ dktX0_reigns_4
def dkwX0_reigns_2 : List UInt8 := [54, 5, 3, 54, 6, 21, 6, 28, 162, 0, 96, 33, 20, 1, 63, 105, 20, 1, 65, 97, 20, 1, 67, 113]
abbrev dktX0_reigns_2 : List UInt8 := dkwX0_reigns_2 ++ dktX0_reigns_3
def dkwX0_reigns_1 : List UInt8 := [42, 182, 0, 98, 172, 42, 180, 0, 26, 42, 180, 0, 10, 180, 0, 148, 182, 0, 180, 27, 133, 66, 3]
abbrev dktX0_reigns_1 : List UInt8 := dkwX0_reigns_1 ++ dktX0_reigns_2
def dkwX0_reigns_0 : List UInt8 := [27, 133, 9, 20, 1, 61, 184, 0, 71, 153, 0, 15, 28, 133, 9, 20, 0, 220, 184, 0, 71, 154, 0, 8]
abbrev dktX0_reigns_0 : List UInt8 := dkwX0_reigns_0 ++ dktX0_reigns_1
theorem dksX0_reigns_0 : cX0_reigns.data.toList.drop 0 = dktX0_reigns_0 := by decide +kernel
theorem dksX0_reigns_1 : cX0_reigns.data.toList.drop 24 = dktX0_reigns_1 := dk_seg dksX0_reigns_0 24 rfl rfl
theorem dksX0_reigns_2 : cX0_reigns.data.toList.drop 47 = dktX0_reigns_2 := dk_seg dksX0_reigns_1 23 rfl rfl
theorem dksX0_reigns_3 : cX0_reigns.data.toList.drop 71 = dktX0_reigns_3 := dk_seg dksX0_reigns_2 24 rfl rfl
theorem dksX0_reigns_4 : cX0_reigns.data.toList.drop 93 = dktX0_reigns_4 := dk_seg dksX0_reigns_3 22 rfl rfl
theorem dksX0_reigns_5 : cX0_reigns.data.toList.drop 116 = dktX0_reigns_5 := dk_seg dksX0_reigns_4 23 rfl rfl
theorem dksX0_reigns_6 : cX0_reigns.data.toList.drop 139 = dktX0_reigns_6 := dk_seg dksX0_reigns_5 23 rfl rfl
theorem dX0_reigns_0 : decode cX0_reigns 0 = .ok (.iload_n 1, 1) := dk_27 (dk_at dksX0_reigns_0 0 rfl rfl)
theorem dX0_reigns_1 : decode cX0_reigns 1 = .ok (.i2l, 1) := dk_133 (dk_at dksX0_reigns_0 1 rfl rfl)
theorem dX0_reigns_2 : decode cX0_reigns 2 = .ok (.lconst 0, 1) := dk_9 (dk_at dksX0_reigns_0 2 rfl rfl)
theorem dX0_reigns_3 : decode cX0_reigns 3 = .ok (.ldc2_w 317, 3) := dk_20 1 61 (dk_at dksX0_reigns_0 3 rfl rfl)
theorem dX0_reigns_6 : decode cX0_reigns 6 = .ok (.invokestatic 71, 3) := dk_184 0 71 (dk_at dksX0_reigns_0 6 rfl rfl)
theorem dX0_reigns_9 : decode cX0_reigns 9 = .ok (.ifCond .eq 15, 3) := dk_153 0 15 (dk_at dksX0_reigns_0 9 rfl rfl)
theorem dX0_reigns_12 : decode cX0_reigns 12 = .ok (.iload_n 2, 1) := dk_28 (dk_at dksX0_reigns_0 12 rfl rfl)
theorem dX0_reigns_13 : decode cX0_reigns 13 = .ok (.i2l, 1) := dk_133 (dk_at dksX0_reigns_0 13 rfl rfl)
theorem dX0_reigns_14 : decode cX0_reigns 14 = .ok (.lconst 0, 1) := dk_9 (dk_at dksX0_reigns_0 14 rfl rfl)
theorem dX0_reigns_15 : decode cX0_reigns 15 = .ok (.ldc2_w 220, 3) := dk_20 0 220 (dk_at dksX0_reigns_0 15 rfl rfl)
theorem dX0_reigns_18 : decode cX0_reigns 18 = .ok (.invokestatic 71, 3) := dk_184 0 71 (dk_at dksX0_reigns_0 18 rfl rfl)
theorem dX0_reigns_21 : decode cX0_reigns 21 = .ok (.ifCond .ne 8, 3) := dk_154 0 8 (dk_at dksX0_reigns_0 21 rfl rfl)
theorem dX0_reigns_24 : decode cX0_reigns 24 = .ok (.aload_n 0, 1) := dk_42 (dk_at dksX0_reigns_1 0 rfl rfl)
theorem dX0_reigns_25 : decode cX0_reigns 25 = .ok (.invokevirtual 98, 3) := dk_182 0 98 (dk_at dksX0_reigns_1 1 rfl rfl)
theorem dX0_reigns_28 : decode cX0_reigns 28 = .ok (.ireturn, 1) := dk_172 (dk_at dksX0_reigns_1 4 rfl rfl)
theorem dX0_reigns_29 : decode cX0_reigns 29 = .ok (.aload_n 0, 1) := dk_42 (dk_at dksX0_reigns_1 5 rfl rfl)
theorem dX0_reigns_30 : decode cX0_reigns 30 = .ok (.getfield 26, 3) := dk_180 0 26 (dk_at dksX0_reigns_1 6 rfl rfl)
theorem dX0_reigns_33 : decode cX0_reigns 33 = .ok (.aload_n 0, 1) := dk_42 (dk_at dksX0_reigns_1 9 rfl rfl)
theorem dX0_reigns_34 : decode cX0_reigns 34 = .ok (.getfield 10, 3) := dk_180 0 10 (dk_at dksX0_reigns_1 10 rfl rfl)
theorem dX0_reigns_37 : decode cX0_reigns 37 = .ok (.getfield 148, 3) := dk_180 0 148 (dk_at dksX0_reigns_1 13 rfl rfl)
theorem dX0_reigns_40 : decode cX0_reigns 40 = .ok (.invokevirtual 180, 3) := dk_182 0 180 (dk_at dksX0_reigns_1 16 rfl rfl)
theorem dX0_reigns_43 : decode cX0_reigns 43 = .ok (.iload_n 1, 1) := dk_27 (dk_at dksX0_reigns_1 19 rfl rfl)
theorem dX0_reigns_44 : decode cX0_reigns 44 = .ok (.i2l, 1) := dk_133 (dk_at dksX0_reigns_1 20 rfl rfl)
theorem dX0_reigns_45 : decode cX0_reigns 45 = .ok (.lstore_n 3, 1) := dk_66 (dk_at dksX0_reigns_1 21 rfl rfl)
theorem dX0_reigns_46 : decode cX0_reigns 46 = .ok (.iconst 0, 1) := dk_3 (dk_at dksX0_reigns_1 22 rfl rfl)
theorem dX0_reigns_47 : decode cX0_reigns 47 = .ok (.istore 5, 2) := dk_54 5 (dk_at dksX0_reigns_2 0 rfl rfl)
theorem dX0_reigns_49 : decode cX0_reigns 49 = .ok (.iconst 0, 1) := dk_3 (dk_at dksX0_reigns_2 2 rfl rfl)
theorem dX0_reigns_50 : decode cX0_reigns 50 = .ok (.istore 6, 2) := dk_54 6 (dk_at dksX0_reigns_2 3 rfl rfl)
theorem dX0_reigns_52 : decode cX0_reigns 52 = .ok (.iload 6, 2) := dk_21 6 (dk_at dksX0_reigns_2 5 rfl rfl)
theorem dX0_reigns_54 : decode cX0_reigns 54 = .ok (.iload_n 2, 1) := dk_28 (dk_at dksX0_reigns_2 7 rfl rfl)
theorem dX0_reigns_55 : decode cX0_reigns 55 = .ok (.if_icmp .ge 96, 3) := dk_162 0 96 (dk_at dksX0_reigns_2 8 rfl rfl)
theorem dX0_reigns_58 : decode cX0_reigns 58 = .ok (.lload_n 3, 1) := dk_33 (dk_at dksX0_reigns_2 11 rfl rfl)
theorem dX0_reigns_59 : decode cX0_reigns 59 = .ok (.ldc2_w 319, 3) := dk_20 1 63 (dk_at dksX0_reigns_2 12 rfl rfl)
theorem dX0_reigns_62 : decode cX0_reigns 62 = .ok (.lmul, 1) := dk_105 (dk_at dksX0_reigns_2 15 rfl rfl)
theorem dX0_reigns_63 : decode cX0_reigns 63 = .ok (.ldc2_w 321, 3) := dk_20 1 65 (dk_at dksX0_reigns_2 16 rfl rfl)
theorem dX0_reigns_66 : decode cX0_reigns 66 = .ok (.ladd, 1) := dk_97 (dk_at dksX0_reigns_2 19 rfl rfl)
theorem dX0_reigns_67 : decode cX0_reigns 67 = .ok (.ldc2_w 323, 3) := dk_20 1 67 (dk_at dksX0_reigns_2 20 rfl rfl)
theorem dX0_reigns_70 : decode cX0_reigns 70 = .ok (.lrem, 1) := dk_113 (dk_at dksX0_reigns_2 23 rfl rfl)
theorem dX0_reigns_71 : decode cX0_reigns 71 = .ok (.lstore_n 3, 1) := dk_66 (dk_at dksX0_reigns_3 0 rfl rfl)
theorem dX0_reigns_72 : decode cX0_reigns 72 = .ok (.lload_n 3, 1) := dk_33 (dk_at dksX0_reigns_3 1 rfl rfl)
theorem dX0_reigns_73 : decode cX0_reigns 73 = .ok (.ldc2_w 325, 3) := dk_20 1 69 (dk_at dksX0_reigns_3 2 rfl rfl)
theorem dX0_reigns_76 : decode cX0_reigns 76 = .ok (.ldiv, 1) := dk_109 (dk_at dksX0_reigns_3 5 rfl rfl)
theorem dX0_reigns_77 : decode cX0_reigns 77 = .ok (.ldc2_w 327, 3) := dk_20 1 71 (dk_at dksX0_reigns_3 6 rfl rfl)
theorem dX0_reigns_80 : decode cX0_reigns 80 = .ok (.lrem, 1) := dk_113 (dk_at dksX0_reigns_3 9 rfl rfl)
theorem dX0_reigns_81 : decode cX0_reigns 81 = .ok (.l2i, 1) := dk_136 (dk_at dksX0_reigns_3 10 rfl rfl)
theorem dX0_reigns_82 : decode cX0_reigns 82 = .ok (.istore 7, 2) := dk_54 7 (dk_at dksX0_reigns_3 11 rfl rfl)
theorem dX0_reigns_84 : decode cX0_reigns 84 = .ok (.iload 7, 2) := dk_21 7 (dk_at dksX0_reigns_3 13 rfl rfl)
theorem dX0_reigns_86 : decode cX0_reigns 86 = .ok (.aload_n 0, 1) := dk_42 (dk_at dksX0_reigns_3 15 rfl rfl)
theorem dX0_reigns_87 : decode cX0_reigns 87 = .ok (.getfield 10, 3) := dk_180 0 10 (dk_at dksX0_reigns_3 16 rfl rfl)
theorem dX0_reigns_90 : decode cX0_reigns 90 = .ok (.getfield 87, 3) := dk_180 0 87 (dk_at dksX0_reigns_3 19 rfl rfl)
theorem dX0_reigns_93 : decode cX0_reigns 93 = .ok (.if_icmp .ge 23, 3) := dk_162 0 23 (dk_at dksX0_reigns_4 0 rfl rfl)
theorem dX0_reigns_96 : decode cX0_reigns 96 = .ok (.aload_n 0, 1) := dk_42 (dk_at dksX0_reigns_4 3 rfl rfl)
theorem dX0_reigns_97 : decode cX0_reigns 97 = .ok (.getfield 26, 3) := dk_180 0 26 (dk_at dksX0_reigns_4 4 rfl rfl)
theorem dX0_reigns_100 : decode cX0_reigns 100 = .ok (.getfield 164, 3) := dk_180 0 164 (dk_at dksX0_reigns_4 7 rfl rfl)
theorem dX0_reigns_103 : decode cX0_reigns 103 = .ok (.iload 7, 2) := dk_21 7 (dk_at dksX0_reigns_4 10 rfl rfl)
theorem dX0_reigns_105 : decode cX0_reigns 105 = .ok (.lload_n 3, 1) := dk_33 (dk_at dksX0_reigns_4 12 rfl rfl)
theorem dX0_reigns_106 : decode cX0_reigns 106 = .ok (.ldc2_w 329, 3) := dk_20 1 73 (dk_at dksX0_reigns_4 13 rfl rfl)
theorem dX0_reigns_109 : decode cX0_reigns 109 = .ok (.ldiv, 1) := dk_109 (dk_at dksX0_reigns_4 16 rfl rfl)
theorem dX0_reigns_110 : decode cX0_reigns 110 = .ok (.ldc2_w 308, 3) := dk_20 1 52 (dk_at dksX0_reigns_4 17 rfl rfl)
theorem dX0_reigns_113 : decode cX0_reigns 113 = .ok (.lrem, 1) := dk_113 (dk_at dksX0_reigns_4 20 rfl rfl)
theorem dX0_reigns_114 : decode cX0_reigns 114 = .ok (.l2i, 1) := dk_136 (dk_at dksX0_reigns_4 21 rfl rfl)
theorem dX0_reigns_115 : decode cX0_reigns 115 = .ok (.iastore, 1) := dk_79 (dk_at dksX0_reigns_4 22 rfl rfl)
theorem dX0_reigns_116 : decode cX0_reigns 116 = .ok (.iload 5, 2) := dk_21 5 (dk_at dksX0_reigns_5 0 rfl rfl)
theorem dX0_reigns_118 : decode cX0_reigns 118 = .ok (.aload_n 0, 1) := dk_42 (dk_at dksX0_reigns_5 2 rfl rfl)
theorem dX0_reigns_119 : decode cX0_reigns 119 = .ok (.getfield 10, 3) := dk_180 0 10 (dk_at dksX0_reigns_5 3 rfl rfl)
theorem dX0_reigns_122 : decode cX0_reigns 122 = .ok (.aload_n 0, 1) := dk_42 (dk_at dksX0_reigns_5 6 rfl rfl)
theorem dX0_reigns_123 : decode cX0_reigns 123 = .ok (.getfield 26, 3) := dk_180 0 26 (dk_at dksX0_reigns_5 7 rfl rfl)
theorem dX0_reigns_126 : decode cX0_reigns 126 = .ok (.aload_n 0, 1) := dk_42 (dk_at dksX0_reigns_5 10 rfl rfl)
theorem dX0_reigns_127 : decode cX0_reigns 127 = .ok (.getfield 10, 3) := dk_180 0 10 (dk_at dksX0_reigns_5 11 rfl rfl)
theorem dX0_reigns_130 : decode cX0_reigns 130 = .ok (.getfield 148, 3) := dk_180 0 148 (dk_at dksX0_reigns_5 14 rfl rfl)
theorem dX0_reigns_133 : decode cX0_reigns 133 = .ok (.getfield 151, 3) := dk_180 0 151 (dk_at dksX0_reigns_5 17 rfl rfl)
theorem dX0_reigns_136 : decode cX0_reigns 136 = .ok (.iload 6, 2) := dk_21 6 (dk_at dksX0_reigns_5 20 rfl rfl)
theorem dX0_reigns_138 : decode cX0_reigns 138 = .ok (.iadd, 1) := dk_96 (dk_at dksX0_reigns_5 22 rfl rfl)
theorem dX0_reigns_139 : decode cX0_reigns 139 = .ok (.invokevirtual 216, 3) := dk_182 0 216 (dk_at dksX0_reigns_6 0 rfl rfl)
theorem dX0_reigns_142 : decode cX0_reigns 142 = .ok (.iadd, 1) := dk_96 (dk_at dksX0_reigns_6 3 rfl rfl)
theorem dX0_reigns_143 : decode cX0_reigns 143 = .ok (.istore 5, 2) := dk_54 5 (dk_at dksX0_reigns_6 4 rfl rfl)
theorem dX0_reigns_145 : decode cX0_reigns 145 = .ok (.iinc 6 1, 3) := dk_132 6 1 (dk_at dksX0_reigns_6 6 rfl rfl)
theorem dX0_reigns_148 : decode cX0_reigns 148 = .ok (.goto (-96), 3) := dk_167 255 160 (dk_at dksX0_reigns_6 9 rfl rfl)
theorem dX0_reigns_151 : decode cX0_reigns 151 = .ok (.iload 5, 2) := dk_21 5 (dk_at dksX0_reigns_6 12 rfl rfl)
theorem dX0_reigns_153 : decode cX0_reigns 153 = .ok (.ireturn, 1) := dk_172 (dk_at dksX0_reigns_6 14 rfl rfl)
abbrev cX0_part : ByteArray := prog_1_method_59_code
def yX0_part : MethodName := ⟨RX0, "part", "(I)J"⟩
def dkwX0_part_1 : List UInt8 := [182, 0, 98, 133, 173]
abbrev dktX0_part_1 : List UInt8 := dkwX0_part_1 ++ []
def dkwX0_part_0 : List UInt8 := [27, 154, 0, 10, 42, 180, 1, 58, 167, 0, 20, 27, 4, 160, 0, 10, 42, 180, 0, 38, 167, 0, 8, 42]
abbrev dktX0_part_0 : List UInt8 := dkwX0_part_0 ++ dktX0_part_1
theorem dksX0_part_0 : cX0_part.data.toList.drop 0 = dktX0_part_0 := by decide +kernel
theorem dksX0_part_1 : cX0_part.data.toList.drop 24 = dktX0_part_1 := dk_seg dksX0_part_0 24 rfl rfl
theorem dX0_part_0 : decode cX0_part 0 = .ok (.iload_n 1, 1) := dk_27 (dk_at dksX0_part_0 0 rfl rfl)
theorem dX0_part_1 : decode cX0_part 1 = .ok (.ifCond .ne 10, 3) := dk_154 0 10 (dk_at dksX0_part_0 1 rfl rfl)
theorem dX0_part_4 : decode cX0_part 4 = .ok (.aload_n 0, 1) := dk_42 (dk_at dksX0_part_0 4 rfl rfl)
theorem dX0_part_5 : decode cX0_part 5 = .ok (.getfield 314, 3) := dk_180 1 58 (dk_at dksX0_part_0 5 rfl rfl)
theorem dX0_part_8 : decode cX0_part 8 = .ok (.goto 20, 3) := dk_167 0 20 (dk_at dksX0_part_0 8 rfl rfl)
theorem dX0_part_11 : decode cX0_part 11 = .ok (.iload_n 1, 1) := dk_27 (dk_at dksX0_part_0 11 rfl rfl)
theorem dX0_part_12 : decode cX0_part 12 = .ok (.iconst 1, 1) := dk_4 (dk_at dksX0_part_0 12 rfl rfl)
theorem dX0_part_13 : decode cX0_part 13 = .ok (.if_icmp .ne 10, 3) := dk_160 0 10 (dk_at dksX0_part_0 13 rfl rfl)
theorem dX0_part_16 : decode cX0_part 16 = .ok (.aload_n 0, 1) := dk_42 (dk_at dksX0_part_0 16 rfl rfl)
theorem dX0_part_17 : decode cX0_part 17 = .ok (.getfield 38, 3) := dk_180 0 38 (dk_at dksX0_part_0 17 rfl rfl)
theorem dX0_part_20 : decode cX0_part 20 = .ok (.goto 8, 3) := dk_167 0 8 (dk_at dksX0_part_0 20 rfl rfl)
theorem dX0_part_23 : decode cX0_part 23 = .ok (.aload_n 0, 1) := dk_42 (dk_at dksX0_part_0 23 rfl rfl)
theorem dX0_part_24 : decode cX0_part 24 = .ok (.invokevirtual 98, 3) := dk_182 0 98 (dk_at dksX0_part_1 0 rfl rfl)
theorem dX0_part_27 : decode cX0_part 27 = .ok (.i2l, 1) := dk_133 (dk_at dksX0_part_1 3 rfl rfl)
theorem dX0_part_28 : decode cX0_part 28 = .ok (.lreturn, 1) := dk_173 (dk_at dksX0_part_1 4 rfl rfl)
abbrev cX0_image : ByteArray := prog_1_method_60_code
def yX0_image : MethodName := ⟨RX0, "image", "(I)I"⟩
def dkwX0_image_2 : List UInt8 := [182, 0, 136, 4, 172]
abbrev dktX0_image_2 : List UInt8 := dkwX0_image_2 ++ []
def dkwX0_image_1 : List UInt8 := [42, 180, 0, 19, 27, 187, 0, 7, 89, 183, 0, 9, 83, 42, 180, 0, 19, 27, 50, 42, 180, 0, 10]
abbrev dktX0_image_1 : List UInt8 := dkwX0_image_1 ++ dktX0_image_2
def dkwX0_image_0 : List UInt8 := [27, 133, 9, 10, 184, 0, 71, 154, 0, 8, 42, 182, 0, 98, 172, 42, 180, 0, 19, 27, 50, 199, 0, 16]
abbrev dktX0_image_0 : List UInt8 := dkwX0_image_0 ++ dktX0_image_1
theorem dksX0_image_0 : cX0_image.data.toList.drop 0 = dktX0_image_0 := by decide +kernel
theorem dksX0_image_1 : cX0_image.data.toList.drop 24 = dktX0_image_1 := dk_seg dksX0_image_0 24 rfl rfl
theorem dksX0_image_2 : cX0_image.data.toList.drop 47 = dktX0_image_2 := dk_seg dksX0_image_1 23 rfl rfl
theorem dX0_image_0 : decode cX0_image 0 = .ok (.iload_n 1, 1) := dk_27 (dk_at dksX0_image_0 0 rfl rfl)
theorem dX0_image_1 : decode cX0_image 1 = .ok (.i2l, 1) := dk_133 (dk_at dksX0_image_0 1 rfl rfl)
theorem dX0_image_2 : decode cX0_image 2 = .ok (.lconst 0, 1) := dk_9 (dk_at dksX0_image_0 2 rfl rfl)
theorem dX0_image_3 : decode cX0_image 3 = .ok (.lconst 1, 1) := dk_10 (dk_at dksX0_image_0 3 rfl rfl)
theorem dX0_image_4 : decode cX0_image 4 = .ok (.invokestatic 71, 3) := dk_184 0 71 (dk_at dksX0_image_0 4 rfl rfl)
theorem dX0_image_7 : decode cX0_image 7 = .ok (.ifCond .ne 8, 3) := dk_154 0 8 (dk_at dksX0_image_0 7 rfl rfl)
theorem dX0_image_10 : decode cX0_image 10 = .ok (.aload_n 0, 1) := dk_42 (dk_at dksX0_image_0 10 rfl rfl)
theorem dX0_image_11 : decode cX0_image 11 = .ok (.invokevirtual 98, 3) := dk_182 0 98 (dk_at dksX0_image_0 11 rfl rfl)
theorem dX0_image_14 : decode cX0_image 14 = .ok (.ireturn, 1) := dk_172 (dk_at dksX0_image_0 14 rfl rfl)
theorem dX0_image_15 : decode cX0_image 15 = .ok (.aload_n 0, 1) := dk_42 (dk_at dksX0_image_0 15 rfl rfl)
theorem dX0_image_16 : decode cX0_image 16 = .ok (.getfield 19, 3) := dk_180 0 19 (dk_at dksX0_image_0 16 rfl rfl)
theorem dX0_image_19 : decode cX0_image 19 = .ok (.iload_n 1, 1) := dk_27 (dk_at dksX0_image_0 19 rfl rfl)
theorem dX0_image_20 : decode cX0_image 20 = .ok (.aaload, 1) := dk_50 (dk_at dksX0_image_0 20 rfl rfl)
theorem dX0_image_21 : decode cX0_image 21 = .ok (.ifnonnull 16, 3) := dk_199 0 16 (dk_at dksX0_image_0 21 rfl rfl)
theorem dX0_image_24 : decode cX0_image 24 = .ok (.aload_n 0, 1) := dk_42 (dk_at dksX0_image_1 0 rfl rfl)
theorem dX0_image_25 : decode cX0_image 25 = .ok (.getfield 19, 3) := dk_180 0 19 (dk_at dksX0_image_1 1 rfl rfl)
theorem dX0_image_28 : decode cX0_image 28 = .ok (.iload_n 1, 1) := dk_27 (dk_at dksX0_image_1 4 rfl rfl)
theorem dX0_image_29 : decode cX0_image 29 = .ok (.new 7, 3) := dk_187 0 7 (dk_at dksX0_image_1 5 rfl rfl)
theorem dX0_image_32 : decode cX0_image 32 = .ok (.dup, 1) := dk_89 (dk_at dksX0_image_1 8 rfl rfl)
theorem dX0_image_33 : decode cX0_image 33 = .ok (.invokespecial 9, 3) := dk_183 0 9 (dk_at dksX0_image_1 9 rfl rfl)
theorem dX0_image_36 : decode cX0_image 36 = .ok (.aastore, 1) := dk_83 (dk_at dksX0_image_1 12 rfl rfl)
theorem dX0_image_37 : decode cX0_image 37 = .ok (.aload_n 0, 1) := dk_42 (dk_at dksX0_image_1 13 rfl rfl)
theorem dX0_image_38 : decode cX0_image 38 = .ok (.getfield 19, 3) := dk_180 0 19 (dk_at dksX0_image_1 14 rfl rfl)
theorem dX0_image_41 : decode cX0_image 41 = .ok (.iload_n 1, 1) := dk_27 (dk_at dksX0_image_1 17 rfl rfl)
theorem dX0_image_42 : decode cX0_image 42 = .ok (.aaload, 1) := dk_50 (dk_at dksX0_image_1 18 rfl rfl)
theorem dX0_image_43 : decode cX0_image 43 = .ok (.aload_n 0, 1) := dk_42 (dk_at dksX0_image_1 19 rfl rfl)
theorem dX0_image_44 : decode cX0_image 44 = .ok (.getfield 10, 3) := dk_180 0 10 (dk_at dksX0_image_1 20 rfl rfl)
theorem dX0_image_47 : decode cX0_image 47 = .ok (.invokevirtual 136, 3) := dk_182 0 136 (dk_at dksX0_image_2 0 rfl rfl)
theorem dX0_image_50 : decode cX0_image 50 = .ok (.iconst 1, 1) := dk_4 (dk_at dksX0_image_2 3 rfl rfl)
theorem dX0_image_51 : decode cX0_image 51 = .ok (.ireturn, 1) := dk_172 (dk_at dksX0_image_2 4 rfl rfl)
abbrev cX0_from : ByteArray := prog_1_method_61_code
def yX0_from : MethodName := ⟨RX0, "from", "(I)I"⟩
def dkwX0_from_1 : List UInt8 := [42, 182, 0, 167, 172, 42, 180, 0, 10, 42, 180, 0, 19, 27, 50, 182, 0, 136, 4, 172]
abbrev dktX0_from_1 : List UInt8 := dkwX0_from_1 ++ []
def dkwX0_from_0 : List UInt8 := [27, 133, 9, 10, 184, 0, 71, 154, 0, 8, 42, 182, 0, 98, 172, 42, 180, 0, 19, 27, 50, 199, 0, 8]
abbrev dktX0_from_0 : List UInt8 := dkwX0_from_0 ++ dktX0_from_1
theorem dksX0_from_0 : cX0_from.data.toList.drop 0 = dktX0_from_0 := by decide +kernel
theorem dksX0_from_1 : cX0_from.data.toList.drop 24 = dktX0_from_1 := dk_seg dksX0_from_0 24 rfl rfl
theorem dX0_from_0 : decode cX0_from 0 = .ok (.iload_n 1, 1) := dk_27 (dk_at dksX0_from_0 0 rfl rfl)
theorem dX0_from_1 : decode cX0_from 1 = .ok (.i2l, 1) := dk_133 (dk_at dksX0_from_0 1 rfl rfl)
theorem dX0_from_2 : decode cX0_from 2 = .ok (.lconst 0, 1) := dk_9 (dk_at dksX0_from_0 2 rfl rfl)
theorem dX0_from_3 : decode cX0_from 3 = .ok (.lconst 1, 1) := dk_10 (dk_at dksX0_from_0 3 rfl rfl)
theorem dX0_from_4 : decode cX0_from 4 = .ok (.invokestatic 71, 3) := dk_184 0 71 (dk_at dksX0_from_0 4 rfl rfl)
theorem dX0_from_7 : decode cX0_from 7 = .ok (.ifCond .ne 8, 3) := dk_154 0 8 (dk_at dksX0_from_0 7 rfl rfl)
theorem dX0_from_10 : decode cX0_from 10 = .ok (.aload_n 0, 1) := dk_42 (dk_at dksX0_from_0 10 rfl rfl)
theorem dX0_from_11 : decode cX0_from 11 = .ok (.invokevirtual 98, 3) := dk_182 0 98 (dk_at dksX0_from_0 11 rfl rfl)
theorem dX0_from_14 : decode cX0_from 14 = .ok (.ireturn, 1) := dk_172 (dk_at dksX0_from_0 14 rfl rfl)
theorem dX0_from_15 : decode cX0_from 15 = .ok (.aload_n 0, 1) := dk_42 (dk_at dksX0_from_0 15 rfl rfl)
theorem dX0_from_16 : decode cX0_from 16 = .ok (.getfield 19, 3) := dk_180 0 19 (dk_at dksX0_from_0 16 rfl rfl)
theorem dX0_from_19 : decode cX0_from 19 = .ok (.iload_n 1, 1) := dk_27 (dk_at dksX0_from_0 19 rfl rfl)
theorem dX0_from_20 : decode cX0_from 20 = .ok (.aaload, 1) := dk_50 (dk_at dksX0_from_0 20 rfl rfl)
theorem dX0_from_21 : decode cX0_from 21 = .ok (.ifnonnull 8, 3) := dk_199 0 8 (dk_at dksX0_from_0 21 rfl rfl)
theorem dX0_from_24 : decode cX0_from 24 = .ok (.aload_n 0, 1) := dk_42 (dk_at dksX0_from_1 0 rfl rfl)
theorem dX0_from_25 : decode cX0_from 25 = .ok (.invokevirtual 167, 3) := dk_182 0 167 (dk_at dksX0_from_1 1 rfl rfl)
theorem dX0_from_28 : decode cX0_from 28 = .ok (.ireturn, 1) := dk_172 (dk_at dksX0_from_1 4 rfl rfl)
theorem dX0_from_29 : decode cX0_from 29 = .ok (.aload_n 0, 1) := dk_42 (dk_at dksX0_from_1 5 rfl rfl)
theorem dX0_from_30 : decode cX0_from 30 = .ok (.getfield 10, 3) := dk_180 0 10 (dk_at dksX0_from_1 6 rfl rfl)
theorem dX0_from_33 : decode cX0_from 33 = .ok (.aload_n 0, 1) := dk_42 (dk_at dksX0_from_1 9 rfl rfl)
theorem dX0_from_34 : decode cX0_from 34 = .ok (.getfield 19, 3) := dk_180 0 19 (dk_at dksX0_from_1 10 rfl rfl)
theorem dX0_from_37 : decode cX0_from 37 = .ok (.iload_n 1, 1) := dk_27 (dk_at dksX0_from_1 13 rfl rfl)
theorem dX0_from_38 : decode cX0_from 38 = .ok (.aaload, 1) := dk_50 (dk_at dksX0_from_1 14 rfl rfl)
theorem dX0_from_39 : decode cX0_from 39 = .ok (.invokevirtual 136, 3) := dk_182 0 136 (dk_at dksX0_from_1 15 rfl rfl)
theorem dX0_from_42 : decode cX0_from 42 = .ok (.iconst 1, 1) := dk_4 (dk_at dksX0_from_1 18 rfl rfl)
theorem dX0_from_43 : decode cX0_from 43 = .ok (.ireturn, 1) := dk_172 (dk_at dksX0_from_1 19 rfl rfl)
abbrev cX0_status : ByteArray := prog_1_method_62_code
def yX0_status : MethodName := ⟨RX0, "status", "(I)I"⟩
def dkwX0_status_1 : List UInt8 := [182, 0, 65, 172]
abbrev dktX0_status_1 : List UInt8 := dkwX0_status_1 ++ []
def dkwX0_status_0 : List UInt8 := [27, 133, 9, 20, 0, 182, 184, 0, 71, 153, 0, 12, 42, 180, 0, 34, 27, 46, 167, 0, 9, 42, 3, 2]
abbrev dktX0_status_0 : List UInt8 := dkwX0_status_0 ++ dktX0_status_1
theorem dksX0_status_0 : cX0_status.data.toList.drop 0 = dktX0_status_0 := by decide +kernel
theorem dksX0_status_1 : cX0_status.data.toList.drop 24 = dktX0_status_1 := dk_seg dksX0_status_0 24 rfl rfl
theorem dX0_status_0 : decode cX0_status 0 = .ok (.iload_n 1, 1) := dk_27 (dk_at dksX0_status_0 0 rfl rfl)
theorem dX0_status_1 : decode cX0_status 1 = .ok (.i2l, 1) := dk_133 (dk_at dksX0_status_0 1 rfl rfl)
theorem dX0_status_2 : decode cX0_status 2 = .ok (.lconst 0, 1) := dk_9 (dk_at dksX0_status_0 2 rfl rfl)
theorem dX0_status_3 : decode cX0_status 3 = .ok (.ldc2_w 182, 3) := dk_20 0 182 (dk_at dksX0_status_0 3 rfl rfl)
theorem dX0_status_6 : decode cX0_status 6 = .ok (.invokestatic 71, 3) := dk_184 0 71 (dk_at dksX0_status_0 6 rfl rfl)
theorem dX0_status_9 : decode cX0_status 9 = .ok (.ifCond .eq 12, 3) := dk_153 0 12 (dk_at dksX0_status_0 9 rfl rfl)
theorem dX0_status_12 : decode cX0_status 12 = .ok (.aload_n 0, 1) := dk_42 (dk_at dksX0_status_0 12 rfl rfl)
theorem dX0_status_13 : decode cX0_status 13 = .ok (.getfield 34, 3) := dk_180 0 34 (dk_at dksX0_status_0 13 rfl rfl)
theorem dX0_status_16 : decode cX0_status 16 = .ok (.iload_n 1, 1) := dk_27 (dk_at dksX0_status_0 16 rfl rfl)
theorem dX0_status_17 : decode cX0_status 17 = .ok (.iaload, 1) := dk_46 (dk_at dksX0_status_0 17 rfl rfl)
theorem dX0_status_18 : decode cX0_status 18 = .ok (.goto 9, 3) := dk_167 0 9 (dk_at dksX0_status_0 18 rfl rfl)
theorem dX0_status_21 : decode cX0_status 21 = .ok (.aload_n 0, 1) := dk_42 (dk_at dksX0_status_0 21 rfl rfl)
theorem dX0_status_22 : decode cX0_status 22 = .ok (.iconst 0, 1) := dk_3 (dk_at dksX0_status_0 22 rfl rfl)
theorem dX0_status_23 : decode cX0_status 23 = .ok (.iconst (-1), 1) := dk_2 (dk_at dksX0_status_0 23 rfl rfl)
theorem dX0_status_24 : decode cX0_status 24 = .ok (.invokevirtual 65, 3) := dk_182 0 65 (dk_at dksX0_status_1 0 rfl rfl)
theorem dX0_status_27 : decode cX0_status 27 = .ok (.ireturn, 1) := dk_172 (dk_at dksX0_status_1 3 rfl rfl)
abbrev cX0_count : ByteArray := prog_1_method_64_code
def yX0_count : MethodName := ⟨RX0, "count", "(I)I"⟩
def dkwX0_count_1 : List UInt8 := [172]
abbrev dktX0_count_1 : List UInt8 := dkwX0_count_1 ++ []
def dkwX0_count_0 : List UInt8 := [27, 133, 9, 20, 1, 52, 184, 0, 71, 153, 0, 11, 42, 27, 182, 1, 75, 167, 0, 7, 42, 182, 0, 98]
abbrev dktX0_count_0 : List UInt8 := dkwX0_count_0 ++ dktX0_count_1
theorem dksX0_count_0 : cX0_count.data.toList.drop 0 = dktX0_count_0 := by decide +kernel
theorem dksX0_count_1 : cX0_count.data.toList.drop 24 = dktX0_count_1 := dk_seg dksX0_count_0 24 rfl rfl
theorem dX0_count_0 : decode cX0_count 0 = .ok (.iload_n 1, 1) := dk_27 (dk_at dksX0_count_0 0 rfl rfl)
theorem dX0_count_1 : decode cX0_count 1 = .ok (.i2l, 1) := dk_133 (dk_at dksX0_count_0 1 rfl rfl)
theorem dX0_count_2 : decode cX0_count 2 = .ok (.lconst 0, 1) := dk_9 (dk_at dksX0_count_0 2 rfl rfl)
theorem dX0_count_3 : decode cX0_count 3 = .ok (.ldc2_w 308, 3) := dk_20 1 52 (dk_at dksX0_count_0 3 rfl rfl)
theorem dX0_count_6 : decode cX0_count 6 = .ok (.invokestatic 71, 3) := dk_184 0 71 (dk_at dksX0_count_0 6 rfl rfl)
theorem dX0_count_9 : decode cX0_count 9 = .ok (.ifCond .eq 11, 3) := dk_153 0 11 (dk_at dksX0_count_0 9 rfl rfl)
theorem dX0_count_12 : decode cX0_count 12 = .ok (.aload_n 0, 1) := dk_42 (dk_at dksX0_count_0 12 rfl rfl)
theorem dX0_count_13 : decode cX0_count 13 = .ok (.iload_n 1, 1) := dk_27 (dk_at dksX0_count_0 13 rfl rfl)
theorem dX0_count_14 : decode cX0_count 14 = .ok (.invokevirtual 331, 3) := dk_182 1 75 (dk_at dksX0_count_0 14 rfl rfl)
theorem dX0_count_17 : decode cX0_count 17 = .ok (.goto 7, 3) := dk_167 0 7 (dk_at dksX0_count_0 17 rfl rfl)
theorem dX0_count_20 : decode cX0_count 20 = .ok (.aload_n 0, 1) := dk_42 (dk_at dksX0_count_0 20 rfl rfl)
theorem dX0_count_21 : decode cX0_count 21 = .ok (.invokevirtual 98, 3) := dk_182 0 98 (dk_at dksX0_count_0 21 rfl rfl)
theorem dX0_count_24 : decode cX0_count 24 = .ok (.ireturn, 1) := dk_172 (dk_at dksX0_count_1 0 rfl rfl)
abbrev cX0_countOf : ByteArray := prog_1_method_63_code
def yX0_countOf : MethodName := ⟨RX0, "countOf", "(I)I"⟩
def dkwX0_countOf_6 : List UInt8 := [180, 0, 130, 172]
abbrev dktX0_countOf_6 : List UInt8 := dkwX0_countOf_6 ++ []
def dkwX0_countOf_5 : List UInt8 := [180, 0, 10, 180, 1, 17, 172, 42, 180, 0, 10, 180, 1, 23, 172, 42, 180, 0, 10, 180, 0, 105, 172, 42]
abbrev dktX0_countOf_5 : List UInt8 := dkwX0_countOf_5 ++ dktX0_countOf_6
def dkwX0_countOf_4 : List UInt8 := [180, 0, 148, 180, 0, 158, 172, 42, 180, 0, 10, 180, 0, 102, 172, 42, 180, 0, 10, 180, 0, 248, 172, 42]
abbrev dktX0_countOf_4 : List UInt8 := dkwX0_countOf_4 ++ dktX0_countOf_5
def dkwX0_countOf_3 : List UInt8 := [180, 0, 173, 184, 0, 226, 172, 42, 180, 0, 10, 180, 0, 148, 180, 0, 151, 172, 42, 180, 0, 10]
abbrev dktX0_countOf_3 : List UInt8 := dkwX0_countOf_3 ++ dktX0_countOf_4
def dkwX0_countOf_2 : List UInt8 := [42, 180, 0, 10, 180, 0, 87, 172, 42, 180, 0, 10, 180, 0, 91, 172, 42, 180, 0, 10, 180, 0, 148]
abbrev dktX0_countOf_2 : List UInt8 := dkwX0_countOf_2 ++ dktX0_countOf_3
def dkwX0_countOf_1 : List UInt8 := [170, 0, 0, 0, 0, 0, 147, 0, 0, 0, 0, 0, 0, 0, 9, 0, 0, 0, 55, 0, 0, 0, 63, 0, 0, 0, 71, 0, 0, 0, 85, 0, 0, 0, 96, 0, 0, 0, 107, 0, 0, 0, 115, 0, 0, 0, 123, 0, 0, 0, 131, 0, 0, 0, 139]
abbrev dktX0_countOf_1 : List UInt8 := dkwX0_countOf_1 ++ dktX0_countOf_2
def dkwX0_countOf_0 : List UInt8 := [27]
abbrev dktX0_countOf_0 : List UInt8 := dkwX0_countOf_0 ++ dktX0_countOf_1
theorem dksX0_countOf_0 : cX0_countOf.data.toList.drop 0 = dktX0_countOf_0 := by decide +kernel
theorem dksX0_countOf_1 : cX0_countOf.data.toList.drop 1 = dktX0_countOf_1 := dk_seg dksX0_countOf_0 1 rfl rfl
theorem dksX0_countOf_2 : cX0_countOf.data.toList.drop 56 = dktX0_countOf_2 := dk_seg dksX0_countOf_1 55 rfl rfl
theorem dksX0_countOf_3 : cX0_countOf.data.toList.drop 79 = dktX0_countOf_3 := dk_seg dksX0_countOf_2 23 rfl rfl
theorem dksX0_countOf_4 : cX0_countOf.data.toList.drop 101 = dktX0_countOf_4 := dk_seg dksX0_countOf_3 22 rfl rfl
theorem dksX0_countOf_5 : cX0_countOf.data.toList.drop 125 = dktX0_countOf_5 := dk_seg dksX0_countOf_4 24 rfl rfl
theorem dksX0_countOf_6 : cX0_countOf.data.toList.drop 149 = dktX0_countOf_6 := dk_seg dksX0_countOf_5 24 rfl rfl
theorem dX0_countOf_0 : decode cX0_countOf 0 = .ok (.iload_n 1, 1) := dk_27 (dk_at dksX0_countOf_0 0 rfl rfl)
theorem dX0_countOf_1 : decode cX0_countOf 1 = .ok (.tableswitch 147 0 9 #[55, 63, 71, 85, 96, 107, 115, 123, 131, 139], 55) := by decide +kernel
theorem dX0_countOf_56 : decode cX0_countOf 56 = .ok (.aload_n 0, 1) := dk_42 (dk_at dksX0_countOf_2 0 rfl rfl)
theorem dX0_countOf_57 : decode cX0_countOf 57 = .ok (.getfield 10, 3) := dk_180 0 10 (dk_at dksX0_countOf_2 1 rfl rfl)
theorem dX0_countOf_60 : decode cX0_countOf 60 = .ok (.getfield 87, 3) := dk_180 0 87 (dk_at dksX0_countOf_2 4 rfl rfl)
theorem dX0_countOf_63 : decode cX0_countOf 63 = .ok (.ireturn, 1) := dk_172 (dk_at dksX0_countOf_2 7 rfl rfl)
theorem dX0_countOf_64 : decode cX0_countOf 64 = .ok (.aload_n 0, 1) := dk_42 (dk_at dksX0_countOf_2 8 rfl rfl)
theorem dX0_countOf_65 : decode cX0_countOf 65 = .ok (.getfield 10, 3) := dk_180 0 10 (dk_at dksX0_countOf_2 9 rfl rfl)
theorem dX0_countOf_68 : decode cX0_countOf 68 = .ok (.getfield 91, 3) := dk_180 0 91 (dk_at dksX0_countOf_2 12 rfl rfl)
theorem dX0_countOf_71 : decode cX0_countOf 71 = .ok (.ireturn, 1) := dk_172 (dk_at dksX0_countOf_2 15 rfl rfl)
theorem dX0_countOf_72 : decode cX0_countOf 72 = .ok (.aload_n 0, 1) := dk_42 (dk_at dksX0_countOf_2 16 rfl rfl)
theorem dX0_countOf_73 : decode cX0_countOf 73 = .ok (.getfield 10, 3) := dk_180 0 10 (dk_at dksX0_countOf_2 17 rfl rfl)
theorem dX0_countOf_76 : decode cX0_countOf 76 = .ok (.getfield 148, 3) := dk_180 0 148 (dk_at dksX0_countOf_2 20 rfl rfl)
theorem dX0_countOf_79 : decode cX0_countOf 79 = .ok (.getfield 173, 3) := dk_180 0 173 (dk_at dksX0_countOf_3 0 rfl rfl)
theorem dX0_countOf_82 : decode cX0_countOf 82 = .ok (.invokestatic 226, 3) := dk_184 0 226 (dk_at dksX0_countOf_3 3 rfl rfl)
theorem dX0_countOf_85 : decode cX0_countOf 85 = .ok (.ireturn, 1) := dk_172 (dk_at dksX0_countOf_3 6 rfl rfl)
theorem dX0_countOf_86 : decode cX0_countOf 86 = .ok (.aload_n 0, 1) := dk_42 (dk_at dksX0_countOf_3 7 rfl rfl)
theorem dX0_countOf_87 : decode cX0_countOf 87 = .ok (.getfield 10, 3) := dk_180 0 10 (dk_at dksX0_countOf_3 8 rfl rfl)
theorem dX0_countOf_90 : decode cX0_countOf 90 = .ok (.getfield 148, 3) := dk_180 0 148 (dk_at dksX0_countOf_3 11 rfl rfl)
theorem dX0_countOf_93 : decode cX0_countOf 93 = .ok (.getfield 151, 3) := dk_180 0 151 (dk_at dksX0_countOf_3 14 rfl rfl)
theorem dX0_countOf_96 : decode cX0_countOf 96 = .ok (.ireturn, 1) := dk_172 (dk_at dksX0_countOf_3 17 rfl rfl)
theorem dX0_countOf_97 : decode cX0_countOf 97 = .ok (.aload_n 0, 1) := dk_42 (dk_at dksX0_countOf_3 18 rfl rfl)
theorem dX0_countOf_98 : decode cX0_countOf 98 = .ok (.getfield 10, 3) := dk_180 0 10 (dk_at dksX0_countOf_3 19 rfl rfl)
theorem dX0_countOf_101 : decode cX0_countOf 101 = .ok (.getfield 148, 3) := dk_180 0 148 (dk_at dksX0_countOf_4 0 rfl rfl)
theorem dX0_countOf_104 : decode cX0_countOf 104 = .ok (.getfield 158, 3) := dk_180 0 158 (dk_at dksX0_countOf_4 3 rfl rfl)
theorem dX0_countOf_107 : decode cX0_countOf 107 = .ok (.ireturn, 1) := dk_172 (dk_at dksX0_countOf_4 6 rfl rfl)
theorem dX0_countOf_108 : decode cX0_countOf 108 = .ok (.aload_n 0, 1) := dk_42 (dk_at dksX0_countOf_4 7 rfl rfl)
theorem dX0_countOf_109 : decode cX0_countOf 109 = .ok (.getfield 10, 3) := dk_180 0 10 (dk_at dksX0_countOf_4 8 rfl rfl)
theorem dX0_countOf_112 : decode cX0_countOf 112 = .ok (.getfield 102, 3) := dk_180 0 102 (dk_at dksX0_countOf_4 11 rfl rfl)
theorem dX0_countOf_115 : decode cX0_countOf 115 = .ok (.ireturn, 1) := dk_172 (dk_at dksX0_countOf_4 14 rfl rfl)
theorem dX0_countOf_116 : decode cX0_countOf 116 = .ok (.aload_n 0, 1) := dk_42 (dk_at dksX0_countOf_4 15 rfl rfl)
theorem dX0_countOf_117 : decode cX0_countOf 117 = .ok (.getfield 10, 3) := dk_180 0 10 (dk_at dksX0_countOf_4 16 rfl rfl)
theorem dX0_countOf_120 : decode cX0_countOf 120 = .ok (.getfield 248, 3) := dk_180 0 248 (dk_at dksX0_countOf_4 19 rfl rfl)
theorem dX0_countOf_123 : decode cX0_countOf 123 = .ok (.ireturn, 1) := dk_172 (dk_at dksX0_countOf_4 22 rfl rfl)
theorem dX0_countOf_124 : decode cX0_countOf 124 = .ok (.aload_n 0, 1) := dk_42 (dk_at dksX0_countOf_4 23 rfl rfl)
theorem dX0_countOf_125 : decode cX0_countOf 125 = .ok (.getfield 10, 3) := dk_180 0 10 (dk_at dksX0_countOf_5 0 rfl rfl)
theorem dX0_countOf_128 : decode cX0_countOf 128 = .ok (.getfield 273, 3) := dk_180 1 17 (dk_at dksX0_countOf_5 3 rfl rfl)
theorem dX0_countOf_131 : decode cX0_countOf 131 = .ok (.ireturn, 1) := dk_172 (dk_at dksX0_countOf_5 6 rfl rfl)
theorem dX0_countOf_132 : decode cX0_countOf 132 = .ok (.aload_n 0, 1) := dk_42 (dk_at dksX0_countOf_5 7 rfl rfl)
theorem dX0_countOf_133 : decode cX0_countOf 133 = .ok (.getfield 10, 3) := dk_180 0 10 (dk_at dksX0_countOf_5 8 rfl rfl)
theorem dX0_countOf_136 : decode cX0_countOf 136 = .ok (.getfield 279, 3) := dk_180 1 23 (dk_at dksX0_countOf_5 11 rfl rfl)
theorem dX0_countOf_139 : decode cX0_countOf 139 = .ok (.ireturn, 1) := dk_172 (dk_at dksX0_countOf_5 14 rfl rfl)
theorem dX0_countOf_140 : decode cX0_countOf 140 = .ok (.aload_n 0, 1) := dk_42 (dk_at dksX0_countOf_5 15 rfl rfl)
theorem dX0_countOf_141 : decode cX0_countOf 141 = .ok (.getfield 10, 3) := dk_180 0 10 (dk_at dksX0_countOf_5 16 rfl rfl)
theorem dX0_countOf_144 : decode cX0_countOf 144 = .ok (.getfield 105, 3) := dk_180 0 105 (dk_at dksX0_countOf_5 19 rfl rfl)
theorem dX0_countOf_147 : decode cX0_countOf 147 = .ok (.ireturn, 1) := dk_172 (dk_at dksX0_countOf_5 22 rfl rfl)
theorem dX0_countOf_148 : decode cX0_countOf 148 = .ok (.aload_n 0, 1) := dk_42 (dk_at dksX0_countOf_5 23 rfl rfl)
theorem dX0_countOf_149 : decode cX0_countOf 149 = .ok (.getfield 130, 3) := dk_180 0 130 (dk_at dksX0_countOf_6 0 rfl rfl)
theorem dX0_countOf_152 : decode cX0_countOf 152 = .ok (.ireturn, 1) := dk_172 (dk_at dksX0_countOf_6 3 rfl rfl)
abbrev cX0_digest : ByteArray := prog_1_method_65_code
def yX0_digest : MethodName := ⟨RX0, "digest", "()J"⟩
def dkwX0_digest_13 : List UInt8 := [180, 0, 38, 97, 173]
abbrev dktX0_digest_13 : List UInt8 := dkwX0_digest_13 ++ []
def dkwX0_digest_12 : List UInt8 := [133, 97, 64, 132, 3, 1, 167, 255, 223, 20, 1, 80, 20, 1, 80, 31, 105, 42, 180, 1, 58, 97, 105, 42]
abbrev dktX0_digest_12 : List UInt8 := dkwX0_digest_12 ++ dktX0_digest_13
def dkwX0_digest_11 : List UInt8 := [180, 0, 10, 180, 1, 23, 104, 162, 0, 26, 20, 1, 80, 31, 105, 42, 180, 0, 10, 180, 1, 26, 29, 46]
abbrev dktX0_digest_11 : List UInt8 := dkwX0_digest_11 ++ dktX0_digest_12
def dkwX0_digest_10 : List UInt8 := [180, 0, 10, 180, 1, 20, 29, 46, 133, 97, 64, 132, 3, 1, 167, 255, 223, 3, 62, 29, 7, 42]
abbrev dktX0_digest_10 : List UInt8 := dkwX0_digest_10 ++ dktX0_digest_11
def dkwX0_digest_9 : List UInt8 := [167, 255, 223, 3, 62, 29, 7, 42, 180, 0, 10, 180, 1, 17, 104, 162, 0, 26, 20, 1, 80, 31, 105, 42]
abbrev dktX0_digest_9 : List UInt8 := dkwX0_digest_9 ++ dktX0_digest_10
def dkwX0_digest_8 : List UInt8 := [162, 0, 26, 20, 1, 80, 31, 105, 42, 180, 0, 10, 180, 0, 251, 29, 46, 133, 97, 64, 132, 3, 1]
abbrev dktX0_digest_8 : List UInt8 := dkwX0_digest_8 ++ dktX0_digest_9
def dkwX0_digest_7 : List UInt8 := [126, 133, 97, 64, 132, 3, 1, 167, 255, 187, 3, 62, 29, 5, 42, 180, 0, 10, 180, 0, 248, 104]
abbrev dktX0_digest_7 : List UInt8 := dkwX0_digest_7 ++ dktX0_digest_8
def dkwX0_digest_6 : List UInt8 := [180, 0, 10, 180, 0, 203, 29, 46, 133, 97, 105, 42, 180, 0, 10, 180, 0, 148, 180, 0, 173, 29, 122, 4]
abbrev dktX0_digest_6 : List UInt8 := dkwX0_digest_6 ++ dktX0_digest_7
def dkwX0_digest_5 : List UInt8 := [20, 1, 80, 20, 1, 80, 31, 105, 42, 180, 0, 10, 180, 0, 196, 29, 50, 182, 0, 200, 133, 97, 105, 42]
abbrev dktX0_digest_5 : List UInt8 := dkwX0_digest_5 ++ dktX0_digest_6
def dkwX0_digest_4 : List UInt8 := [97, 64, 132, 3, 1, 167, 255, 189, 3, 62, 29, 42, 180, 0, 10, 180, 0, 91, 162, 0, 64, 20, 1, 80]
abbrev dktX0_digest_4 : List UInt8 := dkwX0_digest_4 ++ dktX0_digest_5
def dkwX0_digest_3 : List UInt8 := [180, 0, 10, 180, 0, 193, 29, 46, 133, 97, 105, 42, 180, 0, 10, 180, 0, 148, 180, 0, 164, 29, 46, 133]
abbrev dktX0_digest_3 : List UInt8 := dkwX0_digest_3 ++ dktX0_digest_4
def dkwX0_digest_2 : List UInt8 := [20, 1, 80, 20, 1, 80, 31, 105, 42, 180, 0, 10, 180, 0, 184, 29, 50, 182, 0, 188, 133, 97, 105, 42]
abbrev dktX0_digest_2 : List UInt8 := dkwX0_digest_2 ++ dktX0_digest_3
def dkwX0_digest_1 : List UInt8 := [64, 132, 3, 1, 167, 255, 234, 3, 62, 29, 42, 180, 0, 10, 180, 0, 87, 162, 0, 62, 20, 1, 80]
abbrev dktX0_digest_1 : List UInt8 := dkwX0_digest_1 ++ dktX0_digest_2
def dkwX0_digest_0 : List UInt8 := [20, 1, 78, 64, 3, 62, 29, 16, 11, 162, 0, 22, 20, 1, 80, 31, 105, 42, 29, 182, 1, 75, 133, 97]
abbrev dktX0_digest_0 : List UInt8 := dkwX0_digest_0 ++ dktX0_digest_1
theorem dksX0_digest_0 : cX0_digest.data.toList.drop 0 = dktX0_digest_0 := by decide +kernel
theorem dksX0_digest_1 : cX0_digest.data.toList.drop 24 = dktX0_digest_1 := dk_seg dksX0_digest_0 24 rfl rfl
theorem dksX0_digest_2 : cX0_digest.data.toList.drop 47 = dktX0_digest_2 := dk_seg dksX0_digest_1 23 rfl rfl
theorem dksX0_digest_3 : cX0_digest.data.toList.drop 71 = dktX0_digest_3 := dk_seg dksX0_digest_2 24 rfl rfl
theorem dksX0_digest_4 : cX0_digest.data.toList.drop 95 = dktX0_digest_4 := dk_seg dksX0_digest_3 24 rfl rfl
theorem dksX0_digest_5 : cX0_digest.data.toList.drop 119 = dktX0_digest_5 := dk_seg dksX0_digest_4 24 rfl rfl
theorem dksX0_digest_6 : cX0_digest.data.toList.drop 143 = dktX0_digest_6 := dk_seg dksX0_digest_5 24 rfl rfl
theorem dksX0_digest_7 : cX0_digest.data.toList.drop 167 = dktX0_digest_7 := dk_seg dksX0_digest_6 24 rfl rfl
theorem dksX0_digest_8 : cX0_digest.data.toList.drop 189 = dktX0_digest_8 := dk_seg dksX0_digest_7 22 rfl rfl
theorem dksX0_digest_9 : cX0_digest.data.toList.drop 212 = dktX0_digest_9 := dk_seg dksX0_digest_8 23 rfl rfl
theorem dksX0_digest_10 : cX0_digest.data.toList.drop 236 = dktX0_digest_10 := dk_seg dksX0_digest_9 24 rfl rfl
theorem dksX0_digest_11 : cX0_digest.data.toList.drop 258 = dktX0_digest_11 := dk_seg dksX0_digest_10 22 rfl rfl
theorem dksX0_digest_12 : cX0_digest.data.toList.drop 282 = dktX0_digest_12 := dk_seg dksX0_digest_11 24 rfl rfl
theorem dksX0_digest_13 : cX0_digest.data.toList.drop 306 = dktX0_digest_13 := dk_seg dksX0_digest_12 24 rfl rfl
theorem dX0_digest_0 : decode cX0_digest 0 = .ok (.ldc2_w 334, 3) := dk_20 1 78 (dk_at dksX0_digest_0 0 rfl rfl)
theorem dX0_digest_3 : decode cX0_digest 3 = .ok (.lstore_n 1, 1) := dk_64 (dk_at dksX0_digest_0 3 rfl rfl)
theorem dX0_digest_4 : decode cX0_digest 4 = .ok (.iconst 0, 1) := dk_3 (dk_at dksX0_digest_0 4 rfl rfl)
theorem dX0_digest_5 : decode cX0_digest 5 = .ok (.istore_n 3, 1) := dk_62 (dk_at dksX0_digest_0 5 rfl rfl)
theorem dX0_digest_6 : decode cX0_digest 6 = .ok (.iload_n 3, 1) := dk_29 (dk_at dksX0_digest_0 6 rfl rfl)
theorem dX0_digest_7 : decode cX0_digest 7 = .ok (.bipush 11, 2) := dk_16 11 (dk_at dksX0_digest_0 7 rfl rfl)
theorem dX0_digest_9 : decode cX0_digest 9 = .ok (.if_icmp .ge 22, 3) := dk_162 0 22 (dk_at dksX0_digest_0 9 rfl rfl)
theorem dX0_digest_12 : decode cX0_digest 12 = .ok (.ldc2_w 336, 3) := dk_20 1 80 (dk_at dksX0_digest_0 12 rfl rfl)
theorem dX0_digest_15 : decode cX0_digest 15 = .ok (.lload_n 1, 1) := dk_31 (dk_at dksX0_digest_0 15 rfl rfl)
theorem dX0_digest_16 : decode cX0_digest 16 = .ok (.lmul, 1) := dk_105 (dk_at dksX0_digest_0 16 rfl rfl)
theorem dX0_digest_17 : decode cX0_digest 17 = .ok (.aload_n 0, 1) := dk_42 (dk_at dksX0_digest_0 17 rfl rfl)
theorem dX0_digest_18 : decode cX0_digest 18 = .ok (.iload_n 3, 1) := dk_29 (dk_at dksX0_digest_0 18 rfl rfl)
theorem dX0_digest_19 : decode cX0_digest 19 = .ok (.invokevirtual 331, 3) := dk_182 1 75 (dk_at dksX0_digest_0 19 rfl rfl)
theorem dX0_digest_22 : decode cX0_digest 22 = .ok (.i2l, 1) := dk_133 (dk_at dksX0_digest_0 22 rfl rfl)
theorem dX0_digest_23 : decode cX0_digest 23 = .ok (.ladd, 1) := dk_97 (dk_at dksX0_digest_0 23 rfl rfl)
theorem dX0_digest_24 : decode cX0_digest 24 = .ok (.lstore_n 1, 1) := dk_64 (dk_at dksX0_digest_1 0 rfl rfl)
theorem dX0_digest_25 : decode cX0_digest 25 = .ok (.iinc 3 1, 3) := dk_132 3 1 (dk_at dksX0_digest_1 1 rfl rfl)
theorem dX0_digest_28 : decode cX0_digest 28 = .ok (.goto (-22), 3) := dk_167 255 234 (dk_at dksX0_digest_1 4 rfl rfl)
theorem dX0_digest_31 : decode cX0_digest 31 = .ok (.iconst 0, 1) := dk_3 (dk_at dksX0_digest_1 7 rfl rfl)
theorem dX0_digest_32 : decode cX0_digest 32 = .ok (.istore_n 3, 1) := dk_62 (dk_at dksX0_digest_1 8 rfl rfl)
theorem dX0_digest_33 : decode cX0_digest 33 = .ok (.iload_n 3, 1) := dk_29 (dk_at dksX0_digest_1 9 rfl rfl)
theorem dX0_digest_34 : decode cX0_digest 34 = .ok (.aload_n 0, 1) := dk_42 (dk_at dksX0_digest_1 10 rfl rfl)
theorem dX0_digest_35 : decode cX0_digest 35 = .ok (.getfield 10, 3) := dk_180 0 10 (dk_at dksX0_digest_1 11 rfl rfl)
theorem dX0_digest_38 : decode cX0_digest 38 = .ok (.getfield 87, 3) := dk_180 0 87 (dk_at dksX0_digest_1 14 rfl rfl)
theorem dX0_digest_41 : decode cX0_digest 41 = .ok (.if_icmp .ge 62, 3) := dk_162 0 62 (dk_at dksX0_digest_1 17 rfl rfl)
theorem dX0_digest_44 : decode cX0_digest 44 = .ok (.ldc2_w 336, 3) := dk_20 1 80 (dk_at dksX0_digest_1 20 rfl rfl)
theorem dX0_digest_47 : decode cX0_digest 47 = .ok (.ldc2_w 336, 3) := dk_20 1 80 (dk_at dksX0_digest_2 0 rfl rfl)
theorem dX0_digest_50 : decode cX0_digest 50 = .ok (.ldc2_w 336, 3) := dk_20 1 80 (dk_at dksX0_digest_2 3 rfl rfl)
theorem dX0_digest_53 : decode cX0_digest 53 = .ok (.lload_n 1, 1) := dk_31 (dk_at dksX0_digest_2 6 rfl rfl)
theorem dX0_digest_54 : decode cX0_digest 54 = .ok (.lmul, 1) := dk_105 (dk_at dksX0_digest_2 7 rfl rfl)
theorem dX0_digest_55 : decode cX0_digest 55 = .ok (.aload_n 0, 1) := dk_42 (dk_at dksX0_digest_2 8 rfl rfl)
theorem dX0_digest_56 : decode cX0_digest 56 = .ok (.getfield 10, 3) := dk_180 0 10 (dk_at dksX0_digest_2 9 rfl rfl)
theorem dX0_digest_59 : decode cX0_digest 59 = .ok (.getfield 184, 3) := dk_180 0 184 (dk_at dksX0_digest_2 12 rfl rfl)
theorem dX0_digest_62 : decode cX0_digest 62 = .ok (.iload_n 3, 1) := dk_29 (dk_at dksX0_digest_2 15 rfl rfl)
theorem dX0_digest_63 : decode cX0_digest 63 = .ok (.aaload, 1) := dk_50 (dk_at dksX0_digest_2 16 rfl rfl)
theorem dX0_digest_64 : decode cX0_digest 64 = .ok (.invokevirtual 188, 3) := dk_182 0 188 (dk_at dksX0_digest_2 17 rfl rfl)
theorem dX0_digest_67 : decode cX0_digest 67 = .ok (.i2l, 1) := dk_133 (dk_at dksX0_digest_2 20 rfl rfl)
theorem dX0_digest_68 : decode cX0_digest 68 = .ok (.ladd, 1) := dk_97 (dk_at dksX0_digest_2 21 rfl rfl)
theorem dX0_digest_69 : decode cX0_digest 69 = .ok (.lmul, 1) := dk_105 (dk_at dksX0_digest_2 22 rfl rfl)
theorem dX0_digest_70 : decode cX0_digest 70 = .ok (.aload_n 0, 1) := dk_42 (dk_at dksX0_digest_2 23 rfl rfl)
theorem dX0_digest_71 : decode cX0_digest 71 = .ok (.getfield 10, 3) := dk_180 0 10 (dk_at dksX0_digest_3 0 rfl rfl)
theorem dX0_digest_74 : decode cX0_digest 74 = .ok (.getfield 193, 3) := dk_180 0 193 (dk_at dksX0_digest_3 3 rfl rfl)
theorem dX0_digest_77 : decode cX0_digest 77 = .ok (.iload_n 3, 1) := dk_29 (dk_at dksX0_digest_3 6 rfl rfl)
theorem dX0_digest_78 : decode cX0_digest 78 = .ok (.iaload, 1) := dk_46 (dk_at dksX0_digest_3 7 rfl rfl)
theorem dX0_digest_79 : decode cX0_digest 79 = .ok (.i2l, 1) := dk_133 (dk_at dksX0_digest_3 8 rfl rfl)
theorem dX0_digest_80 : decode cX0_digest 80 = .ok (.ladd, 1) := dk_97 (dk_at dksX0_digest_3 9 rfl rfl)
theorem dX0_digest_81 : decode cX0_digest 81 = .ok (.lmul, 1) := dk_105 (dk_at dksX0_digest_3 10 rfl rfl)
theorem dX0_digest_82 : decode cX0_digest 82 = .ok (.aload_n 0, 1) := dk_42 (dk_at dksX0_digest_3 11 rfl rfl)
theorem dX0_digest_83 : decode cX0_digest 83 = .ok (.getfield 10, 3) := dk_180 0 10 (dk_at dksX0_digest_3 12 rfl rfl)
theorem dX0_digest_86 : decode cX0_digest 86 = .ok (.getfield 148, 3) := dk_180 0 148 (dk_at dksX0_digest_3 15 rfl rfl)
theorem dX0_digest_89 : decode cX0_digest 89 = .ok (.getfield 164, 3) := dk_180 0 164 (dk_at dksX0_digest_3 18 rfl rfl)
theorem dX0_digest_92 : decode cX0_digest 92 = .ok (.iload_n 3, 1) := dk_29 (dk_at dksX0_digest_3 21 rfl rfl)
theorem dX0_digest_93 : decode cX0_digest 93 = .ok (.iaload, 1) := dk_46 (dk_at dksX0_digest_3 22 rfl rfl)
theorem dX0_digest_94 : decode cX0_digest 94 = .ok (.i2l, 1) := dk_133 (dk_at dksX0_digest_3 23 rfl rfl)
theorem dX0_digest_95 : decode cX0_digest 95 = .ok (.ladd, 1) := dk_97 (dk_at dksX0_digest_4 0 rfl rfl)
theorem dX0_digest_96 : decode cX0_digest 96 = .ok (.lstore_n 1, 1) := dk_64 (dk_at dksX0_digest_4 1 rfl rfl)
theorem dX0_digest_97 : decode cX0_digest 97 = .ok (.iinc 3 1, 3) := dk_132 3 1 (dk_at dksX0_digest_4 2 rfl rfl)
theorem dX0_digest_100 : decode cX0_digest 100 = .ok (.goto (-67), 3) := dk_167 255 189 (dk_at dksX0_digest_4 5 rfl rfl)
theorem dX0_digest_103 : decode cX0_digest 103 = .ok (.iconst 0, 1) := dk_3 (dk_at dksX0_digest_4 8 rfl rfl)
theorem dX0_digest_104 : decode cX0_digest 104 = .ok (.istore_n 3, 1) := dk_62 (dk_at dksX0_digest_4 9 rfl rfl)
theorem dX0_digest_105 : decode cX0_digest 105 = .ok (.iload_n 3, 1) := dk_29 (dk_at dksX0_digest_4 10 rfl rfl)
theorem dX0_digest_106 : decode cX0_digest 106 = .ok (.aload_n 0, 1) := dk_42 (dk_at dksX0_digest_4 11 rfl rfl)
theorem dX0_digest_107 : decode cX0_digest 107 = .ok (.getfield 10, 3) := dk_180 0 10 (dk_at dksX0_digest_4 12 rfl rfl)
theorem dX0_digest_110 : decode cX0_digest 110 = .ok (.getfield 91, 3) := dk_180 0 91 (dk_at dksX0_digest_4 15 rfl rfl)
theorem dX0_digest_113 : decode cX0_digest 113 = .ok (.if_icmp .ge 64, 3) := dk_162 0 64 (dk_at dksX0_digest_4 18 rfl rfl)
theorem dX0_digest_116 : decode cX0_digest 116 = .ok (.ldc2_w 336, 3) := dk_20 1 80 (dk_at dksX0_digest_4 21 rfl rfl)
theorem dX0_digest_119 : decode cX0_digest 119 = .ok (.ldc2_w 336, 3) := dk_20 1 80 (dk_at dksX0_digest_5 0 rfl rfl)
theorem dX0_digest_122 : decode cX0_digest 122 = .ok (.ldc2_w 336, 3) := dk_20 1 80 (dk_at dksX0_digest_5 3 rfl rfl)
theorem dX0_digest_125 : decode cX0_digest 125 = .ok (.lload_n 1, 1) := dk_31 (dk_at dksX0_digest_5 6 rfl rfl)
theorem dX0_digest_126 : decode cX0_digest 126 = .ok (.lmul, 1) := dk_105 (dk_at dksX0_digest_5 7 rfl rfl)
theorem dX0_digest_127 : decode cX0_digest 127 = .ok (.aload_n 0, 1) := dk_42 (dk_at dksX0_digest_5 8 rfl rfl)
theorem dX0_digest_128 : decode cX0_digest 128 = .ok (.getfield 10, 3) := dk_180 0 10 (dk_at dksX0_digest_5 9 rfl rfl)
theorem dX0_digest_131 : decode cX0_digest 131 = .ok (.getfield 196, 3) := dk_180 0 196 (dk_at dksX0_digest_5 12 rfl rfl)
theorem dX0_digest_134 : decode cX0_digest 134 = .ok (.iload_n 3, 1) := dk_29 (dk_at dksX0_digest_5 15 rfl rfl)
theorem dX0_digest_135 : decode cX0_digest 135 = .ok (.aaload, 1) := dk_50 (dk_at dksX0_digest_5 16 rfl rfl)
theorem dX0_digest_136 : decode cX0_digest 136 = .ok (.invokevirtual 200, 3) := dk_182 0 200 (dk_at dksX0_digest_5 17 rfl rfl)
theorem dX0_digest_139 : decode cX0_digest 139 = .ok (.i2l, 1) := dk_133 (dk_at dksX0_digest_5 20 rfl rfl)
theorem dX0_digest_140 : decode cX0_digest 140 = .ok (.ladd, 1) := dk_97 (dk_at dksX0_digest_5 21 rfl rfl)
theorem dX0_digest_141 : decode cX0_digest 141 = .ok (.lmul, 1) := dk_105 (dk_at dksX0_digest_5 22 rfl rfl)
theorem dX0_digest_142 : decode cX0_digest 142 = .ok (.aload_n 0, 1) := dk_42 (dk_at dksX0_digest_5 23 rfl rfl)
theorem dX0_digest_143 : decode cX0_digest 143 = .ok (.getfield 10, 3) := dk_180 0 10 (dk_at dksX0_digest_6 0 rfl rfl)
theorem dX0_digest_146 : decode cX0_digest 146 = .ok (.getfield 203, 3) := dk_180 0 203 (dk_at dksX0_digest_6 3 rfl rfl)
theorem dX0_digest_149 : decode cX0_digest 149 = .ok (.iload_n 3, 1) := dk_29 (dk_at dksX0_digest_6 6 rfl rfl)
theorem dX0_digest_150 : decode cX0_digest 150 = .ok (.iaload, 1) := dk_46 (dk_at dksX0_digest_6 7 rfl rfl)
theorem dX0_digest_151 : decode cX0_digest 151 = .ok (.i2l, 1) := dk_133 (dk_at dksX0_digest_6 8 rfl rfl)
theorem dX0_digest_152 : decode cX0_digest 152 = .ok (.ladd, 1) := dk_97 (dk_at dksX0_digest_6 9 rfl rfl)
theorem dX0_digest_153 : decode cX0_digest 153 = .ok (.lmul, 1) := dk_105 (dk_at dksX0_digest_6 10 rfl rfl)
theorem dX0_digest_154 : decode cX0_digest 154 = .ok (.aload_n 0, 1) := dk_42 (dk_at dksX0_digest_6 11 rfl rfl)
theorem dX0_digest_155 : decode cX0_digest 155 = .ok (.getfield 10, 3) := dk_180 0 10 (dk_at dksX0_digest_6 12 rfl rfl)
theorem dX0_digest_158 : decode cX0_digest 158 = .ok (.getfield 148, 3) := dk_180 0 148 (dk_at dksX0_digest_6 15 rfl rfl)
theorem dX0_digest_161 : decode cX0_digest 161 = .ok (.getfield 173, 3) := dk_180 0 173 (dk_at dksX0_digest_6 18 rfl rfl)
theorem dX0_digest_164 : decode cX0_digest 164 = .ok (.iload_n 3, 1) := dk_29 (dk_at dksX0_digest_6 21 rfl rfl)
theorem dX0_digest_165 : decode cX0_digest 165 = .ok (.ishr, 1) := dk_122 (dk_at dksX0_digest_6 22 rfl rfl)
theorem dX0_digest_166 : decode cX0_digest 166 = .ok (.iconst 1, 1) := dk_4 (dk_at dksX0_digest_6 23 rfl rfl)
theorem dX0_digest_167 : decode cX0_digest 167 = .ok (.iand, 1) := dk_126 (dk_at dksX0_digest_7 0 rfl rfl)
theorem dX0_digest_168 : decode cX0_digest 168 = .ok (.i2l, 1) := dk_133 (dk_at dksX0_digest_7 1 rfl rfl)
theorem dX0_digest_169 : decode cX0_digest 169 = .ok (.ladd, 1) := dk_97 (dk_at dksX0_digest_7 2 rfl rfl)
theorem dX0_digest_170 : decode cX0_digest 170 = .ok (.lstore_n 1, 1) := dk_64 (dk_at dksX0_digest_7 3 rfl rfl)
theorem dX0_digest_171 : decode cX0_digest 171 = .ok (.iinc 3 1, 3) := dk_132 3 1 (dk_at dksX0_digest_7 4 rfl rfl)
theorem dX0_digest_174 : decode cX0_digest 174 = .ok (.goto (-69), 3) := dk_167 255 187 (dk_at dksX0_digest_7 7 rfl rfl)
theorem dX0_digest_177 : decode cX0_digest 177 = .ok (.iconst 0, 1) := dk_3 (dk_at dksX0_digest_7 10 rfl rfl)
theorem dX0_digest_178 : decode cX0_digest 178 = .ok (.istore_n 3, 1) := dk_62 (dk_at dksX0_digest_7 11 rfl rfl)
theorem dX0_digest_179 : decode cX0_digest 179 = .ok (.iload_n 3, 1) := dk_29 (dk_at dksX0_digest_7 12 rfl rfl)
theorem dX0_digest_180 : decode cX0_digest 180 = .ok (.iconst 2, 1) := dk_5 (dk_at dksX0_digest_7 13 rfl rfl)
theorem dX0_digest_181 : decode cX0_digest 181 = .ok (.aload_n 0, 1) := dk_42 (dk_at dksX0_digest_7 14 rfl rfl)
theorem dX0_digest_182 : decode cX0_digest 182 = .ok (.getfield 10, 3) := dk_180 0 10 (dk_at dksX0_digest_7 15 rfl rfl)
theorem dX0_digest_185 : decode cX0_digest 185 = .ok (.getfield 248, 3) := dk_180 0 248 (dk_at dksX0_digest_7 18 rfl rfl)
theorem dX0_digest_188 : decode cX0_digest 188 = .ok (.imul, 1) := dk_104 (dk_at dksX0_digest_7 21 rfl rfl)
theorem dX0_digest_189 : decode cX0_digest 189 = .ok (.if_icmp .ge 26, 3) := dk_162 0 26 (dk_at dksX0_digest_8 0 rfl rfl)
theorem dX0_digest_192 : decode cX0_digest 192 = .ok (.ldc2_w 336, 3) := dk_20 1 80 (dk_at dksX0_digest_8 3 rfl rfl)
theorem dX0_digest_195 : decode cX0_digest 195 = .ok (.lload_n 1, 1) := dk_31 (dk_at dksX0_digest_8 6 rfl rfl)
theorem dX0_digest_196 : decode cX0_digest 196 = .ok (.lmul, 1) := dk_105 (dk_at dksX0_digest_8 7 rfl rfl)
theorem dX0_digest_197 : decode cX0_digest 197 = .ok (.aload_n 0, 1) := dk_42 (dk_at dksX0_digest_8 8 rfl rfl)
theorem dX0_digest_198 : decode cX0_digest 198 = .ok (.getfield 10, 3) := dk_180 0 10 (dk_at dksX0_digest_8 9 rfl rfl)
theorem dX0_digest_201 : decode cX0_digest 201 = .ok (.getfield 251, 3) := dk_180 0 251 (dk_at dksX0_digest_8 12 rfl rfl)
theorem dX0_digest_204 : decode cX0_digest 204 = .ok (.iload_n 3, 1) := dk_29 (dk_at dksX0_digest_8 15 rfl rfl)
theorem dX0_digest_205 : decode cX0_digest 205 = .ok (.iaload, 1) := dk_46 (dk_at dksX0_digest_8 16 rfl rfl)
theorem dX0_digest_206 : decode cX0_digest 206 = .ok (.i2l, 1) := dk_133 (dk_at dksX0_digest_8 17 rfl rfl)
theorem dX0_digest_207 : decode cX0_digest 207 = .ok (.ladd, 1) := dk_97 (dk_at dksX0_digest_8 18 rfl rfl)
theorem dX0_digest_208 : decode cX0_digest 208 = .ok (.lstore_n 1, 1) := dk_64 (dk_at dksX0_digest_8 19 rfl rfl)
theorem dX0_digest_209 : decode cX0_digest 209 = .ok (.iinc 3 1, 3) := dk_132 3 1 (dk_at dksX0_digest_8 20 rfl rfl)
theorem dX0_digest_212 : decode cX0_digest 212 = .ok (.goto (-33), 3) := dk_167 255 223 (dk_at dksX0_digest_9 0 rfl rfl)
theorem dX0_digest_215 : decode cX0_digest 215 = .ok (.iconst 0, 1) := dk_3 (dk_at dksX0_digest_9 3 rfl rfl)
theorem dX0_digest_216 : decode cX0_digest 216 = .ok (.istore_n 3, 1) := dk_62 (dk_at dksX0_digest_9 4 rfl rfl)
theorem dX0_digest_217 : decode cX0_digest 217 = .ok (.iload_n 3, 1) := dk_29 (dk_at dksX0_digest_9 5 rfl rfl)
theorem dX0_digest_218 : decode cX0_digest 218 = .ok (.iconst 4, 1) := dk_7 (dk_at dksX0_digest_9 6 rfl rfl)
theorem dX0_digest_219 : decode cX0_digest 219 = .ok (.aload_n 0, 1) := dk_42 (dk_at dksX0_digest_9 7 rfl rfl)
theorem dX0_digest_220 : decode cX0_digest 220 = .ok (.getfield 10, 3) := dk_180 0 10 (dk_at dksX0_digest_9 8 rfl rfl)
theorem dX0_digest_223 : decode cX0_digest 223 = .ok (.getfield 273, 3) := dk_180 1 17 (dk_at dksX0_digest_9 11 rfl rfl)
theorem dX0_digest_226 : decode cX0_digest 226 = .ok (.imul, 1) := dk_104 (dk_at dksX0_digest_9 14 rfl rfl)
theorem dX0_digest_227 : decode cX0_digest 227 = .ok (.if_icmp .ge 26, 3) := dk_162 0 26 (dk_at dksX0_digest_9 15 rfl rfl)
theorem dX0_digest_230 : decode cX0_digest 230 = .ok (.ldc2_w 336, 3) := dk_20 1 80 (dk_at dksX0_digest_9 18 rfl rfl)
theorem dX0_digest_233 : decode cX0_digest 233 = .ok (.lload_n 1, 1) := dk_31 (dk_at dksX0_digest_9 21 rfl rfl)
theorem dX0_digest_234 : decode cX0_digest 234 = .ok (.lmul, 1) := dk_105 (dk_at dksX0_digest_9 22 rfl rfl)
theorem dX0_digest_235 : decode cX0_digest 235 = .ok (.aload_n 0, 1) := dk_42 (dk_at dksX0_digest_9 23 rfl rfl)
theorem dX0_digest_236 : decode cX0_digest 236 = .ok (.getfield 10, 3) := dk_180 0 10 (dk_at dksX0_digest_10 0 rfl rfl)
theorem dX0_digest_239 : decode cX0_digest 239 = .ok (.getfield 276, 3) := dk_180 1 20 (dk_at dksX0_digest_10 3 rfl rfl)
theorem dX0_digest_242 : decode cX0_digest 242 = .ok (.iload_n 3, 1) := dk_29 (dk_at dksX0_digest_10 6 rfl rfl)
theorem dX0_digest_243 : decode cX0_digest 243 = .ok (.iaload, 1) := dk_46 (dk_at dksX0_digest_10 7 rfl rfl)
theorem dX0_digest_244 : decode cX0_digest 244 = .ok (.i2l, 1) := dk_133 (dk_at dksX0_digest_10 8 rfl rfl)
theorem dX0_digest_245 : decode cX0_digest 245 = .ok (.ladd, 1) := dk_97 (dk_at dksX0_digest_10 9 rfl rfl)
theorem dX0_digest_246 : decode cX0_digest 246 = .ok (.lstore_n 1, 1) := dk_64 (dk_at dksX0_digest_10 10 rfl rfl)
theorem dX0_digest_247 : decode cX0_digest 247 = .ok (.iinc 3 1, 3) := dk_132 3 1 (dk_at dksX0_digest_10 11 rfl rfl)
theorem dX0_digest_250 : decode cX0_digest 250 = .ok (.goto (-33), 3) := dk_167 255 223 (dk_at dksX0_digest_10 14 rfl rfl)
theorem dX0_digest_253 : decode cX0_digest 253 = .ok (.iconst 0, 1) := dk_3 (dk_at dksX0_digest_10 17 rfl rfl)
theorem dX0_digest_254 : decode cX0_digest 254 = .ok (.istore_n 3, 1) := dk_62 (dk_at dksX0_digest_10 18 rfl rfl)
theorem dX0_digest_255 : decode cX0_digest 255 = .ok (.iload_n 3, 1) := dk_29 (dk_at dksX0_digest_10 19 rfl rfl)
theorem dX0_digest_256 : decode cX0_digest 256 = .ok (.iconst 4, 1) := dk_7 (dk_at dksX0_digest_10 20 rfl rfl)
theorem dX0_digest_257 : decode cX0_digest 257 = .ok (.aload_n 0, 1) := dk_42 (dk_at dksX0_digest_10 21 rfl rfl)
theorem dX0_digest_258 : decode cX0_digest 258 = .ok (.getfield 10, 3) := dk_180 0 10 (dk_at dksX0_digest_11 0 rfl rfl)
theorem dX0_digest_261 : decode cX0_digest 261 = .ok (.getfield 279, 3) := dk_180 1 23 (dk_at dksX0_digest_11 3 rfl rfl)
theorem dX0_digest_264 : decode cX0_digest 264 = .ok (.imul, 1) := dk_104 (dk_at dksX0_digest_11 6 rfl rfl)
theorem dX0_digest_265 : decode cX0_digest 265 = .ok (.if_icmp .ge 26, 3) := dk_162 0 26 (dk_at dksX0_digest_11 7 rfl rfl)
theorem dX0_digest_268 : decode cX0_digest 268 = .ok (.ldc2_w 336, 3) := dk_20 1 80 (dk_at dksX0_digest_11 10 rfl rfl)
theorem dX0_digest_271 : decode cX0_digest 271 = .ok (.lload_n 1, 1) := dk_31 (dk_at dksX0_digest_11 13 rfl rfl)
theorem dX0_digest_272 : decode cX0_digest 272 = .ok (.lmul, 1) := dk_105 (dk_at dksX0_digest_11 14 rfl rfl)
theorem dX0_digest_273 : decode cX0_digest 273 = .ok (.aload_n 0, 1) := dk_42 (dk_at dksX0_digest_11 15 rfl rfl)
theorem dX0_digest_274 : decode cX0_digest 274 = .ok (.getfield 10, 3) := dk_180 0 10 (dk_at dksX0_digest_11 16 rfl rfl)
theorem dX0_digest_277 : decode cX0_digest 277 = .ok (.getfield 282, 3) := dk_180 1 26 (dk_at dksX0_digest_11 19 rfl rfl)
theorem dX0_digest_280 : decode cX0_digest 280 = .ok (.iload_n 3, 1) := dk_29 (dk_at dksX0_digest_11 22 rfl rfl)
theorem dX0_digest_281 : decode cX0_digest 281 = .ok (.iaload, 1) := dk_46 (dk_at dksX0_digest_11 23 rfl rfl)
theorem dX0_digest_282 : decode cX0_digest 282 = .ok (.i2l, 1) := dk_133 (dk_at dksX0_digest_12 0 rfl rfl)
theorem dX0_digest_283 : decode cX0_digest 283 = .ok (.ladd, 1) := dk_97 (dk_at dksX0_digest_12 1 rfl rfl)
theorem dX0_digest_284 : decode cX0_digest 284 = .ok (.lstore_n 1, 1) := dk_64 (dk_at dksX0_digest_12 2 rfl rfl)
theorem dX0_digest_285 : decode cX0_digest 285 = .ok (.iinc 3 1, 3) := dk_132 3 1 (dk_at dksX0_digest_12 3 rfl rfl)
theorem dX0_digest_288 : decode cX0_digest 288 = .ok (.goto (-33), 3) := dk_167 255 223 (dk_at dksX0_digest_12 6 rfl rfl)
theorem dX0_digest_291 : decode cX0_digest 291 = .ok (.ldc2_w 336, 3) := dk_20 1 80 (dk_at dksX0_digest_12 9 rfl rfl)
theorem dX0_digest_294 : decode cX0_digest 294 = .ok (.ldc2_w 336, 3) := dk_20 1 80 (dk_at dksX0_digest_12 12 rfl rfl)
theorem dX0_digest_297 : decode cX0_digest 297 = .ok (.lload_n 1, 1) := dk_31 (dk_at dksX0_digest_12 15 rfl rfl)
theorem dX0_digest_298 : decode cX0_digest 298 = .ok (.lmul, 1) := dk_105 (dk_at dksX0_digest_12 16 rfl rfl)
theorem dX0_digest_299 : decode cX0_digest 299 = .ok (.aload_n 0, 1) := dk_42 (dk_at dksX0_digest_12 17 rfl rfl)
theorem dX0_digest_300 : decode cX0_digest 300 = .ok (.getfield 314, 3) := dk_180 1 58 (dk_at dksX0_digest_12 18 rfl rfl)
theorem dX0_digest_303 : decode cX0_digest 303 = .ok (.ladd, 1) := dk_97 (dk_at dksX0_digest_12 21 rfl rfl)
theorem dX0_digest_304 : decode cX0_digest 304 = .ok (.lmul, 1) := dk_105 (dk_at dksX0_digest_12 22 rfl rfl)
theorem dX0_digest_305 : decode cX0_digest 305 = .ok (.aload_n 0, 1) := dk_42 (dk_at dksX0_digest_12 23 rfl rfl)
theorem dX0_digest_306 : decode cX0_digest 306 = .ok (.getfield 38, 3) := dk_180 0 38 (dk_at dksX0_digest_13 0 rfl rfl)
theorem dX0_digest_309 : decode cX0_digest 309 = .ok (.ladd, 1) := dk_97 (dk_at dksX0_digest_13 3 rfl rfl)
theorem dX0_digest_310 : decode cX0_digest 310 = .ok (.lreturn, 1) := dk_173 (dk_at dksX0_digest_13 4 rfl rfl)
theorem q61 : (Jvm.Cond.initialized "LaneCymbals") ∈ lw_all := lw_g (lw_at lw_m1 1 rfl) rfl
theorem q78 : (Jvm.Cond.instantiable "LaneCymbals" (12 : Nat)) ∈ lw_all := lw_g (lw_at lw_m1 18 rfl) rfl
theorem q80 : (Jvm.Cond.instanceMethod ({ cls := "LaneCymbals", name := "<init>", desc := "()V" } : Jvm.MethodName)) ∈ lw_all := lw_g (lw_at lw_m1 20 rfl) rfl
theorem q81 : (Jvm.Cond.code ({ cls := "LaneCymbals", name := "<init>", desc := "()V" } : Jvm.MethodName) prog_1_method_2_code (1 : Nat) (Option.none : Option Jvm.ClassFile.FieldType)) ∈ lw_all := lw_g (lw_at lw_m1 21 rfl) rfl
theorem q82 : (Jvm.Cond.methodLink "LaneCymbals" (1 : Nat) ({ cls := "java/lang/Object", name := "<init>", desc := "()V" } : Jvm.MethodName)) ∈ lw_all := lw_g (lw_at lw_m1 22 rfl) rfl
theorem q85 : (Jvm.Cond.classLink "LaneCymbals" (7 : Nat) "LaneCymbals$Lane") ∈ lw_all := lw_g (lw_at lw_m1 25 rfl) rfl
theorem q87 : (Jvm.Cond.methodLinkNest "LaneCymbals" (9 : Nat) ({ cls := "LaneCymbals$Lane", name := "<init>", desc := "()V" } : Jvm.MethodName) "LaneCymbals") ∈ lw_tbl := lw_at lw_m1 27 rfl
theorem q103 : (Jvm.Cond.fieldLinkNest "LaneCymbals" (164 : Nat) "LaneCymbals$State" "swings" "[I" "LaneCymbals") ∈ lw_tbl := lw_at lw_m1 43 rfl
theorem q107 : (Jvm.Cond.fieldLinkNest "LaneCymbals" (173 : Nat) "LaneCymbals$State" "there" "I" "LaneCymbals") ∈ lw_tbl := lw_at lw_m1 47 rfl
theorem q110 : (Jvm.Cond.fieldLinkNest "LaneCymbals" (158 : Nat) "LaneCymbals$State" "noise" "I" "LaneCymbals") ∈ lw_tbl := lw_at lw_m1 50 rfl
theorem q113 : (Jvm.Cond.fieldLinkNest "LaneCymbals" (151 : Nat) "LaneCymbals$State" "count" "I" "LaneCymbals") ∈ lw_tbl := lw_at lw_m1 53 rfl
theorem q126 : (Jvm.Cond.fieldLinkNest "LaneCymbals" (102 : Nat) "LaneCymbals$Lane" "wide" "I" "LaneCymbals") ∈ lw_tbl := lw_at lw_m1 66 rfl
theorem q128 : (Jvm.Cond.fieldLinkNest "LaneCymbals" (184 : Nat) "LaneCymbals$Lane" "people" "[LLaneCymbals$One;" "LaneCymbals") ∈ lw_tbl := lw_at lw_m1 68 rfl
theorem q131 : (Jvm.Cond.fieldLinkNest "LaneCymbals" (193 : Nat) "LaneCymbals$Lane" "houses" "[I" "LaneCymbals") ∈ lw_tbl := lw_at lw_m1 71 rfl
theorem q135 : (Jvm.Cond.fieldLinkNest "LaneCymbals" (87 : Nat) "LaneCymbals$Lane" "many" "I" "LaneCymbals") ∈ lw_tbl := lw_at lw_m1 75 rfl
theorem q137 : (Jvm.Cond.fieldLinkNest "LaneCymbals" (196 : Nat) "LaneCymbals$Lane" "aunts" "[LLaneCymbals$Aunt;" "LaneCymbals") ∈ lw_tbl := lw_at lw_m1 77 rfl
theorem q139 : (Jvm.Cond.fieldLinkNest "LaneCymbals" (203 : Nat) "LaneCymbals$Lane" "sides" "[I" "LaneCymbals") ∈ lw_tbl := lw_at lw_m1 79 rfl
theorem q142 : (Jvm.Cond.fieldLinkNest "LaneCymbals" (91 : Nat) "LaneCymbals$Lane" "dampers" "I" "LaneCymbals") ∈ lw_tbl := lw_at lw_m1 82 rfl
theorem q144 : (Jvm.Cond.fieldLinkNest "LaneCymbals" (251 : Nat) "LaneCymbals$Lane" "heard" "[I" "LaneCymbals") ∈ lw_tbl := lw_at lw_m1 84 rfl
theorem q146 : (Jvm.Cond.fieldLinkNest "LaneCymbals" (248 : Nat) "LaneCymbals$Lane" "hears" "I" "LaneCymbals") ∈ lw_tbl := lw_at lw_m1 86 rfl
theorem q148 : (Jvm.Cond.fieldLinkNest "LaneCymbals" (276 : Nat) "LaneCymbals$Lane" "notes" "[I" "LaneCymbals") ∈ lw_tbl := lw_at lw_m1 88 rfl
theorem q150 : (Jvm.Cond.fieldLinkNest "LaneCymbals" (273 : Nat) "LaneCymbals$Lane" "noted" "I" "LaneCymbals") ∈ lw_tbl := lw_at lw_m1 90 rfl
theorem q152 : (Jvm.Cond.fieldLinkNest "LaneCymbals" (282 : Nat) "LaneCymbals$Lane" "marks" "[I" "LaneCymbals") ∈ lw_tbl := lw_at lw_m1 92 rfl
theorem q154 : (Jvm.Cond.fieldLinkNest "LaneCymbals" (279 : Nat) "LaneCymbals$Lane" "marked" "I" "LaneCymbals") ∈ lw_tbl := lw_at lw_m1 94 rfl
theorem q158 : (Jvm.Cond.fieldLinkNest "LaneCymbals" (148 : Nat) "LaneCymbals$Lane" "now" "LLaneCymbals$State;" "LaneCymbals") ∈ lw_tbl := lw_at lw_m1 98 rfl
theorem q160 : (Jvm.Cond.fieldLinkNest "LaneCymbals" (176 : Nat) "LaneCymbals$Lane" "was" "[LLaneCymbals$State;" "LaneCymbals") ∈ lw_tbl := lw_at lw_m1 100 rfl
theorem q162 : (Jvm.Cond.fieldLinkNest "LaneCymbals" (105 : Nat) "LaneCymbals$Lane" "undos" "I" "LaneCymbals") ∈ lw_tbl := lw_at lw_m1 102 rfl
theorem q197 : (Jvm.Cond.classLink "LaneCymbals" (23 : Nat) "LaneCymbals$State") ∈ lw_all := lw_g (lw_at lw_m1 137 rfl) rfl
theorem q198 : (Jvm.Cond.methodLinkNest "LaneCymbals" (25 : Nat) ({ cls := "LaneCymbals$State", name := "<init>", desc := "()V" } : Jvm.MethodName) "LaneCymbals") ∈ lw_tbl := lw_at lw_m1 138 rfl
theorem q199 : (Jvm.Cond.classLink "LaneCymbals" (42 : Nat) "LaneCymbals$Reader") ∈ lw_all := lw_g (lw_at lw_m1 139 rfl) rfl
theorem q201 : (Jvm.Cond.methodLinkNest "LaneCymbals" (44 : Nat) ({ cls := "LaneCymbals$Reader", name := "<init>", desc := "(LLaneCymbals;)V" } : Jvm.MethodName) "LaneCymbals") ∈ lw_tbl := lw_at lw_m1 141 rfl
theorem q225 : (Jvm.Cond.classLink "LaneCymbals" (51 : Nat) "LaneCymbals$Weddings") ∈ lw_all := lw_g (lw_at lw_m1 165 rfl) rfl
theorem q227 : (Jvm.Cond.methodLinkNest "LaneCymbals" (53 : Nat) ({ cls := "LaneCymbals$Weddings", name := "<init>", desc := "(LLaneCymbals;)V" } : Jvm.MethodName) "LaneCymbals") ∈ lw_tbl := lw_at lw_m1 167 rfl
theorem q233 : (Jvm.Cond.fieldLinkNest "LaneCymbals" (245 : Nat) "LaneCymbals$Weddings" "found" "[I" "LaneCymbals") ∈ lw_tbl := lw_at lw_m1 173 rfl
theorem q235 : (Jvm.Cond.fieldLinkNest "LaneCymbals" (242 : Nat) "LaneCymbals$Weddings" "most" "I" "LaneCymbals") ∈ lw_tbl := lw_at lw_m1 175 rfl
theorem q246 : (Jvm.Cond.methodLink "LaneCymbals" (61 : Nat) ({ cls := "LaneCymbals$Lane", name := "begins", desc := "(I)V" } : Jvm.MethodName)) ∈ lw_all := lw_g (lw_at lw_m1 186 rfl) rfl
theorem q250 : (Jvm.Cond.fieldLink "LaneCymbals" (10 : Nat) "LaneCymbals" "lane" "LLaneCymbals$Lane;") ∈ lw_all := lw_g (lw_at lw_m1 190 rfl) rfl
theorem q252 : (Jvm.Cond.fieldLink "LaneCymbals" (16 : Nat) "LaneCymbals" "aside" "LLaneCymbals$Lane;") ∈ lw_all := lw_g (lw_at lw_m1 192 rfl) rfl
theorem q254 : (Jvm.Cond.fieldLink "LaneCymbals" (19 : Nat) "LaneCymbals" "images" "[LLaneCymbals$Lane;") ∈ lw_all := lw_g (lw_at lw_m1 194 rfl) rfl
theorem q255 : (Jvm.Cond.fieldLink "LaneCymbals" (26 : Nat) "LaneCymbals" "trial" "LLaneCymbals$State;") ∈ lw_all := lw_g (lw_at lw_m1 195 rfl) rfl
theorem q257 : (Jvm.Cond.fieldLink "LaneCymbals" (30 : Nat) "LaneCymbals" "text" "[B") ∈ lw_all := lw_g (lw_at lw_m1 197 rfl) rfl
theorem q259 : (Jvm.Cond.fieldLink "LaneCymbals" (130 : Nat) "LaneCymbals" "typed" "I") ∈ lw_all := lw_g (lw_at lw_m1 199 rfl) rfl
theorem q260 : (Jvm.Cond.fieldLink "LaneCymbals" (34 : Nat) "LaneCymbals" "refused" "[I") ∈ lw_all := lw_g (lw_at lw_m1 200 rfl) rfl
theorem q261 : (Jvm.Cond.fieldLink "LaneCymbals" (314 : Nat) "LaneCymbals" "above" "J") ∈ lw_all := lw_g (lw_at lw_m1 201 rfl) rfl
theorem q262 : (Jvm.Cond.fieldLink "LaneCymbals" (38 : Nat) "LaneCymbals" "below" "J") ∈ lw_all := lw_g (lw_at lw_m1 202 rfl) rfl
theorem q263 : (Jvm.Cond.fieldLink "LaneCymbals" (47 : Nat) "LaneCymbals" "reader" "LLaneCymbals$Reader;") ∈ lw_all := lw_g (lw_at lw_m1 203 rfl) rfl
theorem q264 : (Jvm.Cond.fieldLink "LaneCymbals" (54 : Nat) "LaneCymbals" "weddings" "LLaneCymbals$Weddings;") ∈ lw_all := lw_g (lw_at lw_m1 204 rfl) rfl
theorem q265 : (Jvm.Cond.fieldLink "LaneCymbals" (58 : Nat) "LaneCymbals" "sounds" "[I") ∈ lw_all := lw_g (lw_at lw_m1 205 rfl) rfl
theorem q266 : (Jvm.Cond.laysFinal "LaneCymbals" "LaneCymbals" "lane" "LLaneCymbals$Lane;") ∈ lw_all := lw_g (lw_at lw_m1 206 rfl) rfl
theorem q267 : (Jvm.Cond.soleField "LaneCymbals" "lane") ∈ lw_all := lw_g (lw_at lw_m1 207 rfl) rfl
theorem q268 : (Jvm.Cond.laysFinal "LaneCymbals" "LaneCymbals" "aside" "LLaneCymbals$Lane;") ∈ lw_all := lw_g (lw_at lw_m1 208 rfl) rfl
theorem q269 : (Jvm.Cond.soleField "LaneCymbals" "aside") ∈ lw_all := lw_g (lw_at lw_m1 209 rfl) rfl
theorem q270 : (Jvm.Cond.laysFinal "LaneCymbals" "LaneCymbals" "images" "[LLaneCymbals$Lane;") ∈ lw_all := lw_g (lw_at lw_m1 210 rfl) rfl
theorem q271 : (Jvm.Cond.soleField "LaneCymbals" "images") ∈ lw_all := lw_g (lw_at lw_m1 211 rfl) rfl
theorem q272 : (Jvm.Cond.laysFinal "LaneCymbals" "LaneCymbals" "trial" "LLaneCymbals$State;") ∈ lw_all := lw_g (lw_at lw_m1 212 rfl) rfl
theorem q273 : (Jvm.Cond.soleField "LaneCymbals" "trial") ∈ lw_all := lw_g (lw_at lw_m1 213 rfl) rfl
theorem q274 : (Jvm.Cond.laysFinal "LaneCymbals" "LaneCymbals" "text" "[B") ∈ lw_all := lw_g (lw_at lw_m1 214 rfl) rfl
theorem q275 : (Jvm.Cond.soleField "LaneCymbals" "text") ∈ lw_all := lw_g (lw_at lw_m1 215 rfl) rfl
theorem q276 : (Jvm.Cond.lays "LaneCymbals" "LaneCymbals" "typed" "I") ∈ lw_all := lw_g (lw_at lw_m1 216 rfl) rfl
theorem q277 : (Jvm.Cond.soleField "LaneCymbals" "typed") ∈ lw_all := lw_g (lw_at lw_m1 217 rfl) rfl
theorem q278 : (Jvm.Cond.laysFinal "LaneCymbals" "LaneCymbals" "refused" "[I") ∈ lw_all := lw_g (lw_at lw_m1 218 rfl) rfl
theorem q279 : (Jvm.Cond.soleField "LaneCymbals" "refused") ∈ lw_all := lw_g (lw_at lw_m1 219 rfl) rfl
theorem q280 : (Jvm.Cond.lays "LaneCymbals" "LaneCymbals" "above" "J") ∈ lw_all := lw_g (lw_at lw_m1 220 rfl) rfl
theorem q281 : (Jvm.Cond.soleField "LaneCymbals" "above") ∈ lw_all := lw_g (lw_at lw_m1 221 rfl) rfl
theorem q282 : (Jvm.Cond.lays "LaneCymbals" "LaneCymbals" "below" "J") ∈ lw_all := lw_g (lw_at lw_m1 222 rfl) rfl
theorem q283 : (Jvm.Cond.soleField "LaneCymbals" "below") ∈ lw_all := lw_g (lw_at lw_m1 223 rfl) rfl
theorem q284 : (Jvm.Cond.laysFinal "LaneCymbals" "LaneCymbals" "reader" "LLaneCymbals$Reader;") ∈ lw_all := lw_g (lw_at lw_m1 224 rfl) rfl
theorem q285 : (Jvm.Cond.soleField "LaneCymbals" "reader") ∈ lw_all := lw_g (lw_at lw_m1 225 rfl) rfl
theorem q286 : (Jvm.Cond.laysFinal "LaneCymbals" "LaneCymbals" "weddings" "LLaneCymbals$Weddings;") ∈ lw_all := lw_g (lw_at lw_m1 226 rfl) rfl
theorem q287 : (Jvm.Cond.soleField "LaneCymbals" "weddings") ∈ lw_all := lw_g (lw_at lw_m1 227 rfl) rfl
theorem q288 : (Jvm.Cond.laysFinal "LaneCymbals" "LaneCymbals" "sounds" "[I") ∈ lw_all := lw_g (lw_at lw_m1 228 rfl) rfl
theorem q289 : (Jvm.Cond.soleField "LaneCymbals" "sounds") ∈ lw_all := lw_g (lw_at lw_m1 229 rfl) rfl
theorem q290 : (Jvm.Cond.superclass "LaneCymbals" "java/lang/Object") ∈ lw_all := lw_g (lw_at lw_m1 230 rfl) rfl
theorem q292 : (Jvm.Cond.instanceMethod ({ cls := "LaneCymbals", name := "lane", desc := "(I)I" } : Jvm.MethodName)) ∈ lw_all := lw_g (lw_at lw_m1 232 rfl) rfl
theorem q293 : (Jvm.Cond.selects "LaneCymbals" ({ cls := "LaneCymbals", name := "lane", desc := "(I)I" } : Jvm.MethodName) ({ cls := "LaneCymbals", name := "lane", desc := "(I)I" } : Jvm.MethodName)) ∈ lw_all := lw_g (lw_at lw_m1 233 rfl) rfl
theorem q294 : (Jvm.Cond.code ({ cls := "LaneCymbals", name := "lane", desc := "(I)I" } : Jvm.MethodName) prog_1_method_16_code (3 : Nat) (Option.some Jvm.ClassFile.FieldType.int)) ∈ lw_all := lw_g (lw_at lw_m1 234 rfl) rfl
theorem q295 : (Jvm.Cond.methodLink "LaneCymbals" (94 : Nat) ({ cls := "LaneCymbals", name := "isWide", desc := "(I)Z" } : Jvm.MethodName)) ∈ lw_all := lw_g (lw_at lw_m1 235 rfl) rfl
theorem q296 : (Jvm.Cond.static ({ cls := "LaneCymbals", name := "isWide", desc := "(I)Z" } : Jvm.MethodName)) ∈ lw_all := lw_g (lw_at lw_m1 236 rfl) rfl
theorem q297 : (Jvm.Cond.code ({ cls := "LaneCymbals", name := "isWide", desc := "(I)Z" } : Jvm.MethodName) prog_1_method_11_code (1 : Nat) (Option.some Jvm.ClassFile.FieldType.boolean)) ∈ lw_all := lw_g (lw_at lw_m1 237 rfl) rfl
theorem q298 : (Jvm.Cond.constantLong "LaneCymbals" (77 : Nat) (4 : Int64)) ∈ lw_all := lw_g (lw_at lw_m1 238 rfl) rfl
theorem q299 : (Jvm.Cond.constantLong "LaneCymbals" (79 : Nat) (30 : Int64)) ∈ lw_all := lw_g (lw_at lw_m1 239 rfl) rfl
theorem q300 : (Jvm.Cond.methodLink "LaneCymbals" (71 : Nat) ({ cls := "LaneCymbals", name := "in", desc := "(JJJ)Z" } : Jvm.MethodName)) ∈ lw_all := lw_g (lw_at lw_m2 0 rfl) rfl
theorem q301 : (Jvm.Cond.static ({ cls := "LaneCymbals", name := "in", desc := "(JJJ)Z" } : Jvm.MethodName)) ∈ lw_all := lw_g (lw_at lw_m2 1 rfl) rfl
theorem q302 : (Jvm.Cond.code ({ cls := "LaneCymbals", name := "in", desc := "(JJJ)Z" } : Jvm.MethodName) prog_1_method_1_code (6 : Nat) (Option.some Jvm.ClassFile.FieldType.boolean)) ∈ lw_all := lw_g (lw_at lw_m2 2 rfl) rfl
theorem q303 : (Jvm.Cond.methodLink "LaneCymbals" (98 : Nat) ({ cls := "LaneCymbals", name := "bad", desc := "()I" } : Jvm.MethodName)) ∈ lw_all := lw_g (lw_at lw_m2 3 rfl) rfl
theorem q304 : (Jvm.Cond.privateMethod ({ cls := "LaneCymbals", name := "bad", desc := "()I" } : Jvm.MethodName)) ∈ lw_tbl := lw_at lw_m2 4 rfl
theorem q305 : (Jvm.Cond.instanceMethod ({ cls := "LaneCymbals", name := "bad", desc := "()I" } : Jvm.MethodName)) ∈ lw_all := lw_g (lw_at lw_m2 5 rfl) rfl
theorem q306 : (Jvm.Cond.code ({ cls := "LaneCymbals", name := "bad", desc := "()I" } : Jvm.MethodName) prog_1_method_4_code (1 : Nat) (Option.some Jvm.ClassFile.FieldType.int)) ∈ lw_all := lw_g (lw_at lw_m2 6 rfl) rfl
theorem q307 : (Jvm.Cond.methodLink "LaneCymbals" (65 : Nat) ({ cls := "LaneCymbals", name := "refuses", desc := "(II)I" } : Jvm.MethodName)) ∈ lw_all := lw_g (lw_at lw_m2 7 rfl) rfl
theorem q308 : (Jvm.Cond.privateMethod ({ cls := "LaneCymbals", name := "refuses", desc := "(II)I" } : Jvm.MethodName)) ∈ lw_tbl := lw_at lw_m2 8 rfl
theorem q309 : (Jvm.Cond.instanceMethod ({ cls := "LaneCymbals", name := "refuses", desc := "(II)I" } : Jvm.MethodName)) ∈ lw_all := lw_g (lw_at lw_m2 9 rfl) rfl
theorem q310 : (Jvm.Cond.code ({ cls := "LaneCymbals", name := "refuses", desc := "(II)I" } : Jvm.MethodName) prog_1_method_3_code (3 : Nat) (Option.some Jvm.ClassFile.FieldType.int)) ∈ lw_all := lw_g (lw_at lw_m2 10 rfl) rfl
theorem q312 : (Jvm.Cond.instanceMethod ({ cls := "LaneCymbals", name := "wide", desc := "(I)I" } : Jvm.MethodName)) ∈ lw_all := lw_g (lw_at lw_m2 12 rfl) rfl
theorem q313 : (Jvm.Cond.selects "LaneCymbals" ({ cls := "LaneCymbals", name := "wide", desc := "(I)I" } : Jvm.MethodName) ({ cls := "LaneCymbals", name := "wide", desc := "(I)I" } : Jvm.MethodName)) ∈ lw_all := lw_g (lw_at lw_m2 13 rfl) rfl
theorem q314 : (Jvm.Cond.code ({ cls := "LaneCymbals", name := "wide", desc := "(I)I" } : Jvm.MethodName) prog_1_method_17_code (3 : Nat) (Option.some Jvm.ClassFile.FieldType.int)) ∈ lw_all := lw_g (lw_at lw_m2 14 rfl) rfl
theorem q316 : (Jvm.Cond.instanceMethod ({ cls := "LaneCymbals", name := "one", desc := "(III)I" } : Jvm.MethodName)) ∈ lw_all := lw_g (lw_at lw_m2 16 rfl) rfl
theorem q317 : (Jvm.Cond.selects "LaneCymbals" ({ cls := "LaneCymbals", name := "one", desc := "(III)I" } : Jvm.MethodName) ({ cls := "LaneCymbals", name := "one", desc := "(III)I" } : Jvm.MethodName)) ∈ lw_all := lw_g (lw_at lw_m2 17 rfl) rfl
theorem q318 : (Jvm.Cond.code ({ cls := "LaneCymbals", name := "one", desc := "(III)I" } : Jvm.MethodName) prog_1_method_18_code (4 : Nat) (Option.some Jvm.ClassFile.FieldType.int)) ∈ lw_all := lw_g (lw_at lw_m2 18 rfl) rfl
theorem q319 : (Jvm.Cond.methodLink "LaneCymbals" (108 : Nat) ({ cls := "LaneCymbals", name := "isKind", desc := "(I)Z" } : Jvm.MethodName)) ∈ lw_all := lw_g (lw_at lw_m2 19 rfl) rfl
theorem q320 : (Jvm.Cond.static ({ cls := "LaneCymbals", name := "isKind", desc := "(I)Z" } : Jvm.MethodName)) ∈ lw_all := lw_g (lw_at lw_m2 20 rfl) rfl
theorem q321 : (Jvm.Cond.code ({ cls := "LaneCymbals", name := "isKind", desc := "(I)Z" } : Jvm.MethodName) prog_1_method_8_code (1 : Nat) (Option.some Jvm.ClassFile.FieldType.boolean)) ∈ lw_all := lw_g (lw_at lw_m2 21 rfl) rfl
theorem q322 : (Jvm.Cond.constantLong "LaneCymbals" (69 : Nat) (5 : Int64)) ∈ lw_all := lw_g (lw_at lw_m2 22 rfl) rfl
theorem q323 : (Jvm.Cond.methodLink "LaneCymbals" (111 : Nat) ({ cls := "LaneCymbals", name := "isHouse", desc := "(I)Z" } : Jvm.MethodName)) ∈ lw_all := lw_g (lw_at lw_m2 23 rfl) rfl
theorem q324 : (Jvm.Cond.static ({ cls := "LaneCymbals", name := "isHouse", desc := "(I)Z" } : Jvm.MethodName)) ∈ lw_all := lw_g (lw_at lw_m2 24 rfl) rfl
theorem q325 : (Jvm.Cond.code ({ cls := "LaneCymbals", name := "isHouse", desc := "(I)Z" } : Jvm.MethodName) prog_1_method_9_code (1 : Nat) (Option.some Jvm.ClassFile.FieldType.boolean)) ∈ lw_all := lw_g (lw_at lw_m2 25 rfl) rfl
theorem q326 : (Jvm.Cond.methodLink "LaneCymbals" (114 : Nat) ({ cls := "LaneCymbals", name := "isSwing", desc := "(I)Z" } : Jvm.MethodName)) ∈ lw_all := lw_g (lw_at lw_m2 26 rfl) rfl
theorem q327 : (Jvm.Cond.static ({ cls := "LaneCymbals", name := "isSwing", desc := "(I)Z" } : Jvm.MethodName)) ∈ lw_all := lw_g (lw_at lw_m2 27 rfl) rfl
theorem q328 : (Jvm.Cond.code ({ cls := "LaneCymbals", name := "isSwing", desc := "(I)Z" } : Jvm.MethodName) prog_1_method_10_code (1 : Nat) (Option.some Jvm.ClassFile.FieldType.boolean)) ∈ lw_all := lw_g (lw_at lw_m2 28 rfl) rfl
theorem q329 : (Jvm.Cond.constantLong "LaneCymbals" (75 : Nat) (9 : Int64)) ∈ lw_all := lw_g (lw_at lw_m2 29 rfl) rfl
theorem q330 : (Jvm.Cond.methodLink "LaneCymbals" (117 : Nat) ({ cls := "LaneCymbals", name := "full", desc := "()I" } : Jvm.MethodName)) ∈ lw_all := lw_g (lw_at lw_m2 30 rfl) rfl
theorem q331 : (Jvm.Cond.privateMethod ({ cls := "LaneCymbals", name := "full", desc := "()I" } : Jvm.MethodName)) ∈ lw_tbl := lw_at lw_m2 31 rfl
theorem q332 : (Jvm.Cond.instanceMethod ({ cls := "LaneCymbals", name := "full", desc := "()I" } : Jvm.MethodName)) ∈ lw_all := lw_g (lw_at lw_m2 32 rfl) rfl
theorem q333 : (Jvm.Cond.code ({ cls := "LaneCymbals", name := "full", desc := "()I" } : Jvm.MethodName) prog_1_method_6_code (1 : Nat) (Option.some Jvm.ClassFile.FieldType.int)) ∈ lw_all := lw_g (lw_at lw_m2 33 rfl) rfl
theorem q334 : (Jvm.Cond.methodLink "LaneCymbals" (120 : Nat) ({ cls := "LaneCymbals$Lane", name := "adds", desc := "(III)V" } : Jvm.MethodName)) ∈ lw_all := lw_g (lw_at lw_m2 34 rfl) rfl
theorem q339 : (Jvm.Cond.laysStatic "LaneCymbals" "KIN" "[LLaneCymbals$One;") ∈ lw_tbl := lw_at lw_m2 39 rfl
theorem q341 : (Jvm.Cond.instanceMethod ({ cls := "LaneCymbals", name := "aunt", desc := "(II)I" } : Jvm.MethodName)) ∈ lw_all := lw_g (lw_at lw_m2 41 rfl) rfl
theorem q342 : (Jvm.Cond.selects "LaneCymbals" ({ cls := "LaneCymbals", name := "aunt", desc := "(II)I" } : Jvm.MethodName) ({ cls := "LaneCymbals", name := "aunt", desc := "(II)I" } : Jvm.MethodName)) ∈ lw_all := lw_g (lw_at lw_m2 42 rfl) rfl
theorem q343 : (Jvm.Cond.code ({ cls := "LaneCymbals", name := "aunt", desc := "(II)I" } : Jvm.MethodName) prog_1_method_19_code (3 : Nat) (Option.some Jvm.ClassFile.FieldType.int)) ∈ lw_all := lw_g (lw_at lw_m2 43 rfl) rfl
theorem q344 : (Jvm.Cond.methodLink "LaneCymbals" (124 : Nat) ({ cls := "LaneCymbals$Lane", name := "comes", desc := "(II)V" } : Jvm.MethodName)) ∈ lw_all := lw_g (lw_at lw_m2 44 rfl) rfl
theorem q349 : (Jvm.Cond.laysStatic "LaneCymbals" "DAMPERS" "[LLaneCymbals$Aunt;") ∈ lw_tbl := lw_at lw_m2 49 rfl
theorem q351 : (Jvm.Cond.instanceMethod ({ cls := "LaneCymbals", name := "type", desc := "(I)I" } : Jvm.MethodName)) ∈ lw_all := lw_g (lw_at lw_m2 51 rfl) rfl
theorem q352 : (Jvm.Cond.selects "LaneCymbals" ({ cls := "LaneCymbals", name := "type", desc := "(I)I" } : Jvm.MethodName) ({ cls := "LaneCymbals", name := "type", desc := "(I)I" } : Jvm.MethodName)) ∈ lw_all := lw_g (lw_at lw_m2 52 rfl) rfl
theorem q353 : (Jvm.Cond.code ({ cls := "LaneCymbals", name := "type", desc := "(I)I" } : Jvm.MethodName) prog_1_method_20_code (2 : Nat) (Option.some Jvm.ClassFile.FieldType.int)) ∈ lw_all := lw_g (lw_at lw_m2 53 rfl) rfl
theorem q354 : (Jvm.Cond.constantLong "LaneCymbals" (128 : Nat) (127 : Int64)) ∈ lw_all := lw_g (lw_at lw_m2 54 rfl) rfl
theorem q356 : (Jvm.Cond.instanceMethod ({ cls := "LaneCymbals", name := "clear", desc := "()I" } : Jvm.MethodName)) ∈ lw_all := lw_g (lw_at lw_m2 56 rfl) rfl
theorem q357 : (Jvm.Cond.selects "LaneCymbals" ({ cls := "LaneCymbals", name := "clear", desc := "()I" } : Jvm.MethodName) ({ cls := "LaneCymbals", name := "clear", desc := "()I" } : Jvm.MethodName)) ∈ lw_all := lw_g (lw_at lw_m2 57 rfl) rfl
theorem q358 : (Jvm.Cond.code ({ cls := "LaneCymbals", name := "clear", desc := "()I" } : Jvm.MethodName) prog_1_method_21_code (2 : Nat) (Option.some Jvm.ClassFile.FieldType.int)) ∈ lw_all := lw_g (lw_at lw_m2 58 rfl) rfl
theorem q360 : (Jvm.Cond.instanceMethod ({ cls := "LaneCymbals", name := "read", desc := "()I" } : Jvm.MethodName)) ∈ lw_all := lw_g (lw_at lw_m2 60 rfl) rfl
theorem q361 : (Jvm.Cond.selects "LaneCymbals" ({ cls := "LaneCymbals", name := "read", desc := "()I" } : Jvm.MethodName) ({ cls := "LaneCymbals", name := "read", desc := "()I" } : Jvm.MethodName)) ∈ lw_all := lw_g (lw_at lw_m2 61 rfl) rfl
theorem q362 : (Jvm.Cond.codeWith ({ cls := "LaneCymbals", name := "read", desc := "()I" } : Jvm.MethodName) prog_1_method_22_code (2 : Nat) (Option.some Jvm.ClassFile.FieldType.int) [((0 : Nat), (20 : Nat), (21 : Nat), (140 : Nat))]) ∈ lw_all := lw_g (lw_at lw_m2 62 rfl) rfl
theorem q363 : (Jvm.Cond.classLink "LaneCymbals" (140 : Nat) "LaneCymbals$Fault") ∈ lw_all := lw_g (lw_at lw_m2 63 rfl) rfl
theorem q364 : (Jvm.Cond.methodLink "LaneCymbals" (133 : Nat) ({ cls := "LaneCymbals$Reader", name := "reads", desc := "()I" } : Jvm.MethodName)) ∈ lw_all := lw_g (lw_at lw_m2 64 rfl) rfl
theorem q432 : (Jvm.Cond.fieldLinkNest "LaneCymbals" (142 : Nat) "LaneCymbals$Fault" "place" "I" "LaneCymbals") ∈ lw_tbl := lw_at lw_m2 132 rfl
theorem q600 : (Jvm.Cond.methodLink "LaneCymbals" (136 : Nat) ({ cls := "LaneCymbals$Lane", name := "takes", desc := "(LLaneCymbals$Lane;)V" } : Jvm.MethodName)) ∈ lw_all := lw_g (lw_at lw_m3 60 rfl) rfl
theorem q613 : (Jvm.Cond.instanceMethod ({ cls := "LaneCymbals", name := "counts", desc := "(I)I" } : Jvm.MethodName)) ∈ lw_all := lw_g (lw_at lw_m3 73 rfl) rfl
theorem q614 : (Jvm.Cond.selects "LaneCymbals" ({ cls := "LaneCymbals", name := "counts", desc := "(I)I" } : Jvm.MethodName) ({ cls := "LaneCymbals", name := "counts", desc := "(I)I" } : Jvm.MethodName)) ∈ lw_all := lw_g (lw_at lw_m3 74 rfl) rfl
theorem q615 : (Jvm.Cond.code ({ cls := "LaneCymbals", name := "counts", desc := "(I)I" } : Jvm.MethodName) prog_1_method_23_code (3 : Nat) (Option.some Jvm.ClassFile.FieldType.int)) ∈ lw_all := lw_g (lw_at lw_m3 75 rfl) rfl
theorem q616 : (Jvm.Cond.constantLong "LaneCymbals" (81 : Nat) (99 : Int64)) ∈ lw_all := lw_g (lw_at lw_m3 76 rfl) rfl
theorem q617 : (Jvm.Cond.methodLink "LaneCymbals" (145 : Nat) ({ cls := "LaneCymbals$Lane", name := "remembers", desc := "()V" } : Jvm.MethodName)) ∈ lw_all := lw_g (lw_at lw_m3 77 rfl) rfl
theorem q621 : (Jvm.Cond.methodLink "LaneCymbals" (154 : Nat) ({ cls := "LaneCymbals$Lane", name := "passes", desc := "(LLaneCymbals$State;)V" } : Jvm.MethodName)) ∈ lw_all := lw_g (lw_at lw_m3 81 rfl) rfl
theorem q623 : (Jvm.Cond.instanceMethod ({ cls := "LaneCymbals", name := "swings", desc := "(II)I" } : Jvm.MethodName)) ∈ lw_all := lw_g (lw_at lw_m3 83 rfl) rfl
theorem q624 : (Jvm.Cond.selects "LaneCymbals" ({ cls := "LaneCymbals", name := "swings", desc := "(II)I" } : Jvm.MethodName) ({ cls := "LaneCymbals", name := "swings", desc := "(II)I" } : Jvm.MethodName)) ∈ lw_all := lw_g (lw_at lw_m3 84 rfl) rfl
theorem q625 : (Jvm.Cond.code ({ cls := "LaneCymbals", name := "swings", desc := "(II)I" } : Jvm.MethodName) prog_1_method_24_code (4 : Nat) (Option.some Jvm.ClassFile.FieldType.int)) ∈ lw_all := lw_g (lw_at lw_m3 85 rfl) rfl
theorem q626 : (Jvm.Cond.methodLink "LaneCymbals" (161 : Nat) ({ cls := "LaneCymbals", name := "isOne", desc := "(I)Z" } : Jvm.MethodName)) ∈ lw_all := lw_g (lw_at lw_m3 86 rfl) rfl
theorem q627 : (Jvm.Cond.privateMethod ({ cls := "LaneCymbals", name := "isOne", desc := "(I)Z" } : Jvm.MethodName)) ∈ lw_tbl := lw_at lw_m3 87 rfl
theorem q628 : (Jvm.Cond.instanceMethod ({ cls := "LaneCymbals", name := "isOne", desc := "(I)Z" } : Jvm.MethodName)) ∈ lw_all := lw_g (lw_at lw_m3 88 rfl) rfl
theorem q629 : (Jvm.Cond.code ({ cls := "LaneCymbals", name := "isOne", desc := "(I)Z" } : Jvm.MethodName) prog_1_method_14_code (2 : Nat) (Option.some Jvm.ClassFile.FieldType.boolean)) ∈ lw_all := lw_g (lw_at lw_m3 89 rfl) rfl
theorem q630 : (Jvm.Cond.methodLink "LaneCymbals" (167 : Nat) ({ cls := "LaneCymbals", name := "no", desc := "()I" } : Jvm.MethodName)) ∈ lw_all := lw_g (lw_at lw_m3 90 rfl) rfl
theorem q631 : (Jvm.Cond.privateMethod ({ cls := "LaneCymbals", name := "no", desc := "()I" } : Jvm.MethodName)) ∈ lw_tbl := lw_at lw_m3 91 rfl
theorem q632 : (Jvm.Cond.instanceMethod ({ cls := "LaneCymbals", name := "no", desc := "()I" } : Jvm.MethodName)) ∈ lw_all := lw_g (lw_at lw_m3 92 rfl) rfl
theorem q633 : (Jvm.Cond.code ({ cls := "LaneCymbals", name := "no", desc := "()I" } : Jvm.MethodName) prog_1_method_5_code (1 : Nat) (Option.some Jvm.ClassFile.FieldType.int)) ∈ lw_all := lw_g (lw_at lw_m3 93 rfl) rfl
theorem q635 : (Jvm.Cond.instanceMethod ({ cls := "LaneCymbals", name := "sends", desc := "(II)I" } : Jvm.MethodName)) ∈ lw_all := lw_g (lw_at lw_m3 95 rfl) rfl
theorem q636 : (Jvm.Cond.selects "LaneCymbals" ({ cls := "LaneCymbals", name := "sends", desc := "(II)I" } : Jvm.MethodName) ({ cls := "LaneCymbals", name := "sends", desc := "(II)I" } : Jvm.MethodName)) ∈ lw_all := lw_g (lw_at lw_m3 96 rfl) rfl
theorem q637 : (Jvm.Cond.code ({ cls := "LaneCymbals", name := "sends", desc := "(II)I" } : Jvm.MethodName) prog_1_method_25_code (4 : Nat) (Option.some Jvm.ClassFile.FieldType.int)) ∈ lw_all := lw_g (lw_at lw_m3 97 rfl) rfl
theorem q638 : (Jvm.Cond.methodLink "LaneCymbals" (170 : Nat) ({ cls := "LaneCymbals", name := "isAunt", desc := "(I)Z" } : Jvm.MethodName)) ∈ lw_all := lw_g (lw_at lw_m3 98 rfl) rfl
theorem q639 : (Jvm.Cond.privateMethod ({ cls := "LaneCymbals", name := "isAunt", desc := "(I)Z" } : Jvm.MethodName)) ∈ lw_tbl := lw_at lw_m3 99 rfl
theorem q640 : (Jvm.Cond.instanceMethod ({ cls := "LaneCymbals", name := "isAunt", desc := "(I)Z" } : Jvm.MethodName)) ∈ lw_all := lw_g (lw_at lw_m3 100 rfl) rfl
theorem q641 : (Jvm.Cond.code ({ cls := "LaneCymbals", name := "isAunt", desc := "(I)Z" } : Jvm.MethodName) prog_1_method_15_code (2 : Nat) (Option.some Jvm.ClassFile.FieldType.boolean)) ∈ lw_all := lw_g (lw_at lw_m3 101 rfl) rfl
theorem q643 : (Jvm.Cond.instanceMethod ({ cls := "LaneCymbals", name := "undo", desc := "()I" } : Jvm.MethodName)) ∈ lw_all := lw_g (lw_at lw_m3 103 rfl) rfl
theorem q644 : (Jvm.Cond.selects "LaneCymbals" ({ cls := "LaneCymbals", name := "undo", desc := "()I" } : Jvm.MethodName) ({ cls := "LaneCymbals", name := "undo", desc := "()I" } : Jvm.MethodName)) ∈ lw_all := lw_g (lw_at lw_m3 104 rfl) rfl
theorem q645 : (Jvm.Cond.code ({ cls := "LaneCymbals", name := "undo", desc := "()I" } : Jvm.MethodName) prog_1_method_26_code (1 : Nat) (Option.some Jvm.ClassFile.FieldType.int)) ∈ lw_all := lw_g (lw_at lw_m3 105 rfl) rfl
theorem q646 : (Jvm.Cond.methodLink "LaneCymbals" (180 : Nat) ({ cls := "LaneCymbals$State", name := "takes", desc := "(LLaneCymbals$State;)V" } : Jvm.MethodName)) ∈ lw_all := lw_g (lw_at lw_m3 106 rfl) rfl
theorem q648 : (Jvm.Cond.instanceMethod ({ cls := "LaneCymbals", name := "of", desc := "(II)I" } : Jvm.MethodName)) ∈ lw_all := lw_g (lw_at lw_m3 108 rfl) rfl
theorem q649 : (Jvm.Cond.selects "LaneCymbals" ({ cls := "LaneCymbals", name := "of", desc := "(II)I" } : Jvm.MethodName) ({ cls := "LaneCymbals", name := "of", desc := "(II)I" } : Jvm.MethodName)) ∈ lw_all := lw_g (lw_at lw_m3 109 rfl) rfl
theorem q650 : (Jvm.Cond.code ({ cls := "LaneCymbals", name := "of", desc := "(II)I" } : Jvm.MethodName) prog_1_method_27_code (3 : Nat) (Option.some Jvm.ClassFile.FieldType.int)) ∈ lw_all := lw_g (lw_at lw_m3 110 rfl) rfl
theorem q651 : (Jvm.Cond.constantLong "LaneCymbals" (182 : Nat) (2 : Int64)) ∈ lw_all := lw_g (lw_at lw_m3 111 rfl) rfl
theorem q652 : (Jvm.Cond.methodLink "LaneCymbals" (188 : Nat) ({ cls := "LaneCymbals$One", name := "kind", desc := "()I" } : Jvm.MethodName)) ∈ lw_all := lw_g (lw_at lw_m3 112 rfl) rfl
theorem q673 : (Jvm.Cond.instanceMethod ({ cls := "LaneCymbals", name := "about", desc := "(II)I" } : Jvm.MethodName)) ∈ lw_all := lw_g (lw_at lw_m3 133 rfl) rfl
theorem q674 : (Jvm.Cond.selects "LaneCymbals" ({ cls := "LaneCymbals", name := "about", desc := "(II)I" } : Jvm.MethodName) ({ cls := "LaneCymbals", name := "about", desc := "(II)I" } : Jvm.MethodName)) ∈ lw_all := lw_g (lw_at lw_m3 134 rfl) rfl
theorem q675 : (Jvm.Cond.code ({ cls := "LaneCymbals", name := "about", desc := "(II)I" } : Jvm.MethodName) prog_1_method_28_code (3 : Nat) (Option.some Jvm.ClassFile.FieldType.int)) ∈ lw_all := lw_g (lw_at lw_m3 135 rfl) rfl
theorem q676 : (Jvm.Cond.methodLink "LaneCymbals" (200 : Nat) ({ cls := "LaneCymbals$Aunt", name := "kind", desc := "()I" } : Jvm.MethodName)) ∈ lw_all := lw_g (lw_at lw_m3 136 rfl) rfl
theorem q697 : (Jvm.Cond.instanceMethod ({ cls := "LaneCymbals", name := "leans", desc := "(III)I" } : Jvm.MethodName)) ∈ lw_all := lw_g (lw_at lw_m3 157 rfl) rfl
theorem q698 : (Jvm.Cond.selects "LaneCymbals" ({ cls := "LaneCymbals", name := "leans", desc := "(III)I" } : Jvm.MethodName) ({ cls := "LaneCymbals", name := "leans", desc := "(III)I" } : Jvm.MethodName)) ∈ lw_all := lw_g (lw_at lw_m3 158 rfl) rfl
theorem q699 : (Jvm.Cond.code ({ cls := "LaneCymbals", name := "leans", desc := "(III)I" } : Jvm.MethodName) prog_1_method_29_code (4 : Nat) (Option.some Jvm.ClassFile.FieldType.int)) ∈ lw_all := lw_g (lw_at lw_m3 159 rfl) rfl
theorem q700 : (Jvm.Cond.methodLink "LaneCymbals" (206 : Nat) ({ cls := "LaneCymbals", name := "isCount", desc := "(I)Z" } : Jvm.MethodName)) ∈ lw_all := lw_g (lw_at lw_m3 160 rfl) rfl
theorem q701 : (Jvm.Cond.static ({ cls := "LaneCymbals", name := "isCount", desc := "(I)Z" } : Jvm.MethodName)) ∈ lw_all := lw_g (lw_at lw_m3 161 rfl) rfl
theorem q702 : (Jvm.Cond.code ({ cls := "LaneCymbals", name := "isCount", desc := "(I)Z" } : Jvm.MethodName) prog_1_method_12_code (1 : Nat) (Option.some Jvm.ClassFile.FieldType.boolean)) ∈ lw_all := lw_g (lw_at lw_m3 162 rfl) rfl
theorem q703 : (Jvm.Cond.methodLink "LaneCymbals" (209 : Nat) ({ cls := "LaneCymbals$Lane", name := "leans", desc := "(LLaneCymbals$State;II)I" } : Jvm.MethodName)) ∈ lw_all := lw_g (lw_at lw_m3 163 rfl) rfl
theorem q704 : (Jvm.Cond.methodLink "LaneCymbals" (213 : Nat) ({ cls := "LaneCymbals$Lane", name := "leaning", desc := "(LLaneCymbals$State;II)I" } : Jvm.MethodName)) ∈ lw_all := lw_g (lw_at lw_m3 164 rfl) rfl
theorem q706 : (Jvm.Cond.instanceMethod ({ cls := "LaneCymbals", name := "sound", desc := "(I)I" } : Jvm.MethodName)) ∈ lw_all := lw_g (lw_at lw_m3 166 rfl) rfl
theorem q707 : (Jvm.Cond.selects "LaneCymbals" ({ cls := "LaneCymbals", name := "sound", desc := "(I)I" } : Jvm.MethodName) ({ cls := "LaneCymbals", name := "sound", desc := "(I)I" } : Jvm.MethodName)) ∈ lw_all := lw_g (lw_at lw_m3 167 rfl) rfl
theorem q708 : (Jvm.Cond.code ({ cls := "LaneCymbals", name := "sound", desc := "(I)I" } : Jvm.MethodName) prog_1_method_30_code (2 : Nat) (Option.some Jvm.ClassFile.FieldType.int)) ∈ lw_all := lw_g (lw_at lw_m3 168 rfl) rfl
theorem q709 : (Jvm.Cond.methodLink "LaneCymbals" (216 : Nat) ({ cls := "LaneCymbals$Lane", name := "sound", desc := "(LLaneCymbals$State;I)I" } : Jvm.MethodName)) ∈ lw_all := lw_g (lw_at lw_m3 169 rfl) rfl
theorem q711 : (Jvm.Cond.instanceMethod ({ cls := "LaneCymbals", name := "entry", desc := "()I" } : Jvm.MethodName)) ∈ lw_all := lw_g (lw_at lw_m3 171 rfl) rfl
theorem q712 : (Jvm.Cond.selects "LaneCymbals" ({ cls := "LaneCymbals", name := "entry", desc := "()I" } : Jvm.MethodName) ({ cls := "LaneCymbals", name := "entry", desc := "()I" } : Jvm.MethodName)) ∈ lw_all := lw_g (lw_at lw_m3 172 rfl) rfl
theorem q713 : (Jvm.Cond.code ({ cls := "LaneCymbals", name := "entry", desc := "()I" } : Jvm.MethodName) prog_1_method_31_code (2 : Nat) (Option.some Jvm.ClassFile.FieldType.int)) ∈ lw_all := lw_g (lw_at lw_m3 173 rfl) rfl
theorem q715 : (Jvm.Cond.instanceMethod ({ cls := "LaneCymbals", name := "then", desc := "(I)I" } : Jvm.MethodName)) ∈ lw_all := lw_g (lw_at lw_m3 175 rfl) rfl
theorem q716 : (Jvm.Cond.selects "LaneCymbals" ({ cls := "LaneCymbals", name := "then", desc := "(I)I" } : Jvm.MethodName) ({ cls := "LaneCymbals", name := "then", desc := "(I)I" } : Jvm.MethodName)) ∈ lw_all := lw_g (lw_at lw_m3 176 rfl) rfl
theorem q717 : (Jvm.Cond.code ({ cls := "LaneCymbals", name := "then", desc := "(I)I" } : Jvm.MethodName) prog_1_method_32_code (3 : Nat) (Option.some Jvm.ClassFile.FieldType.int)) ∈ lw_all := lw_g (lw_at lw_m3 177 rfl) rfl
theorem q718 : (Jvm.Cond.constantLong "LaneCymbals" (220 : Nat) (60 : Int64)) ∈ lw_all := lw_g (lw_at lw_m3 178 rfl) rfl
theorem q720 : (Jvm.Cond.instanceMethod ({ cls := "LaneCymbals", name := "still", desc := "(I)I" } : Jvm.MethodName)) ∈ lw_all := lw_g (lw_at lw_m3 180 rfl) rfl
theorem q721 : (Jvm.Cond.selects "LaneCymbals" ({ cls := "LaneCymbals", name := "still", desc := "(I)I" } : Jvm.MethodName) ({ cls := "LaneCymbals", name := "still", desc := "(I)I" } : Jvm.MethodName)) ∈ lw_all := lw_g (lw_at lw_m3 181 rfl) rfl
theorem q722 : (Jvm.Cond.code ({ cls := "LaneCymbals", name := "still", desc := "(I)I" } : Jvm.MethodName) prog_1_method_34_code (5 : Nat) (Option.some Jvm.ClassFile.FieldType.int)) ∈ lw_all := lw_g (lw_at lw_m3 182 rfl) rfl
theorem q723 : (Jvm.Cond.methodLink "LaneCymbals" (226 : Nat) ({ cls := "java/lang/Integer", name := "bitCount", desc := "(I)I" } : Jvm.MethodName)) ∈ lw_all := lw_g (lw_at lw_m3 183 rfl) rfl
theorem q729 : (Jvm.Cond.methodLink "LaneCymbals" (232 : Nat) ({ cls := "LaneCymbals", name := "isStill", desc := "(LLaneCymbals$State;II)Z" } : Jvm.MethodName)) ∈ lw_all := lw_g (lw_at lw_m3 189 rfl) rfl
theorem q730 : (Jvm.Cond.privateMethod ({ cls := "LaneCymbals", name := "isStill", desc := "(LLaneCymbals$State;II)Z" } : Jvm.MethodName)) ∈ lw_tbl := lw_at lw_m3 190 rfl
theorem q731 : (Jvm.Cond.instanceMethod ({ cls := "LaneCymbals", name := "isStill", desc := "(LLaneCymbals$State;II)Z" } : Jvm.MethodName)) ∈ lw_all := lw_g (lw_at lw_m3 191 rfl) rfl
theorem q732 : (Jvm.Cond.code ({ cls := "LaneCymbals", name := "isStill", desc := "(LLaneCymbals$State;II)Z" } : Jvm.MethodName) prog_1_method_33_code (6 : Nat) (Option.some Jvm.ClassFile.FieldType.boolean)) ∈ lw_all := lw_g (lw_at lw_m3 192 rfl) rfl
theorem q733 : (Jvm.Cond.methodLink "LaneCymbals" (222 : Nat) ({ cls := "LaneCymbals$Lane", name := "soundBut", desc := "(LLaneCymbals$State;III)I" } : Jvm.MethodName)) ∈ lw_all := lw_g (lw_at lw_m3 193 rfl) rfl
theorem q735 : (Jvm.Cond.instanceMethod ({ cls := "LaneCymbals", name := "push", desc := "(II)I" } : Jvm.MethodName)) ∈ lw_all := lw_g (lw_at lw_m3 195 rfl) rfl
theorem q736 : (Jvm.Cond.selects "LaneCymbals" ({ cls := "LaneCymbals", name := "push", desc := "(II)I" } : Jvm.MethodName) ({ cls := "LaneCymbals", name := "push", desc := "(II)I" } : Jvm.MethodName)) ∈ lw_all := lw_g (lw_at lw_m3 196 rfl) rfl
theorem q737 : (Jvm.Cond.code ({ cls := "LaneCymbals", name := "push", desc := "(II)I" } : Jvm.MethodName) prog_1_method_35_code (4 : Nat) (Option.some Jvm.ClassFile.FieldType.int)) ∈ lw_all := lw_g (lw_at lw_m3 197 rfl) rfl
theorem q739 : (Jvm.Cond.instanceMethod ({ cls := "LaneCymbals", name := "widest", desc := "()I" } : Jvm.MethodName)) ∈ lw_all := lw_g (lw_at lw_m3 199 rfl) rfl
theorem q740 : (Jvm.Cond.selects "LaneCymbals" ({ cls := "LaneCymbals", name := "widest", desc := "()I" } : Jvm.MethodName) ({ cls := "LaneCymbals", name := "widest", desc := "()I" } : Jvm.MethodName)) ∈ lw_all := lw_g (lw_at lw_m3 200 rfl) rfl
theorem q741 : (Jvm.Cond.code ({ cls := "LaneCymbals", name := "widest", desc := "()I" } : Jvm.MethodName) prog_1_method_36_code (2 : Nat) (Option.some Jvm.ClassFile.FieldType.int)) ∈ lw_all := lw_g (lw_at lw_m3 201 rfl) rfl
theorem q743 : (Jvm.Cond.instanceMethod ({ cls := "LaneCymbals", name := "wrong", desc := "(I)I" } : Jvm.MethodName)) ∈ lw_all := lw_g (lw_at lw_m3 203 rfl) rfl
theorem q744 : (Jvm.Cond.selects "LaneCymbals" ({ cls := "LaneCymbals", name := "wrong", desc := "(I)I" } : Jvm.MethodName) ({ cls := "LaneCymbals", name := "wrong", desc := "(I)I" } : Jvm.MethodName)) ∈ lw_all := lw_g (lw_at lw_m3 204 rfl) rfl
theorem q745 : (Jvm.Cond.code ({ cls := "LaneCymbals", name := "wrong", desc := "(I)I" } : Jvm.MethodName) prog_1_method_37_code (5 : Nat) (Option.some Jvm.ClassFile.FieldType.int)) ∈ lw_all := lw_g (lw_at lw_m3 205 rfl) rfl
theorem q747 : (Jvm.Cond.instanceMethod ({ cls := "LaneCymbals", name := "marry", desc := "(I)I" } : Jvm.MethodName)) ∈ lw_all := lw_g (lw_at lw_m3 207 rfl) rfl
theorem q748 : (Jvm.Cond.selects "LaneCymbals" ({ cls := "LaneCymbals", name := "marry", desc := "(I)I" } : Jvm.MethodName) ({ cls := "LaneCymbals", name := "marry", desc := "(I)I" } : Jvm.MethodName)) ∈ lw_all := lw_g (lw_at lw_m3 208 rfl) rfl
theorem q749 : (Jvm.Cond.code ({ cls := "LaneCymbals", name := "marry", desc := "(I)I" } : Jvm.MethodName) prog_1_method_38_code (2 : Nat) (Option.some Jvm.ClassFile.FieldType.int)) ∈ lw_all := lw_g (lw_at lw_m3 209 rfl) rfl
theorem q750 : (Jvm.Cond.methodLink "LaneCymbals" (236 : Nat) ({ cls := "LaneCymbals", name := "badAsk", desc := "()I" } : Jvm.MethodName)) ∈ lw_all := lw_g (lw_at lw_m3 210 rfl) rfl
theorem q751 : (Jvm.Cond.privateMethod ({ cls := "LaneCymbals", name := "badAsk", desc := "()I" } : Jvm.MethodName)) ∈ lw_tbl := lw_at lw_m3 211 rfl
theorem q752 : (Jvm.Cond.instanceMethod ({ cls := "LaneCymbals", name := "badAsk", desc := "()I" } : Jvm.MethodName)) ∈ lw_all := lw_g (lw_at lw_m3 212 rfl) rfl
theorem q753 : (Jvm.Cond.code ({ cls := "LaneCymbals", name := "badAsk", desc := "()I" } : Jvm.MethodName) prog_1_method_7_code (1 : Nat) (Option.some Jvm.ClassFile.FieldType.int)) ∈ lw_all := lw_g (lw_at lw_m3 213 rfl) rfl
theorem q754 : (Jvm.Cond.methodLink "LaneCymbals" (239 : Nat) ({ cls := "LaneCymbals$Weddings", name := "goes", desc := "()V" } : Jvm.MethodName)) ∈ lw_all := lw_g (lw_at lw_m3 214 rfl) rfl
theorem q772 : (Jvm.Cond.instanceMethod ({ cls := "LaneCymbals", name := "heard", desc := "(II)I" } : Jvm.MethodName)) ∈ lw_all := lw_g (lw_at lw_m3 232 rfl) rfl
theorem q773 : (Jvm.Cond.selects "LaneCymbals" ({ cls := "LaneCymbals", name := "heard", desc := "(II)I" } : Jvm.MethodName) ({ cls := "LaneCymbals", name := "heard", desc := "(II)I" } : Jvm.MethodName)) ∈ lw_all := lw_g (lw_at lw_m3 233 rfl) rfl
theorem q774 : (Jvm.Cond.code ({ cls := "LaneCymbals", name := "heard", desc := "(II)I" } : Jvm.MethodName) prog_1_method_39_code (3 : Nat) (Option.some Jvm.ClassFile.FieldType.int)) ∈ lw_all := lw_g (lw_at lw_m3 234 rfl) rfl
theorem q776 : (Jvm.Cond.instanceMethod ({ cls := "LaneCymbals", name := "lanes", desc := "()I" } : Jvm.MethodName)) ∈ lw_all := lw_g (lw_at lw_m3 236 rfl) rfl
theorem q777 : (Jvm.Cond.selects "LaneCymbals" ({ cls := "LaneCymbals", name := "lanes", desc := "()I" } : Jvm.MethodName) ({ cls := "LaneCymbals", name := "lanes", desc := "()I" } : Jvm.MethodName)) ∈ lw_all := lw_g (lw_at lw_m3 237 rfl) rfl
theorem q778 : (Jvm.Cond.code ({ cls := "LaneCymbals", name := "lanes", desc := "()I" } : Jvm.MethodName) prog_1_method_41_code (3 : Nat) (Option.some Jvm.ClassFile.FieldType.int)) ∈ lw_all := lw_g (lw_at lw_m3 238 rfl) rfl
theorem q779 : (Jvm.Cond.methodLink "LaneCymbals" (254 : Nat) ({ cls := "LaneCymbals", name := "isSo", desc := "(LLaneCymbals$State;I)Z" } : Jvm.MethodName)) ∈ lw_all := lw_g (lw_at lw_m3 239 rfl) rfl
theorem q780 : (Jvm.Cond.privateMethod ({ cls := "LaneCymbals", name := "isSo", desc := "(LLaneCymbals$State;I)Z" } : Jvm.MethodName)) ∈ lw_tbl := lw_at lw_m4 0 rfl
theorem q781 : (Jvm.Cond.instanceMethod ({ cls := "LaneCymbals", name := "isSo", desc := "(LLaneCymbals$State;I)Z" } : Jvm.MethodName)) ∈ lw_all := lw_g (lw_at lw_m4 1 rfl) rfl
theorem q782 : (Jvm.Cond.code ({ cls := "LaneCymbals", name := "isSo", desc := "(LLaneCymbals$State;I)Z" } : Jvm.MethodName) prog_1_method_40_code (5 : Nat) (Option.some Jvm.ClassFile.FieldType.boolean)) ∈ lw_all := lw_g (lw_at lw_m4 2 rfl) rfl
theorem q784 : (Jvm.Cond.instanceMethod ({ cls := "LaneCymbals", name := "swung", desc := "(I)I" } : Jvm.MethodName)) ∈ lw_all := lw_g (lw_at lw_m4 4 rfl) rfl
theorem q785 : (Jvm.Cond.selects "LaneCymbals" ({ cls := "LaneCymbals", name := "swung", desc := "(I)I" } : Jvm.MethodName) ({ cls := "LaneCymbals", name := "swung", desc := "(I)I" } : Jvm.MethodName)) ∈ lw_all := lw_g (lw_at lw_m4 5 rfl) rfl
theorem q786 : (Jvm.Cond.code ({ cls := "LaneCymbals", name := "swung", desc := "(I)I" } : Jvm.MethodName) prog_1_method_42_code (4 : Nat) (Option.some Jvm.ClassFile.FieldType.int)) ∈ lw_all := lw_g (lw_at lw_m4 6 rfl) rfl
theorem q788 : (Jvm.Cond.instanceMethod ({ cls := "LaneCymbals", name := "hear", desc := "()I" } : Jvm.MethodName)) ∈ lw_all := lw_g (lw_at lw_m4 8 rfl) rfl
theorem q789 : (Jvm.Cond.selects "LaneCymbals" ({ cls := "LaneCymbals", name := "hear", desc := "()I" } : Jvm.MethodName) ({ cls := "LaneCymbals", name := "hear", desc := "()I" } : Jvm.MethodName)) ∈ lw_all := lw_g (lw_at lw_m4 9 rfl) rfl
theorem q790 : (Jvm.Cond.code ({ cls := "LaneCymbals", name := "hear", desc := "()I" } : Jvm.MethodName) prog_1_method_43_code (8 : Nat) (Option.some Jvm.ClassFile.FieldType.int)) ∈ lw_all := lw_g (lw_at lw_m4 10 rfl) rfl
theorem q791 : (Jvm.Cond.methodLink "LaneCymbals" (258 : Nat) ({ cls := "LaneCymbals", name := "lanes", desc := "()I" } : Jvm.MethodName)) ∈ lw_all := lw_g (lw_at lw_m4 11 rfl) rfl
theorem q792 : (Jvm.Cond.constant "LaneCymbals" (261 : Nat) (1000000 : Int32)) ∈ lw_all := lw_g (lw_at lw_m4 12 rfl) rfl
theorem q793 : (Jvm.Cond.methodLink "LaneCymbals" (262 : Nat) ({ cls := "java/lang/Math", name := "max", desc := "(II)I" } : Jvm.MethodName)) ∈ lw_all := lw_g (lw_at lw_m4 13 rfl) rfl
theorem q796 : (Jvm.Cond.methodLink "LaneCymbals" (267 : Nat) ({ cls := "java/lang/Math", name := "min", desc := "(II)I" } : Jvm.MethodName)) ∈ lw_all := lw_g (lw_at lw_m4 16 rfl) rfl
theorem q798 : (Jvm.Cond.instanceMethod ({ cls := "LaneCymbals", name := "note", desc := "(IIII)I" } : Jvm.MethodName)) ∈ lw_all := lw_g (lw_at lw_m4 18 rfl) rfl
theorem q799 : (Jvm.Cond.selects "LaneCymbals" ({ cls := "LaneCymbals", name := "note", desc := "(IIII)I" } : Jvm.MethodName) ({ cls := "LaneCymbals", name := "note", desc := "(IIII)I" } : Jvm.MethodName)) ∈ lw_all := lw_g (lw_at lw_m4 19 rfl) rfl
theorem q800 : (Jvm.Cond.code ({ cls := "LaneCymbals", name := "note", desc := "(IIII)I" } : Jvm.MethodName) prog_1_method_44_code (6 : Nat) (Option.some Jvm.ClassFile.FieldType.int)) ∈ lw_all := lw_g (lw_at lw_m4 20 rfl) rfl
theorem q801 : (Jvm.Cond.methodLink "LaneCymbals" (270 : Nat) ({ cls := "LaneCymbals", name := "isLean", desc := "(I)Z" } : Jvm.MethodName)) ∈ lw_all := lw_g (lw_at lw_m4 21 rfl) rfl
theorem q802 : (Jvm.Cond.static ({ cls := "LaneCymbals", name := "isLean", desc := "(I)Z" } : Jvm.MethodName)) ∈ lw_all := lw_g (lw_at lw_m4 22 rfl) rfl
theorem q803 : (Jvm.Cond.code ({ cls := "LaneCymbals", name := "isLean", desc := "(I)Z" } : Jvm.MethodName) prog_1_method_13_code (1 : Nat) (Option.some Jvm.ClassFile.FieldType.boolean)) ∈ lw_all := lw_g (lw_at lw_m4 23 rfl) rfl
theorem q804 : (Jvm.Cond.constantLong "LaneCymbals" (83 : Nat) (-20 : Int64)) ∈ lw_all := lw_g (lw_at lw_m4 24 rfl) rfl
theorem q805 : (Jvm.Cond.constantLong "LaneCymbals" (85 : Nat) (20 : Int64)) ∈ lw_all := lw_g (lw_at lw_m4 25 rfl) rfl
theorem q807 : (Jvm.Cond.instanceMethod ({ cls := "LaneCymbals", name := "mark", desc := "(IIII)I" } : Jvm.MethodName)) ∈ lw_all := lw_g (lw_at lw_m4 27 rfl) rfl
theorem q808 : (Jvm.Cond.selects "LaneCymbals" ({ cls := "LaneCymbals", name := "mark", desc := "(IIII)I" } : Jvm.MethodName) ({ cls := "LaneCymbals", name := "mark", desc := "(IIII)I" } : Jvm.MethodName)) ∈ lw_all := lw_g (lw_at lw_m4 28 rfl) rfl
theorem q809 : (Jvm.Cond.code ({ cls := "LaneCymbals", name := "mark", desc := "(IIII)I" } : Jvm.MethodName) prog_1_method_45_code (6 : Nat) (Option.some Jvm.ClassFile.FieldType.int)) ∈ lw_all := lw_g (lw_at lw_m4 29 rfl) rfl
theorem q811 : (Jvm.Cond.instanceMethod ({ cls := "LaneCymbals", name := "forget", desc := "(I)I" } : Jvm.MethodName)) ∈ lw_all := lw_g (lw_at lw_m4 31 rfl) rfl
theorem q812 : (Jvm.Cond.selects "LaneCymbals" ({ cls := "LaneCymbals", name := "forget", desc := "(I)I" } : Jvm.MethodName) ({ cls := "LaneCymbals", name := "forget", desc := "(I)I" } : Jvm.MethodName)) ∈ lw_all := lw_g (lw_at lw_m4 32 rfl) rfl
theorem q813 : (Jvm.Cond.code ({ cls := "LaneCymbals", name := "forget", desc := "(I)I" } : Jvm.MethodName) prog_1_method_46_code (3 : Nat) (Option.some Jvm.ClassFile.FieldType.int)) ∈ lw_all := lw_g (lw_at lw_m4 33 rfl) rfl
theorem q815 : (Jvm.Cond.instanceMethod ({ cls := "LaneCymbals", name := "is", desc := "(I)I" } : Jvm.MethodName)) ∈ lw_all := lw_g (lw_at lw_m4 35 rfl) rfl
theorem q816 : (Jvm.Cond.selects "LaneCymbals" ({ cls := "LaneCymbals", name := "is", desc := "(I)I" } : Jvm.MethodName) ({ cls := "LaneCymbals", name := "is", desc := "(I)I" } : Jvm.MethodName)) ∈ lw_all := lw_g (lw_at lw_m4 36 rfl) rfl
theorem q817 : (Jvm.Cond.code ({ cls := "LaneCymbals", name := "is", desc := "(I)I" } : Jvm.MethodName) prog_1_method_48_code (2 : Nat) (Option.some Jvm.ClassFile.FieldType.int)) ∈ lw_all := lw_g (lw_at lw_m4 37 rfl) rfl
theorem q818 : (Jvm.Cond.methodLink "LaneCymbals" (290 : Nat) ({ cls := "LaneCymbals", name := "kinOf", desc := "(I)I" } : Jvm.MethodName)) ∈ lw_all := lw_g (lw_at lw_m4 38 rfl) rfl
theorem q819 : (Jvm.Cond.privateMethod ({ cls := "LaneCymbals", name := "kinOf", desc := "(I)I" } : Jvm.MethodName)) ∈ lw_tbl := lw_at lw_m4 39 rfl
theorem q820 : (Jvm.Cond.instanceMethod ({ cls := "LaneCymbals", name := "kinOf", desc := "(I)I" } : Jvm.MethodName)) ∈ lw_all := lw_g (lw_at lw_m4 40 rfl) rfl
theorem q821 : (Jvm.Cond.code ({ cls := "LaneCymbals", name := "kinOf", desc := "(I)I" } : Jvm.MethodName) prog_1_method_47_code (8 : Nat) (Option.some Jvm.ClassFile.FieldType.int)) ∈ lw_all := lw_g (lw_at lw_m4 41 rfl) rfl
theorem q822 : (Jvm.Cond.fieldLink "LaneCymbals" (285 : Nat) "LaneCymbals" "KIN" "[LLaneCymbals$One;") ∈ lw_all := lw_g (lw_at lw_m4 42 rfl) rfl
theorem q823 : (Jvm.Cond.methodLink "LaneCymbals" (288 : Nat) ({ cls := "LaneCymbals$One", name := "leans", desc := "(II)I" } : Jvm.MethodName)) ∈ lw_all := lw_g (lw_at lw_m4 43 rfl) rfl
theorem q825 : (Jvm.Cond.instanceMethod ({ cls := "LaneCymbals", name := "look", desc := "(I)I" } : Jvm.MethodName)) ∈ lw_all := lw_g (lw_at lw_m4 45 rfl) rfl
theorem q826 : (Jvm.Cond.selects "LaneCymbals" ({ cls := "LaneCymbals", name := "look", desc := "(I)I" } : Jvm.MethodName) ({ cls := "LaneCymbals", name := "look", desc := "(I)I" } : Jvm.MethodName)) ∈ lw_all := lw_g (lw_at lw_m4 46 rfl) rfl
theorem q827 : (Jvm.Cond.code ({ cls := "LaneCymbals", name := "look", desc := "(I)I" } : Jvm.MethodName) prog_1_method_49_code (11 : Nat) (Option.some Jvm.ClassFile.FieldType.int)) ∈ lw_all := lw_g (lw_at lw_m4 47 rfl) rfl
theorem q829 : (Jvm.Cond.instanceMethod ({ cls := "LaneCymbals", name := "kinds", desc := "(I)I" } : Jvm.MethodName)) ∈ lw_all := lw_g (lw_at lw_m4 49 rfl) rfl
theorem q830 : (Jvm.Cond.selects "LaneCymbals" ({ cls := "LaneCymbals", name := "kinds", desc := "(I)I" } : Jvm.MethodName) ({ cls := "LaneCymbals", name := "kinds", desc := "(I)I" } : Jvm.MethodName)) ∈ lw_all := lw_g (lw_at lw_m4 50 rfl) rfl
theorem q831 : (Jvm.Cond.code ({ cls := "LaneCymbals", name := "kinds", desc := "(I)I" } : Jvm.MethodName) prog_1_method_51_code (2 : Nat) (Option.some Jvm.ClassFile.FieldType.int)) ∈ lw_all := lw_g (lw_at lw_m4 51 rfl) rfl
theorem q832 : (Jvm.Cond.methodLink "LaneCymbals" (299 : Nat) ({ cls := "LaneCymbals", name := "dampersOf", desc := "(I)I" } : Jvm.MethodName)) ∈ lw_all := lw_g (lw_at lw_m4 52 rfl) rfl
theorem q833 : (Jvm.Cond.privateMethod ({ cls := "LaneCymbals", name := "dampersOf", desc := "(I)I" } : Jvm.MethodName)) ∈ lw_tbl := lw_at lw_m4 53 rfl
theorem q834 : (Jvm.Cond.instanceMethod ({ cls := "LaneCymbals", name := "dampersOf", desc := "(I)I" } : Jvm.MethodName)) ∈ lw_all := lw_g (lw_at lw_m4 54 rfl) rfl
theorem q835 : (Jvm.Cond.code ({ cls := "LaneCymbals", name := "dampersOf", desc := "(I)I" } : Jvm.MethodName) prog_1_method_50_code (8 : Nat) (Option.some Jvm.ClassFile.FieldType.int)) ∈ lw_all := lw_g (lw_at lw_m4 55 rfl) rfl
theorem q836 : (Jvm.Cond.fieldLink "LaneCymbals" (293 : Nat) "LaneCymbals" "DAMPERS" "[LLaneCymbals$Aunt;") ∈ lw_all := lw_g (lw_at lw_m4 56 rfl) rfl
theorem q837 : (Jvm.Cond.methodLink "LaneCymbals" (296 : Nat) ({ cls := "LaneCymbals$Aunt", name := "damps", desc := "(II)I" } : Jvm.MethodName)) ∈ lw_all := lw_g (lw_at lw_m4 57 rfl) rfl
theorem q839 : (Jvm.Cond.instanceMethod ({ cls := "LaneCymbals", name := "ask", desc := "(I)I" } : Jvm.MethodName)) ∈ lw_all := lw_g (lw_at lw_m4 59 rfl) rfl
theorem q840 : (Jvm.Cond.selects "LaneCymbals" ({ cls := "LaneCymbals", name := "ask", desc := "(I)I" } : Jvm.MethodName) ({ cls := "LaneCymbals", name := "ask", desc := "(I)I" } : Jvm.MethodName)) ∈ lw_all := lw_g (lw_at lw_m4 60 rfl) rfl
theorem q841 : (Jvm.Cond.code ({ cls := "LaneCymbals", name := "ask", desc := "(I)I" } : Jvm.MethodName) prog_1_method_53_code (7 : Nat) (Option.some Jvm.ClassFile.FieldType.int)) ∈ lw_all := lw_g (lw_at lw_m4 61 rfl) rfl
theorem q842 : (Jvm.Cond.methodLink "LaneCymbals" (302 : Nat) ({ cls := "LaneCymbals", name := "leaveAlike", desc := "(II)I" } : Jvm.MethodName)) ∈ lw_all := lw_g (lw_at lw_m4 62 rfl) rfl
theorem q843 : (Jvm.Cond.static ({ cls := "LaneCymbals", name := "leaveAlike", desc := "(II)I" } : Jvm.MethodName)) ∈ lw_all := lw_g (lw_at lw_m4 63 rfl) rfl
theorem q844 : (Jvm.Cond.code ({ cls := "LaneCymbals", name := "leaveAlike", desc := "(II)I" } : Jvm.MethodName) prog_1_method_52_code (7 : Nat) (Option.some Jvm.ClassFile.FieldType.int)) ∈ lw_all := lw_g (lw_at lw_m4 64 rfl) rfl
theorem q846 : (Jvm.Cond.instanceMethod ({ cls := "LaneCymbals", name := "game", desc := "(IIII)I" } : Jvm.MethodName)) ∈ lw_all := lw_g (lw_at lw_m4 66 rfl) rfl
theorem q847 : (Jvm.Cond.selects "LaneCymbals" ({ cls := "LaneCymbals", name := "game", desc := "(IIII)I" } : Jvm.MethodName) ({ cls := "LaneCymbals", name := "game", desc := "(IIII)I" } : Jvm.MethodName)) ∈ lw_all := lw_g (lw_at lw_m4 67 rfl) rfl
theorem q848 : (Jvm.Cond.code ({ cls := "LaneCymbals", name := "game", desc := "(IIII)I" } : Jvm.MethodName) prog_1_method_54_code (8 : Nat) (Option.some Jvm.ClassFile.FieldType.int)) ∈ lw_all := lw_g (lw_at lw_m4 68 rfl) rfl
theorem q849 : (Jvm.Cond.methodLink "LaneCymbals" (305 : Nat) ({ cls := "LaneCymbals", name := "rests", desc := "(I)Z" } : Jvm.MethodName)) ∈ lw_all := lw_g (lw_at lw_m4 69 rfl) rfl
theorem q850 : (Jvm.Cond.privateMethod ({ cls := "LaneCymbals", name := "rests", desc := "(I)Z" } : Jvm.MethodName)) ∈ lw_tbl := lw_at lw_m4 70 rfl
theorem q851 : (Jvm.Cond.instanceMethod ({ cls := "LaneCymbals", name := "rests", desc := "(I)Z" } : Jvm.MethodName)) ∈ lw_all := lw_g (lw_at lw_m4 71 rfl) rfl
theorem q852 : (Jvm.Cond.code ({ cls := "LaneCymbals", name := "rests", desc := "(I)Z" } : Jvm.MethodName) prog_1_method_55_code (6 : Nat) (Option.some Jvm.ClassFile.FieldType.boolean)) ∈ lw_all := lw_g (lw_at lw_m4 72 rfl) rfl
theorem q854 : (Jvm.Cond.instanceMethod ({ cls := "LaneCymbals", name := "slips", desc := "(II)I" } : Jvm.MethodName)) ∈ lw_all := lw_g (lw_at lw_m4 74 rfl) rfl
theorem q855 : (Jvm.Cond.selects "LaneCymbals" ({ cls := "LaneCymbals", name := "slips", desc := "(II)I" } : Jvm.MethodName) ({ cls := "LaneCymbals", name := "slips", desc := "(II)I" } : Jvm.MethodName)) ∈ lw_all := lw_g (lw_at lw_m4 75 rfl) rfl
theorem q856 : (Jvm.Cond.code ({ cls := "LaneCymbals", name := "slips", desc := "(II)I" } : Jvm.MethodName) prog_1_method_57_code (12 : Nat) (Option.some Jvm.ClassFile.FieldType.int)) ∈ lw_all := lw_g (lw_at lw_m4 76 rfl) rfl
theorem q857 : (Jvm.Cond.constantLong "LaneCymbals" (308 : Nat) (10 : Int64)) ∈ lw_all := lw_g (lw_at lw_m4 77 rfl) rfl
theorem q858 : (Jvm.Cond.methodLink "LaneCymbals" (310 : Nat) ({ cls := "LaneCymbals", name := "divisor", desc := "(JJ)J" } : Jvm.MethodName)) ∈ lw_all := lw_g (lw_at lw_m4 78 rfl) rfl
theorem q859 : (Jvm.Cond.static ({ cls := "LaneCymbals", name := "divisor", desc := "(JJ)J" } : Jvm.MethodName)) ∈ lw_all := lw_g (lw_at lw_m4 79 rfl) rfl
theorem q860 : (Jvm.Cond.code ({ cls := "LaneCymbals", name := "divisor", desc := "(JJ)J" } : Jvm.MethodName) prog_1_method_56_code (10 : Nat) (Option.some Jvm.ClassFile.FieldType.long)) ∈ lw_all := lw_g (lw_at lw_m4 80 rfl) rfl
theorem q862 : (Jvm.Cond.instanceMethod ({ cls := "LaneCymbals", name := "reigns", desc := "(II)I" } : Jvm.MethodName)) ∈ lw_all := lw_g (lw_at lw_m4 82 rfl) rfl
theorem q863 : (Jvm.Cond.selects "LaneCymbals" ({ cls := "LaneCymbals", name := "reigns", desc := "(II)I" } : Jvm.MethodName) ({ cls := "LaneCymbals", name := "reigns", desc := "(II)I" } : Jvm.MethodName)) ∈ lw_all := lw_g (lw_at lw_m4 83 rfl) rfl
theorem q864 : (Jvm.Cond.code ({ cls := "LaneCymbals", name := "reigns", desc := "(II)I" } : Jvm.MethodName) prog_1_method_58_code (8 : Nat) (Option.some Jvm.ClassFile.FieldType.int)) ∈ lw_all := lw_g (lw_at lw_m4 84 rfl) rfl
theorem q865 : (Jvm.Cond.constantLong "LaneCymbals" (317 : Nat) (999999 : Int64)) ∈ lw_all := lw_g (lw_at lw_m4 85 rfl) rfl
theorem q866 : (Jvm.Cond.constantLong "LaneCymbals" (319 : Nat) (1103515245 : Int64)) ∈ lw_all := lw_g (lw_at lw_m4 86 rfl) rfl
theorem q867 : (Jvm.Cond.constantLong "LaneCymbals" (321 : Nat) (12345 : Int64)) ∈ lw_all := lw_g (lw_at lw_m4 87 rfl) rfl
theorem q868 : (Jvm.Cond.constantLong "LaneCymbals" (323 : Nat) (2147483648 : Int64)) ∈ lw_all := lw_g (lw_at lw_m4 88 rfl) rfl
theorem q869 : (Jvm.Cond.constantLong "LaneCymbals" (325 : Nat) (65536 : Int64)) ∈ lw_all := lw_g (lw_at lw_m4 89 rfl) rfl
theorem q870 : (Jvm.Cond.constantLong "LaneCymbals" (327 : Nat) (7 : Int64)) ∈ lw_all := lw_g (lw_at lw_m4 90 rfl) rfl
theorem q871 : (Jvm.Cond.constantLong "LaneCymbals" (329 : Nat) (1048576 : Int64)) ∈ lw_all := lw_g (lw_at lw_m4 91 rfl) rfl
theorem q873 : (Jvm.Cond.instanceMethod ({ cls := "LaneCymbals", name := "part", desc := "(I)J" } : Jvm.MethodName)) ∈ lw_all := lw_g (lw_at lw_m4 93 rfl) rfl
theorem q874 : (Jvm.Cond.selects "LaneCymbals" ({ cls := "LaneCymbals", name := "part", desc := "(I)J" } : Jvm.MethodName) ({ cls := "LaneCymbals", name := "part", desc := "(I)J" } : Jvm.MethodName)) ∈ lw_all := lw_g (lw_at lw_m4 94 rfl) rfl
theorem q875 : (Jvm.Cond.code ({ cls := "LaneCymbals", name := "part", desc := "(I)J" } : Jvm.MethodName) prog_1_method_59_code (2 : Nat) (Option.some Jvm.ClassFile.FieldType.long)) ∈ lw_all := lw_g (lw_at lw_m4 95 rfl) rfl
theorem q877 : (Jvm.Cond.instanceMethod ({ cls := "LaneCymbals", name := "image", desc := "(I)I" } : Jvm.MethodName)) ∈ lw_all := lw_g (lw_at lw_m4 97 rfl) rfl
theorem q878 : (Jvm.Cond.selects "LaneCymbals" ({ cls := "LaneCymbals", name := "image", desc := "(I)I" } : Jvm.MethodName) ({ cls := "LaneCymbals", name := "image", desc := "(I)I" } : Jvm.MethodName)) ∈ lw_all := lw_g (lw_at lw_m4 98 rfl) rfl
theorem q879 : (Jvm.Cond.code ({ cls := "LaneCymbals", name := "image", desc := "(I)I" } : Jvm.MethodName) prog_1_method_60_code (2 : Nat) (Option.some Jvm.ClassFile.FieldType.int)) ∈ lw_all := lw_g (lw_at lw_m4 99 rfl) rfl
theorem q881 : (Jvm.Cond.instanceMethod ({ cls := "LaneCymbals", name := "from", desc := "(I)I" } : Jvm.MethodName)) ∈ lw_all := lw_g (lw_at lw_m4 101 rfl) rfl
theorem q882 : (Jvm.Cond.selects "LaneCymbals" ({ cls := "LaneCymbals", name := "from", desc := "(I)I" } : Jvm.MethodName) ({ cls := "LaneCymbals", name := "from", desc := "(I)I" } : Jvm.MethodName)) ∈ lw_all := lw_g (lw_at lw_m4 102 rfl) rfl
theorem q883 : (Jvm.Cond.code ({ cls := "LaneCymbals", name := "from", desc := "(I)I" } : Jvm.MethodName) prog_1_method_61_code (2 : Nat) (Option.some Jvm.ClassFile.FieldType.int)) ∈ lw_all := lw_g (lw_at lw_m4 103 rfl) rfl
theorem q885 : (Jvm.Cond.instanceMethod ({ cls := "LaneCymbals", name := "status", desc := "(I)I" } : Jvm.MethodName)) ∈ lw_all := lw_g (lw_at lw_m4 105 rfl) rfl
theorem q886 : (Jvm.Cond.selects "LaneCymbals" ({ cls := "LaneCymbals", name := "status", desc := "(I)I" } : Jvm.MethodName) ({ cls := "LaneCymbals", name := "status", desc := "(I)I" } : Jvm.MethodName)) ∈ lw_all := lw_g (lw_at lw_m4 106 rfl) rfl
theorem q887 : (Jvm.Cond.code ({ cls := "LaneCymbals", name := "status", desc := "(I)I" } : Jvm.MethodName) prog_1_method_62_code (2 : Nat) (Option.some Jvm.ClassFile.FieldType.int)) ∈ lw_all := lw_g (lw_at lw_m4 107 rfl) rfl
theorem q889 : (Jvm.Cond.instanceMethod ({ cls := "LaneCymbals", name := "count", desc := "(I)I" } : Jvm.MethodName)) ∈ lw_all := lw_g (lw_at lw_m4 109 rfl) rfl
theorem q890 : (Jvm.Cond.selects "LaneCymbals" ({ cls := "LaneCymbals", name := "count", desc := "(I)I" } : Jvm.MethodName) ({ cls := "LaneCymbals", name := "count", desc := "(I)I" } : Jvm.MethodName)) ∈ lw_all := lw_g (lw_at lw_m4 110 rfl) rfl
theorem q891 : (Jvm.Cond.code ({ cls := "LaneCymbals", name := "count", desc := "(I)I" } : Jvm.MethodName) prog_1_method_64_code (2 : Nat) (Option.some Jvm.ClassFile.FieldType.int)) ∈ lw_all := lw_g (lw_at lw_m4 111 rfl) rfl
theorem q892 : (Jvm.Cond.methodLink "LaneCymbals" (331 : Nat) ({ cls := "LaneCymbals", name := "countOf", desc := "(I)I" } : Jvm.MethodName)) ∈ lw_all := lw_g (lw_at lw_m4 112 rfl) rfl
theorem q893 : (Jvm.Cond.privateMethod ({ cls := "LaneCymbals", name := "countOf", desc := "(I)I" } : Jvm.MethodName)) ∈ lw_tbl := lw_at lw_m4 113 rfl
theorem q894 : (Jvm.Cond.instanceMethod ({ cls := "LaneCymbals", name := "countOf", desc := "(I)I" } : Jvm.MethodName)) ∈ lw_all := lw_g (lw_at lw_m4 114 rfl) rfl
theorem q895 : (Jvm.Cond.code ({ cls := "LaneCymbals", name := "countOf", desc := "(I)I" } : Jvm.MethodName) prog_1_method_63_code (2 : Nat) (Option.some Jvm.ClassFile.FieldType.int)) ∈ lw_all := lw_g (lw_at lw_m4 115 rfl) rfl
theorem q897 : (Jvm.Cond.instanceMethod ({ cls := "LaneCymbals", name := "digest", desc := "()J" } : Jvm.MethodName)) ∈ lw_all := lw_g (lw_at lw_m4 117 rfl) rfl
theorem q898 : (Jvm.Cond.selects "LaneCymbals" ({ cls := "LaneCymbals", name := "digest", desc := "()J" } : Jvm.MethodName) ({ cls := "LaneCymbals", name := "digest", desc := "()J" } : Jvm.MethodName)) ∈ lw_all := lw_g (lw_at lw_m4 118 rfl) rfl
theorem q899 : (Jvm.Cond.code ({ cls := "LaneCymbals", name := "digest", desc := "()J" } : Jvm.MethodName) prog_1_method_65_code (4 : Nat) (Option.some Jvm.ClassFile.FieldType.long)) ∈ lw_all := lw_g (lw_at lw_m4 119 rfl) rfl
theorem q900 : (Jvm.Cond.constantLong "LaneCymbals" (334 : Nat) (1559 : Int64)) ∈ lw_all := lw_g (lw_at lw_m4 120 rfl) rfl
theorem q901 : (Jvm.Cond.constantLong "LaneCymbals" (336 : Nat) (31 : Int64)) ∈ lw_all := lw_g (lw_at lw_m4 121 rfl) rfl
theorem in_X0 : ∀ w ∈ wsX00, w ∈ lw_all := lw_in wsX00 [266, 268, 270, 272, 274, 276, 278, 280, 282, 284, 286, 288] (by decide +kernel) (by decide +kernel)
